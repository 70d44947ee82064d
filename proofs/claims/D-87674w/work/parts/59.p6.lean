set_option maxRecDepth 100000
/-! ===== RIPEMD-160: blocks ===== -/
abbrev h5 : Type := Int32 × Int32 × Int32 × Int32 × Int32
def rStep (w : Nat → Int32) (l : Bool) (k : Nat) (x : h5) : h5 :=
  (x.2.2.2.2, (hL ((((x.1) + (hMix (match l with | true => k / 16 | false => 4 - (k / 16)) x.2.1 x.2.2.1 x.2.2.2.1)) + (w ((rO l).getD k 0))) + (rK l (k / 16))) (Int32.ofNat ((rT l).getD k 0))) + x.2.2.2.2, x.2.1, hL x.2.2.1 10, x.2.2.2.1)
def rIt (w : Nat → Int32) (l : Bool) (x : h5) : Nat → h5
  | 0 => x
  | k + 1 => rStep w l k (rIt w l x k)
def h5of (s : Nat → Int32) : h5 := (s 0, s 1, s 2, s 3, s 4)
def gR6 (S : zS) (k : Nat) : zS := sA (sA (sA (sA (sA S 6 0 (gA S 6 4)) 6 4 (gA S 6 3)) 6 3 (hL (gA S 6 2) 10)) 6 2 (gA S 6 1)) 6 1 (q51l_e2 S k)
def gR7 (S : zS) (k : Nat) : zS := sA (sA (sA (sA (sA S 7 0 (gA S 7 4)) 7 4 (gA S 7 3)) 7 3 (hL (gA S 7 2) 10)) 7 2 (gA S 7 1)) 7 1 (q51r_e2 S k)
theorem gR6_lit {S : zS} (h : zLits S) (k : Nat) : zLits (gR6 S k) := ((((h.sA (by decide)).sA (by decide)).sA (by decide)).sA (by decide)).sA (by decide)
def rW (B : Nat → Int32) (k : Nat) : Int32 := ((B (4 * k) ||| ((B ((4 * k) + 1)) <<< (8 &&& 31))) ||| ((B ((4 * k) + 2)) <<< (16 &&& 31))) ||| ((B ((4 * k) + 3)) <<< (24 &&& 31))
def rEnd (s : Nat → Int32) (x y : h5) (j : Nat) : Int32 := match j with
  | 0 => (s 1 + x.2.2.1) + y.2.2.2.1
  | 1 => (s 2 + x.2.2.2.1) + y.2.2.2.2
  | 2 => (s 3 + x.2.2.2.2) + y.1
  | 3 => (s 4 + x.1) + y.2.1
  | 4 => (s 0 + x.2.1) + y.2.2.1
  | j => s j
def rBlk (B s : Nat → Int32) : Nat → Int32 := rEnd s (rIt (rW B) true (h5of s) 80) (rIt (rW B) false (h5of s) 80)
theorem q50 {d : Nat} {S : zS} (hF : zFin true S)  {post : Outcome × zS → Prop} (h1 : zEv d 50 2 [.ref 1, .int (Int32.ofNat 0)] [] S post) : zCall d 50 [.ref 1] S post := by
  have ht : ztab 50 = ztb50 := rfl
  show zEv d 50 0 [.ref 1, .retAddr 0] [] S post
  refine zv_c1 ht rfl rfl ?_
  refine zv_c2 (L' := [.ref 1, .int 0]) ht rfl rfl ?_
  exact h1

def q50a_e1 (S : zS) (k : Nat) : Int32 := ((((gA S 8 (4 * k)) &&& (255 : Int32)) ||| (((gA S 8 ((4 * k) + 1)) &&& (255 : Int32)) <<< (8 &&& 31) : Int32)) ||| (((gA S 8 ((4 * k) + 2)) &&& (255 : Int32)) <<< (16 &&& 31) : Int32)) ||| (((gA S 8 ((4 * k) + 3)) &&& (255 : Int32)) <<< (24 &&& 31) : Int32)
theorem q50a {d : Nat} {S : zS} (hF : zFin true S) (k : Nat) (hk : k ≤ 16) {post : Outcome × zS → Prop} (h1 : (16 ≤ k) → zEv d 50 88 [.ref 1, .int (Int32.ofNat 0)] [] S post) (h2 : (¬ (16 ≤ k)) → zEv d 50 2 [.ref 1, .int (Int32.ofNat (k + 1))] [] (sA S 5 k (q50a_e1 S k)) post) : zEv d 50 2 [.ref 1, .int (Int32.ofNat k)] [] S post := by
  have ht : ztab 50 = ztb50 := rfl
  skip
  refine zv_c1 ht rfl rfl (zv_c1 ht rfl rfl ?_)
  refine zv_br ht rfl rfl rfl (fun b1 => ?_) (fun b1 => ?_)
  · replace b1 : 16 ≤ k := (zi_leE (a := 16) (b := k) rfl rfl (by omega) (by omega)).mp b1
    refine zv_c1 ht rfl rfl ?_
    refine zv_c2 (L' := [.ref 1, .int 0]) ht rfl rfl ?_
    exact (h1 b1)
  · replace b1 : ¬ (16 ≤ k) := fun h => b1 ((zi_leE (a := 16) (b := k) rfl rfl (by omega) (by omega)).mpr h)
    refine zv_c1 ht rfl rfl ?_
    refine zv_gl (st' := [.ref 5]) ht rfl hF rfl rfl rfl ?_
    refine zv_c1 ht rfl rfl (zv_c1 ht rfl rfl ?_)
    refine zv_gl (st' := [.ref 8, .int (Int32.ofNat k), .ref 5]) ht rfl hF rfl rfl rfl ?_
    refine zv_c1 ht rfl rfl (zv_c1 ht rfl rfl ?_)
    refine zv_e1 (x := Int32.ofNat (4 * k)) ht rfl rfl (zi_mulE rfl rfl) ?_
    refine zv_ba (j := (4 * k)) ht rfl rfl rfl rfl (zi_natE (a := (4 * k)) rfl (by omega)) ⟨(Or.inl rfl), zi_inE (a := (4 * k)) (n := 64) rfl (by omega) (by omega)⟩ ?_
    refine zv_c1 ht rfl rfl (zv_c1 ht rfl rfl (zv_c1 ht rfl rfl ?_))
    refine zv_gl (st' := [.ref 8, .int ((gA S 8 (4 * k)) &&& (255 : Int32)), .int (Int32.ofNat k), .ref 5]) ht rfl hF rfl rfl rfl ?_
    refine zv_c1 ht rfl rfl (zv_c1 ht rfl rfl ?_)
    refine zv_e1 (x := Int32.ofNat (4 * k)) ht rfl rfl (zi_mulE rfl rfl) ?_
    refine zv_c1 ht rfl rfl ?_
    refine zv_e1 (x := Int32.ofNat ((4 * k) + 1)) ht rfl rfl (zi_addE rfl rfl) ?_
    refine zv_ba (j := ((4 * k) + 1)) ht rfl rfl rfl rfl (zi_natE (a := ((4 * k) + 1)) rfl (by omega)) ⟨(Or.inl rfl), zi_inE (a := ((4 * k) + 1)) (n := 64) rfl (by omega) (by omega)⟩ ?_
    refine zv_c1 ht rfl rfl (zv_c1 ht rfl rfl (zv_c1 ht rfl rfl (zv_c1 ht rfl rfl (zv_c1 ht rfl rfl (zv_c1 ht rfl rfl ?_)))))
    refine zv_gl (st' := [.ref 8, .int (((gA S 8 (4 * k)) &&& (255 : Int32)) ||| (((gA S 8 ((4 * k) + 1)) &&& (255 : Int32)) <<< (8 &&& 31) : Int32)), .int (Int32.ofNat k), .ref 5]) ht rfl hF rfl rfl rfl ?_
    refine zv_c1 ht rfl rfl (zv_c1 ht rfl rfl ?_)
    refine zv_e1 (x := Int32.ofNat (4 * k)) ht rfl rfl (zi_mulE rfl rfl) ?_
    refine zv_c1 ht rfl rfl ?_
    refine zv_e1 (x := Int32.ofNat ((4 * k) + 2)) ht rfl rfl (zi_addE rfl rfl) ?_
    refine zv_ba (j := ((4 * k) + 2)) ht rfl rfl rfl rfl (zi_natE (a := ((4 * k) + 2)) rfl (by omega)) ⟨(Or.inl rfl), zi_inE (a := ((4 * k) + 2)) (n := 64) rfl (by omega) (by omega)⟩ ?_
    refine zv_c1 ht rfl rfl (zv_c1 ht rfl rfl (zv_c1 ht rfl rfl (zv_c1 ht rfl rfl (zv_c1 ht rfl rfl (zv_c1 ht rfl rfl ?_)))))
    refine zv_gl (st' := [.ref 8, .int ((((gA S 8 (4 * k)) &&& (255 : Int32)) ||| (((gA S 8 ((4 * k) + 1)) &&& (255 : Int32)) <<< (8 &&& 31) : Int32)) ||| (((gA S 8 ((4 * k) + 2)) &&& (255 : Int32)) <<< (16 &&& 31) : Int32)), .int (Int32.ofNat k), .ref 5]) ht rfl hF rfl rfl rfl ?_
    refine zv_c1 ht rfl rfl (zv_c1 ht rfl rfl ?_)
    refine zv_e1 (x := Int32.ofNat (4 * k)) ht rfl rfl (zi_mulE rfl rfl) ?_
    refine zv_c1 ht rfl rfl ?_
    refine zv_e1 (x := Int32.ofNat ((4 * k) + 3)) ht rfl rfl (zi_addE rfl rfl) ?_
    refine zv_ba (j := ((4 * k) + 3)) ht rfl rfl rfl rfl (zi_natE (a := ((4 * k) + 3)) rfl (by omega)) ⟨(Or.inl rfl), zi_inE (a := ((4 * k) + 3)) (n := 64) rfl (by omega) (by omega)⟩ ?_
    refine zv_c1 ht rfl rfl (zv_c1 ht rfl rfl (zv_c1 ht rfl rfl (zv_c1 ht rfl rfl (zv_c1 ht rfl rfl ?_))))
    refine zv_is (j := k) (x := q50a_e1 S k) ht rfl rfl rfl rfl (zi_natE (a := k) rfl (by omega)) ⟨rfl, zi_inE (a := k) (n := 64) rfl (by omega) (by omega)⟩ ?_
    refine zv_c2 (L' := [.ref 1, .int ((Int32.ofNat k) + 1)]) ht rfl rfl ?_
    refine zv_c1 ht rfl rfl ?_
    exact (Eq.mpr (congrArg (fun zz => zEv d 50 2 [.ref 1, .int zz] [] (sA S 5 k (q50a_e1 S k)) post) ((zi_addE rfl rfl) : (Int32.ofNat k) + 1 = Int32.ofNat (k + 1))) (h2 b1))

theorem q50b {d : Nat} {S : zS} (hF : zFin true S) (k : Nat) (hk : k ≤ 5) {post : Outcome × zS → Prop} (h1 : (5 ≤ k) → zEv d 50 125 [.ref 1, .int (Int32.ofNat 0)] [] S post) (h2 : (¬ (5 ≤ k)) → zEv d 50 88 [.ref 1, .int (Int32.ofNat (k + 1))] [] (sA (sA S 6 k (gA S 4 k)) 7 k (gA S 4 k)) post) : zEv d 50 88 [.ref 1, .int (Int32.ofNat k)] [] S post := by
  have ht : ztab 50 = ztb50 := rfl
  skip
  refine zv_c1 ht rfl rfl (zv_c1 ht rfl rfl ?_)
  refine zv_br ht rfl rfl rfl (fun b1 => ?_) (fun b1 => ?_)
  · replace b1 : 5 ≤ k := (zi_leE (a := 5) (b := k) rfl rfl (by omega) (by omega)).mp b1
    refine zv_c1 ht rfl rfl ?_
    refine zv_c2 (L' := [.ref 1, .int 0]) ht rfl rfl ?_
    exact (h1 b1)
  · replace b1 : ¬ (5 ≤ k) := fun h => b1 ((zi_leE (a := 5) (b := k) rfl rfl (by omega) (by omega)).mpr h)
    refine zv_c1 ht rfl rfl ?_
    refine zv_gl (st' := [.ref 6]) ht rfl hF rfl rfl rfl ?_
    refine zv_c1 ht rfl rfl (zv_c1 ht rfl rfl ?_)
    refine zv_gl (st' := [.ref 4, .int (Int32.ofNat k), .ref 6]) ht rfl hF rfl rfl rfl ?_
    refine zv_c1 ht rfl rfl ?_
    refine zv_ia (j := k) ht rfl rfl rfl rfl (zi_natE (a := k) rfl (by omega)) ⟨(Or.inl rfl), zi_inE (a := k) (n := 8) rfl (by omega) (by omega)⟩ ?_
    refine zv_is (j := k) (x := gA S 4 k) ht rfl rfl rfl rfl (zi_natE (a := k) rfl (by omega)) ⟨rfl, zi_inE (a := k) (n := 5) rfl (by omega) (by omega)⟩ ?_
    refine zv_c1 ht rfl rfl ?_
    refine zv_gl (st' := [.ref 7]) ht rfl hF rfl rfl rfl ?_
    refine zv_c1 ht rfl rfl (zv_c1 ht rfl rfl ?_)
    refine zv_gl (st' := [.ref 4, .int (Int32.ofNat k), .ref 7]) ht rfl hF rfl rfl rfl ?_
    refine zv_c1 ht rfl rfl ?_
    refine zv_ia (j := k) ht rfl rfl rfl rfl (zi_natE (a := k) rfl (by omega)) ⟨(Or.inl rfl), zi_inE (a := k) (n := 8) rfl (by omega) (by omega)⟩ ?_
    show zEv d 50 116 [.ref 1, .int (Int32.ofNat k)] [.int (gA S 4 k), .int (Int32.ofNat k), .ref 7] (sA S 6 k (gA S 4 k)) post
    refine zv_is (j := k) (x := gA S 4 k) ht rfl rfl rfl rfl (zi_natE (a := k) rfl (by omega)) ⟨rfl, zi_inE (a := k) (n := 5) rfl (by omega) (by omega)⟩ ?_
    refine zv_c2 (L' := [.ref 1, .int ((Int32.ofNat k) + 1)]) ht rfl rfl ?_
    refine zv_c1 ht rfl rfl ?_
    exact (Eq.mpr (congrArg (fun zz => zEv d 50 88 [.ref 1, .int zz] [] (sA (sA S 6 k (gA S 4 k)) 7 k (gA S 4 k)) post) ((zi_addE rfl rfl) : (Int32.ofNat k) + 1 = Int32.ofNat (k + 1))) (h2 b1))

theorem q50c {d : Nat} {S : zS} (hF : zFin true S) (hd : 6 ≤ d) (k : Nat) (hk0 : k ≤ 80) (hLt : zLits S) (hk : k < 80) {post : Outcome × zS → Prop} (h1 : zEv d 50 125 [.ref 1, .int (Int32.ofNat (k + 1))] [] (gR7 (gR6 S k) k) post) : zEv d 50 125 [.ref 1, .int (Int32.ofNat k)] [] S post := by
  have ht : ztab 50 = ztb50 := rfl
  skip
  refine zv_c1 ht rfl rfl (zv_c1 ht rfl rfl ?_)
  refine zv_br ht rfl rfl rfl (fun b1 => ?_) (fun b1 => ?_)
  · replace b1 : 80 ≤ k := (zi_leE (a := 80) (b := k) rfl rfl (by omega) (by omega)).mp b1
    exact (by omega : False).elim
  · replace b1 : ¬ (80 ≤ k) := fun h => b1 ((zi_leE (a := 80) (b := k) rfl rfl (by omega) (by omega)).mpr h)
    refine zv_c1 ht rfl rfl (zv_c1 ht rfl rfl ?_)
    refine zv_gl (st' := [.ref 6, .ref 1]) ht rfl hF rfl rfl rfl ?_
    refine zv_c1 ht rfl rfl (zv_c1 ht rfl rfl ?_)
    refine zv_cl ht rfl rfl rfl rfl (by omega) (Nat.le_of_ble_eq_true rfl) (q51l (S := S) hF (by omega) k hk hLt (rO_lt _ hk) ?_)
    show zEv d 50 141 [.ref 1, .int (Int32.ofNat k)] [] (gR6 S k) post
    refine zv_c1 ht rfl rfl (zv_c1 ht rfl rfl ?_)
    refine zv_gl (st' := [.ref 7, .ref 1]) ht rfl hF rfl rfl rfl ?_
    refine zv_c1 ht rfl rfl (zv_c1 ht rfl rfl ?_)
    refine zv_cl ht rfl rfl rfl rfl (by omega) (Nat.le_of_ble_eq_true rfl) (q51r (S := gR6 S k) hF (by omega) k hk (gR6_lit hLt k) (rO_lt _ hk) ?_)
    show zEv d 50 151 [.ref 1, .int (Int32.ofNat k)] [] (gR7 (gR6 S k) k) post
    refine zv_c2 (L' := [.ref 1, .int ((Int32.ofNat k) + 1)]) ht rfl rfl ?_
    refine zv_c1 ht rfl rfl ?_
    exact (Eq.mpr (congrArg (fun zz => zEv d 50 125 [.ref 1, .int zz] [] (gR7 (gR6 S k) k) post) ((zi_addE rfl rfl) : (Int32.ofNat k) + 1 = Int32.ofNat (k + 1))) h1)

theorem q50d {d : Nat} {S : zS} (hF : zFin true S)  {post : Outcome × zS → Prop} (h1 : post (.returned none, sA (sA (sA (sA (sA S 4 1 (((gA S 4 2) + (gA S 6 3)) + (gA S 7 4))) 4 2 (((gA S 4 3) + (gA S 6 4)) + (gA S 7 0))) 4 3 (((gA S 4 4) + (gA S 6 0)) + (gA S 7 1))) 4 4 (((gA S 4 0) + (gA S 6 1)) + (gA S 7 2))) 4 0 (((gA S 4 1) + (gA S 6 2)) + (gA S 7 3)))) : zEv d 50 125 [.ref 1, .int (Int32.ofNat 80)] [] S post := by
  have ht : ztab 50 = ztb50 := rfl
  skip
  refine zv_c1 ht rfl rfl (zv_c1 ht rfl rfl ?_)
  refine zv_br ht rfl rfl rfl (fun b1 => ?_) (fun b1 => ?_)
  · replace b1 : 80 ≤ 80 := (zi_leE (a := 80) (b := 80) rfl rfl (by omega) (by omega)).mp b1
    refine zv_c1 ht rfl rfl ?_
    refine zv_gl (st' := [.ref 4]) ht rfl hF rfl rfl rfl ?_
    refine zv_c1 ht rfl rfl ?_
    refine zv_ia (j := 1) ht rfl rfl rfl rfl (zi_nat (k := 1) (by decide)) ⟨(Or.inl rfl), zi_in (k := 1) (n := 8) (by decide) (by decide)⟩ ?_
    refine zv_c1 ht rfl rfl ?_
    refine zv_gl (st' := [.ref 6, .int (gA S 4 1)]) ht rfl hF rfl rfl rfl ?_
    refine zv_c1 ht rfl rfl ?_
    refine zv_ia (j := 2) ht rfl rfl rfl rfl (zi_nat (k := 2) (by decide)) ⟨(Or.inl rfl), zi_in (k := 2) (n := 5) (by decide) (by decide)⟩ ?_
    refine zv_c1 ht rfl rfl (zv_c1 ht rfl rfl ?_)
    refine zv_gl (st' := [.ref 7, .int ((gA S 4 1) + (gA S 6 2))]) ht rfl hF rfl rfl rfl ?_
    refine zv_c1 ht rfl rfl ?_
    refine zv_ia (j := 3) ht rfl rfl rfl rfl (zi_nat (k := 3) (by decide)) ⟨(Or.inl rfl), zi_in (k := 3) (n := 5) (by decide) (by decide)⟩ ?_
    refine zv_c1 ht rfl rfl ?_
    refine zv_c2 (L' := [.ref 1, .int (((gA S 4 1) + (gA S 6 2)) + (gA S 7 3))]) ht rfl rfl ?_
    refine zv_c1 ht rfl rfl ?_
    refine zv_gl (st' := [.ref 4]) ht rfl hF rfl rfl rfl ?_
    refine zv_c1 ht rfl rfl (zv_c1 ht rfl rfl ?_)
    refine zv_gl (st' := [.ref 4, .int 1, .ref 4]) ht rfl hF rfl rfl rfl ?_
    refine zv_c1 ht rfl rfl ?_
    refine zv_ia (j := 2) ht rfl rfl rfl rfl (zi_nat (k := 2) (by decide)) ⟨(Or.inl rfl), zi_in (k := 2) (n := 8) (by decide) (by decide)⟩ ?_
    refine zv_c1 ht rfl rfl ?_
    refine zv_gl (st' := [.ref 6, .int (gA S 4 2), .int 1, .ref 4]) ht rfl hF rfl rfl rfl ?_
    refine zv_c1 ht rfl rfl ?_
    refine zv_ia (j := 3) ht rfl rfl rfl rfl (zi_nat (k := 3) (by decide)) ⟨(Or.inl rfl), zi_in (k := 3) (n := 5) (by decide) (by decide)⟩ ?_
    refine zv_c1 ht rfl rfl (zv_c1 ht rfl rfl ?_)
    refine zv_gl (st' := [.ref 7, .int ((gA S 4 2) + (gA S 6 3)), .int 1, .ref 4]) ht rfl hF rfl rfl rfl ?_
    refine zv_c1 ht rfl rfl ?_
    refine zv_ia (j := 4) ht rfl rfl rfl rfl (zi_nat (k := 4) (by decide)) ⟨(Or.inl rfl), zi_in (k := 4) (n := 5) (by decide) (by decide)⟩ ?_
    refine zv_c1 ht rfl rfl ?_
    refine zv_is (j := 1) (x := ((gA S 4 2) + (gA S 6 3)) + (gA S 7 4)) ht rfl rfl rfl rfl (zi_nat (k := 1) (by decide)) ⟨rfl, zi_in (k := 1) (n := 8) (by decide) (by decide)⟩ ?_
    refine zv_c1 ht rfl rfl ?_
    refine zv_gl (st' := [.ref 4]) ht rfl hF rfl rfl rfl ?_
    refine zv_c1 ht rfl rfl (zv_c1 ht rfl rfl ?_)
    refine zv_gl (st' := [.ref 4, .int 2, .ref 4]) ht rfl hF rfl rfl rfl ?_
    refine zv_c1 ht rfl rfl ?_
    refine zv_ia (j := 3) ht rfl rfl rfl rfl (zi_nat (k := 3) (by decide)) ⟨(Or.inl rfl), zi_in (k := 3) (n := 8) (by decide) (by decide)⟩ ?_
    show zEv d 50 215 [.ref 1, .int (((gA S 4 1) + (gA S 6 2)) + (gA S 7 3))] [.int (gA S 4 3), .int 2, .ref 4] (sA S 4 1 (((gA S 4 2) + (gA S 6 3)) + (gA S 7 4))) post
    refine zv_c1 ht rfl rfl ?_
    refine zv_gl (st' := [.ref 6, .int (gA S 4 3), .int 2, .ref 4]) ht rfl hF rfl rfl rfl ?_
    refine zv_c1 ht rfl rfl ?_
    refine zv_ia (j := 4) ht rfl rfl rfl rfl (zi_nat (k := 4) (by decide)) ⟨(Or.inl rfl), zi_in (k := 4) (n := 5) (by decide) (by decide)⟩ ?_
    show zEv d 50 221 [.ref 1, .int (((gA S 4 1) + (gA S 6 2)) + (gA S 7 3))] [.int (gA S 6 4), .int (gA S 4 3), .int 2, .ref 4] (sA S 4 1 (((gA S 4 2) + (gA S 6 3)) + (gA S 7 4))) post
    refine zv_c1 ht rfl rfl (zv_c1 ht rfl rfl ?_)
    refine zv_gl (st' := [.ref 7, .int ((gA S 4 3) + (gA S 6 4)), .int 2, .ref 4]) ht rfl hF rfl rfl rfl ?_
    refine zv_c1 ht rfl rfl ?_
    refine zv_ia (j := 0) ht rfl rfl rfl rfl (zi_nat (k := 0) (by decide)) ⟨(Or.inl rfl), zi_in (k := 0) (n := 5) (by decide) (by decide)⟩ ?_
    show zEv d 50 228 [.ref 1, .int (((gA S 4 1) + (gA S 6 2)) + (gA S 7 3))] [.int (gA S 7 0), .int ((gA S 4 3) + (gA S 6 4)), .int 2, .ref 4] (sA S 4 1 (((gA S 4 2) + (gA S 6 3)) + (gA S 7 4))) post
    refine zv_c1 ht rfl rfl ?_
    refine zv_is (j := 2) (x := ((gA S 4 3) + (gA S 6 4)) + (gA S 7 0)) ht rfl rfl rfl rfl (zi_nat (k := 2) (by decide)) ⟨rfl, zi_in (k := 2) (n := 8) (by decide) (by decide)⟩ ?_
    refine zv_c1 ht rfl rfl ?_
    refine zv_gl (st' := [.ref 4]) ht rfl hF rfl rfl rfl ?_
    refine zv_c1 ht rfl rfl (zv_c1 ht rfl rfl ?_)
    refine zv_gl (st' := [.ref 4, .int 3, .ref 4]) ht rfl hF rfl rfl rfl ?_
    refine zv_c1 ht rfl rfl ?_
    refine zv_ia (j := 4) ht rfl rfl rfl rfl (zi_nat (k := 4) (by decide)) ⟨(Or.inl rfl), zi_in (k := 4) (n := 8) (by decide) (by decide)⟩ ?_
    show zEv d 50 241 [.ref 1, .int (((gA S 4 1) + (gA S 6 2)) + (gA S 7 3))] [.int (gA S 4 4), .int 3, .ref 4] (sA (sA S 4 1 (((gA S 4 2) + (gA S 6 3)) + (gA S 7 4))) 4 2 (((gA S 4 3) + (gA S 6 4)) + (gA S 7 0))) post
    refine zv_c1 ht rfl rfl ?_
    refine zv_gl (st' := [.ref 6, .int (gA S 4 4), .int 3, .ref 4]) ht rfl hF rfl rfl rfl ?_
    refine zv_c1 ht rfl rfl ?_
    refine zv_ia (j := 0) ht rfl rfl rfl rfl (zi_nat (k := 0) (by decide)) ⟨(Or.inl rfl), zi_in (k := 0) (n := 5) (by decide) (by decide)⟩ ?_
    show zEv d 50 247 [.ref 1, .int (((gA S 4 1) + (gA S 6 2)) + (gA S 7 3))] [.int (gA S 6 0), .int (gA S 4 4), .int 3, .ref 4] (sA (sA S 4 1 (((gA S 4 2) + (gA S 6 3)) + (gA S 7 4))) 4 2 (((gA S 4 3) + (gA S 6 4)) + (gA S 7 0))) post
    refine zv_c1 ht rfl rfl (zv_c1 ht rfl rfl ?_)
    refine zv_gl (st' := [.ref 7, .int ((gA S 4 4) + (gA S 6 0)), .int 3, .ref 4]) ht rfl hF rfl rfl rfl ?_
    refine zv_c1 ht rfl rfl ?_
    refine zv_ia (j := 1) ht rfl rfl rfl rfl (zi_nat (k := 1) (by decide)) ⟨(Or.inl rfl), zi_in (k := 1) (n := 5) (by decide) (by decide)⟩ ?_
    show zEv d 50 254 [.ref 1, .int (((gA S 4 1) + (gA S 6 2)) + (gA S 7 3))] [.int (gA S 7 1), .int ((gA S 4 4) + (gA S 6 0)), .int 3, .ref 4] (sA (sA S 4 1 (((gA S 4 2) + (gA S 6 3)) + (gA S 7 4))) 4 2 (((gA S 4 3) + (gA S 6 4)) + (gA S 7 0))) post
    refine zv_c1 ht rfl rfl ?_
    refine zv_is (j := 3) (x := ((gA S 4 4) + (gA S 6 0)) + (gA S 7 1)) ht rfl rfl rfl rfl (zi_nat (k := 3) (by decide)) ⟨rfl, zi_in (k := 3) (n := 8) (by decide) (by decide)⟩ ?_
    refine zv_c1 ht rfl rfl ?_
    refine zv_gl (st' := [.ref 4]) ht rfl hF rfl rfl rfl ?_
    refine zv_c1 ht rfl rfl (zv_c1 ht rfl rfl ?_)
    refine zv_gl (st' := [.ref 4, .int 4, .ref 4]) ht rfl hF rfl rfl rfl ?_
    refine zv_c1 ht rfl rfl ?_
    refine zv_ia (j := 0) ht rfl rfl rfl rfl (zi_nat (k := 0) (by decide)) ⟨(Or.inl rfl), zi_in (k := 0) (n := 8) (by decide) (by decide)⟩ ?_
    show zEv d 50 267 [.ref 1, .int (((gA S 4 1) + (gA S 6 2)) + (gA S 7 3))] [.int (gA S 4 0), .int 4, .ref 4] (sA (sA (sA S 4 1 (((gA S 4 2) + (gA S 6 3)) + (gA S 7 4))) 4 2 (((gA S 4 3) + (gA S 6 4)) + (gA S 7 0))) 4 3 (((gA S 4 4) + (gA S 6 0)) + (gA S 7 1))) post
    refine zv_c1 ht rfl rfl ?_
    refine zv_gl (st' := [.ref 6, .int (gA S 4 0), .int 4, .ref 4]) ht rfl hF rfl rfl rfl ?_
    refine zv_c1 ht rfl rfl ?_
    refine zv_ia (j := 1) ht rfl rfl rfl rfl (zi_nat (k := 1) (by decide)) ⟨(Or.inl rfl), zi_in (k := 1) (n := 5) (by decide) (by decide)⟩ ?_
    show zEv d 50 273 [.ref 1, .int (((gA S 4 1) + (gA S 6 2)) + (gA S 7 3))] [.int (gA S 6 1), .int (gA S 4 0), .int 4, .ref 4] (sA (sA (sA S 4 1 (((gA S 4 2) + (gA S 6 3)) + (gA S 7 4))) 4 2 (((gA S 4 3) + (gA S 6 4)) + (gA S 7 0))) 4 3 (((gA S 4 4) + (gA S 6 0)) + (gA S 7 1))) post
    refine zv_c1 ht rfl rfl (zv_c1 ht rfl rfl ?_)
    refine zv_gl (st' := [.ref 7, .int ((gA S 4 0) + (gA S 6 1)), .int 4, .ref 4]) ht rfl hF rfl rfl rfl ?_
    refine zv_c1 ht rfl rfl ?_
    refine zv_ia (j := 2) ht rfl rfl rfl rfl (zi_nat (k := 2) (by decide)) ⟨(Or.inl rfl), zi_in (k := 2) (n := 5) (by decide) (by decide)⟩ ?_
    show zEv d 50 280 [.ref 1, .int (((gA S 4 1) + (gA S 6 2)) + (gA S 7 3))] [.int (gA S 7 2), .int ((gA S 4 0) + (gA S 6 1)), .int 4, .ref 4] (sA (sA (sA S 4 1 (((gA S 4 2) + (gA S 6 3)) + (gA S 7 4))) 4 2 (((gA S 4 3) + (gA S 6 4)) + (gA S 7 0))) 4 3 (((gA S 4 4) + (gA S 6 0)) + (gA S 7 1))) post
    refine zv_c1 ht rfl rfl ?_
    refine zv_is (j := 4) (x := ((gA S 4 0) + (gA S 6 1)) + (gA S 7 2)) ht rfl rfl rfl rfl (zi_nat (k := 4) (by decide)) ⟨rfl, zi_in (k := 4) (n := 8) (by decide) (by decide)⟩ ?_
    refine zv_c1 ht rfl rfl ?_
    refine zv_gl (st' := [.ref 4]) ht rfl hF rfl rfl rfl ?_
    refine zv_c1 ht rfl rfl (zv_c1 ht rfl rfl ?_)
    refine zv_is (j := 0) (x := ((gA S 4 1) + (gA S 6 2)) + (gA S 7 3)) ht rfl rfl rfl rfl (zi_nat (k := 0) (by decide)) ⟨rfl, zi_in (k := 0) (n := 8) (by decide) (by decide)⟩ ?_
    exact zv_rt ht rfl rfl rfl rfl h1
  · replace b1 : ¬ (80 ≤ 80) := fun h => b1 ((zi_leE (a := 80) (b := 80) rfl rfl (by omega) (by omega)).mpr h)
    exact (by omega : False).elim

theorem rIt_congr {w w' : Nat → Int32} (h : ∀ j, j < 16 → w j = w' j) (l : Bool) (x : h5) : ∀ k, k ≤ 80 → rIt w l x k = rIt w' l x k := by
  intro k
  induction k with
  | zero => intro _; rfl
  | succ k ih =>
    intro hk
    show rStep w l k (rIt w l x k) = rStep w' l k (rIt w' l x k)
    rw [ih (by omega)]
    unfold rStep
    rw [h _ (rO_lt l (by omega))]
theorem h5of_congr {s s' : Nat → Int32} (h : ∀ j, j < 5 → s j = s' j) : h5of s = h5of s' := by
  unfold h5of
  rw [h 0 (by omega), h 1 (by omega), h 2 (by omega), h 3 (by omega), h 4 (by omega)]
theorem rEnd_congr {s s' : Nat → Int32} (h : ∀ j, j < 5 → s j = s' j) (x y : h5) : ∀ j, j < 5 → rEnd s x y j = rEnd s' x y j := by
  intro j hj
  have : j = 0 ∨ j = 1 ∨ j = 2 ∨ j = 3 ∨ j = 4 := by omega
  rcases this with rfl | rfl | rfl | rfl | rfl
  · show (s 1 + _) + _ = (s' 1 + _) + _; rw [h 1 (by omega)]
  · show (s 2 + _) + _ = (s' 2 + _) + _; rw [h 2 (by omega)]
  · show (s 3 + _) + _ = (s' 3 + _) + _; rw [h 3 (by omega)]
  · show (s 4 + _) + _ = (s' 4 + _) + _; rw [h 4 (by omega)]
  · show (s 0 + _) + _ = (s' 0 + _) + _; rw [h 0 (by omega)]
theorem rBlk_congr {B B' s s' : Nat → Int32} (hB : ∀ j, j < 64 → B j = B' j) (h : ∀ j, j < 5 → s j = s' j) : ∀ j, j < 5 → rBlk B s j = rBlk B' s' j := by
  intro j hj
  have hw : ∀ k, k < 16 → rW B k = rW B' k := by
    intro k hk
    unfold rW
    rw [hB _ (by omega), hB _ (by omega), hB _ (by omega), hB _ (by omega)]
  unfold rBlk
  rw [rIt_congr hw true _ 80 (by omega), rIt_congr hw false _ 80 (by omega), h5of_congr h]
  exact rEnd_congr h _ _ j hj
section X50
variable {d : Nat} {post : Outcome × zS → Prop}
theorem gR6_5 (S : zS) (k : Nat) : h5of (gA (gR6 S k) 6) = rStep (gA S 5) true k (h5of (gA S 6)) := rfl
theorem gR7_5 (S : zS) (k : Nat) : h5of (gA (gR7 S k) 7) = rStep (gA S 5) false k (h5of (gA S 7)) := rfl
theorem sA_ne {S : zS} {a b j : Nat} {v : Int32} (h : b ≠ a) : gA (sA S a j v) b = gA S b := zu_ne' h
theorem gR6_ne {S : zS} {k b : Nat} (h : b ≠ 6) : gA (gR6 S k) b = gA S b := by
  unfold gR6
  rw [sA_ne h, sA_ne h, sA_ne h, sA_ne h, sA_ne h]
theorem gR7_ne {S : zS} {k b : Nat} (h : b ≠ 7) : gA (gR7 S k) b = gA S b := by
  unfold gR7
  rw [sA_ne h, sA_ne h, sA_ne h, sA_ne h, sA_ne h]
/-- other arrays -/
theorem zM_of {S S' : zS} (h : S' = zM S (gI S) (gA S')) (a j : Nat) (v : Int32) : sA S' a j v = zM S (gI S) (gA (sA S' a j v)) := by
  rw [h]; rfl
theorem x_turnRipemd (hd : 6 ≤ d) {S : zS} (hF : zFin true S) (hLt : zLits S)
    (h : ∀ f, (∀ a, a ∉ [4, 5, 6, 7] → f a = gA S a) → (∀ j, j < 5 → f 4 j = rBlk (fun j => gA S 8 j &&& 255) (gA S 4) j) → post (.returned none, zM S (gI S) f)) : zCall d 50 [.ref 1] S post := by
  refine q50 hF ?_
  refine zLoop (L := fun k => [.ref 1, .int (Int32.ofNat k)]) 16 (fun k S' => ∃ f, S' = zM S (gI S) f ∧ (∀ a, a ≠ 5 → f a = gA S a) ∧ ∀ j, j < k → f 5 j = rW (fun j => gA S 8 j &&& 255) j) ?_ ?_ 0 S (by omega) ⟨gA S, rfl, fun _ _ => rfl, fun j hj => absurd hj (by omega)⟩
  · rintro k S' hk ⟨f, rfl, hf, hw⟩ ih
    refine q50a (S := zM S (gI S) f) hF k (by omega) (fun b => absurd b (by omega)) (fun _ => ih _ ⟨zu f 5 k (q50a_e1 (zM S (gI S) f) k), rfl, fun a ha => (zu_ne' ha).trans (hf a ha), fun j hj => ?_⟩)
    by_cases e : j = k
    · subst e
      rw [zu_at]
      show _ = rW (fun j => gA S 8 j &&& 255) j
      unfold q50a_e1 rW
      rw [show gA (zM S (gI S) f) 8 = gA S 8 from hf 8 (by decide)]
    · rw [zu_n2 e]; exact hw j (by omega)
  rintro S' ⟨f, rfl, hf, hw⟩
  refine q50a (S := zM S (gI S) f) hF 16 (by omega) (fun _ => ?_) (fun b => absurd (by omega) b)
  refine zLoop (L := fun k => [.ref 1, .int (Int32.ofNat k)]) 5 (fun k S' => ∃ g, S' = zM S (gI S) g ∧ (∀ a, a ∉ [6, 7] → g a = f a) ∧ ∀ j, j < k → g 6 j = gA S 4 j ∧ g 7 j = gA S 4 j) ?_ ?_ 0 _ (by omega) ⟨f, rfl, fun _ _ => rfl, fun j hj => absurd hj (by omega)⟩
  · rintro k S' hk ⟨g, rfl, hg, hw2⟩ ih
    refine q50b (S := zM S (gI S) g) hF k (by omega) (fun b => absurd b (by omega)) (fun _ => ih _ ⟨zu (zu g 6 k (g 4 k)) 7 k (g 4 k), rfl, fun a ha => ?_, fun j hj => ?_⟩)
    · simp only [List.mem_cons, List.not_mem_nil, or_false, not_or] at ha
      rw [zu_ne' ha.2, zu_ne' ha.1]
      exact hg a (by simp [ha.1, ha.2])
    · have h4 : g 4 k = gA S 4 k := by rw [hg 4 (by decide), hf 4 (by decide)]
      by_cases e : j = k
      · subst e
        exact ⟨by rw [zu_ne (by decide), zu_at, h4], by rw [zu_at, h4]⟩
      · exact ⟨by rw [zu_ne (by decide), zu_n2 e]; exact (hw2 j (by omega)).1, by rw [zu_n2 e, zu_ne (by decide)]; exact (hw2 j (by omega)).2⟩
  rintro S' ⟨g, rfl, hg, hw2⟩
  refine q50b (S := zM S (gI S) g) hF 5 (by omega) (fun _ => ?_) (fun b => absurd (by omega) b)
  have hlit : ∀ g : Nat → Nat → Int32, (∀ a, a ∉ [5, 6, 7] → g a = gA S a) → zLits (zM S (gI S) g) := fun g hg => hLt.zM (fun _ _ => rfl) (fun v hv => hg v (by
    have : (7 : Nat) < zLB := by decide
    simp only [List.mem_cons, List.not_mem_nil, or_false, not_or]; omega))
  have hg0 : ∀ a, a ∉ [5, 6, 7] → g a = gA S a := fun a ha => by
    simp only [List.mem_cons, List.not_mem_nil, or_false, not_or] at ha
    rw [hg a (by simp [ha.2.1, ha.2.2]), hf a ha.1]
  refine zLoop (L := fun k => [.ref 1, .int (Int32.ofNat k)]) 80 (fun k S' => ∃ e, S' = zM S (gI S) e ∧ (∀ a, a ∉ [6, 7] → e a = g a) ∧ h5of (e 6) = rIt (g 5) true (h5of (gA S 4)) k ∧ h5of (e 7) = rIt (g 5) false (h5of (gA S 4)) k) ?_ ?_ 0 _ (by omega) ⟨g, rfl, fun _ _ => rfl, h5of_congr (fun j hj => (hw2 j hj).1), h5of_congr (fun j hj => (hw2 j hj).2)⟩
  · rintro k S' hk ⟨e, rfl, he, e6, e7⟩ ih
    have he0 : ∀ a, a ∉ [5, 6, 7] → e a = gA S a := fun a ha => by
      rw [← hg0 a ha]
      simp only [List.mem_cons, List.not_mem_nil, or_false, not_or] at ha
      exact he a (by simp [ha.2.1, ha.2.2])
    refine q50c (S := zM S (gI S) e) hF hd k (by omega) (hlit e he0) hk (ih _ ⟨gA (gR7 (gR6 (zM S (gI S) e) k) k), rfl, fun a ha => ?_, ?_, ?_⟩)
    · simp only [List.mem_cons, List.not_mem_nil, or_false, not_or] at ha
      rw [gR7_ne ha.2, gR6_ne ha.1]
      exact he a (by simp [ha.1, ha.2])
    · rw [gR7_ne (by decide), gR6_5]
      show rStep (e 5) true k (h5of (e 6)) = _
      rw [e6, he 5 (by decide)]
      rfl
    · rw [gR7_5, gR6_ne (by decide), gR6_ne (by decide)]
      show rStep (e 5) false k (h5of (e 7)) = _
      rw [e7, he 5 (by decide)]
      rfl
  rintro S' ⟨e, rfl, he, e6, e7⟩
  refine q50d (S := zM S (gI S) e) hF ?_
  have hs4 : e 4 = gA S 4 := by rw [he 4 (by decide), hg0 4 (by decide)]
  have hw3 : ∀ j, j < 16 → g 5 j = rW (fun j => gA S 8 j &&& 255) j := fun j hj => by rw [hg 5 (by decide)]; exact hw j hj
  rw [rIt_congr hw3 true _ 80 (by omega)] at e6
  rw [rIt_congr hw3 false _ 80 (by omega)] at e7
  refine h _ (fun a ha => ?_) (fun j hj => ?_)
  · simp only [List.mem_cons, List.not_mem_nil, or_false, not_or] at ha
    obtain ⟨a4, a5, a6, a7⟩ := ha
    show zu (zu (zu (zu (zu e 4 _ _) 4 _ _) 4 _ _) 4 _ _) 4 _ _ a = _
    rw [zu_ne' a4, zu_ne' a4, zu_ne' a4, zu_ne' a4, zu_ne' a4]
    rw [he a (by simp [a6, a7])]
    exact hg0 a (by simp [a5, a6, a7])
  · unfold rBlk
    rw [← e6, ← e7, ← hs4]
    have : j = 0 ∨ j = 1 ∨ j = 2 ∨ j = 3 ∨ j = 4 := by omega
    rcases this with rfl | rfl | rfl | rfl | rfl <;> rfl
end X50

