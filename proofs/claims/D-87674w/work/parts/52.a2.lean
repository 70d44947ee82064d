set_option maxRecDepth 100000
theorem q48 {d : Nat} {S : zS} (hF : zFin true S)  {post : Outcome × zS → Prop} (h1 : zEv d 48 2 [.ref 1, .int (Int32.ofNat 0), .retAddr 0, .retAddr 0, .retAddr 0, .retAddr 0, .retAddr 0, .retAddr 0, .retAddr 0, .retAddr 0, .retAddr 0, .retAddr 0] [] S post) : zCall d 48 [.ref 1] S post := by
  have ht : ztab 48 = ztb48 := rfl
  show zEv d 48 0 [.ref 1, .retAddr 0, .retAddr 0, .retAddr 0, .retAddr 0, .retAddr 0, .retAddr 0, .retAddr 0, .retAddr 0, .retAddr 0, .retAddr 0, .retAddr 0] [] S post
  refine zv_c1 ht rfl rfl ?_
  refine zv_c2 (L' := [.ref 1, .int 0, .retAddr 0, .retAddr 0, .retAddr 0, .retAddr 0, .retAddr 0, .retAddr 0, .retAddr 0, .retAddr 0, .retAddr 0, .retAddr 0]) ht rfl rfl ?_
  exact h1

def q48a_e1 (S : zS) (k : Nat) : Int32 := (((((gA S 8 (4 * k)) &&& (255 : Int32)) <<< (24 &&& 31) : Int32) ||| (((gA S 8 ((4 * k) + 1)) &&& (255 : Int32)) <<< (16 &&& 31) : Int32)) ||| (((gA S 8 ((4 * k) + 2)) &&& (255 : Int32)) <<< (8 &&& 31) : Int32)) ||| ((gA S 8 ((4 * k) + 3)) &&& (255 : Int32))
theorem q48a {d : Nat} {S : zS} (hF : zFin true S) (k : Nat) (hk : k ≤ 16) {post : Outcome × zS → Prop} (h1 : (16 ≤ k) → zEv d 48 89 [.ref 1, .int (Int32.ofNat 16), .retAddr 0, .retAddr 0, .retAddr 0, .retAddr 0, .retAddr 0, .retAddr 0, .retAddr 0, .retAddr 0, .retAddr 0, .retAddr 0] [] S post) (h2 : (¬ (16 ≤ k)) → zEv d 48 2 [.ref 1, .int (Int32.ofNat (k + 1)), .retAddr 0, .retAddr 0, .retAddr 0, .retAddr 0, .retAddr 0, .retAddr 0, .retAddr 0, .retAddr 0, .retAddr 0, .retAddr 0] [] (sA S 5 k (q48a_e1 S k)) post) : zEv d 48 2 [.ref 1, .int (Int32.ofNat k), .retAddr 0, .retAddr 0, .retAddr 0, .retAddr 0, .retAddr 0, .retAddr 0, .retAddr 0, .retAddr 0, .retAddr 0, .retAddr 0] [] S post := by
  have ht : ztab 48 = ztb48 := rfl
  skip
  refine zv_c1 ht rfl rfl (zv_c1 ht rfl rfl ?_)
  refine zv_br ht rfl rfl rfl (fun b1 => ?_) (fun b1 => ?_)
  · replace b1 : 16 ≤ k := (zi_leE (a := 16) (b := k) rfl rfl (by omega) (by omega)).mp b1
    refine zv_c1 ht rfl rfl ?_
    refine zv_c2 (L' := [.ref 1, .int 16, .retAddr 0, .retAddr 0, .retAddr 0, .retAddr 0, .retAddr 0, .retAddr 0, .retAddr 0, .retAddr 0, .retAddr 0, .retAddr 0]) ht rfl rfl ?_
    exact (h1 b1)
  · replace b1 : ¬ (16 ≤ k) := fun h => b1 ((zi_leE (a := 16) (b := k) rfl rfl (by omega) (by omega)).mpr h)
    refine zv_c1 ht rfl rfl ?_
    refine zv_gl (st' := [.ref 5]) ht rfl hF rfl rfl rfl ?_
    refine zv_c1 ht rfl rfl (zv_c1 ht rfl rfl ?_)
    refine zv_gl (st' := [.ref 8, .int (Int32.ofNat k), .ref 5]) ht rfl hF rfl rfl rfl ?_
    refine zv_c1 ht rfl rfl (zv_c1 ht rfl rfl ?_)
    refine zv_e1 (x := Int32.ofNat (4 * k)) ht rfl rfl (zi_mulE rfl rfl) ?_
    refine zv_ba (j := (4 * k)) ht rfl rfl rfl rfl (zi_natE (a := (4 * k)) rfl (by omega)) ⟨(Or.inl rfl), zi_inE (a := (4 * k)) (n := 64) rfl (by omega) (by omega)⟩ ?_
    refine zv_c1 ht rfl rfl (zv_c1 ht rfl rfl (zv_c1 ht rfl rfl (zv_c1 ht rfl rfl (zv_c1 ht rfl rfl ?_))))
    refine zv_gl (st' := [.ref 8, .int (((gA S 8 (4 * k)) &&& (255 : Int32)) <<< (24 &&& 31) : Int32), .int (Int32.ofNat k), .ref 5]) ht rfl hF rfl rfl rfl ?_
    refine zv_c1 ht rfl rfl (zv_c1 ht rfl rfl ?_)
    refine zv_e1 (x := Int32.ofNat (4 * k)) ht rfl rfl (zi_mulE rfl rfl) ?_
    refine zv_c1 ht rfl rfl ?_
    refine zv_e1 (x := Int32.ofNat ((4 * k) + 1)) ht rfl rfl (zi_addE rfl rfl) ?_
    refine zv_ba (j := ((4 * k) + 1)) ht rfl rfl rfl rfl (zi_natE (a := ((4 * k) + 1)) rfl (by omega)) ⟨(Or.inl rfl), zi_inE (a := ((4 * k) + 1)) (n := 64) rfl (by omega) (by omega)⟩ ?_
    refine zv_c1 ht rfl rfl (zv_c1 ht rfl rfl (zv_c1 ht rfl rfl (zv_c1 ht rfl rfl (zv_c1 ht rfl rfl (zv_c1 ht rfl rfl ?_)))))
    refine zv_gl (st' := [.ref 8, .int ((((gA S 8 (4 * k)) &&& (255 : Int32)) <<< (24 &&& 31) : Int32) ||| (((gA S 8 ((4 * k) + 1)) &&& (255 : Int32)) <<< (16 &&& 31) : Int32)), .int (Int32.ofNat k), .ref 5]) ht rfl hF rfl rfl rfl ?_
    refine zv_c1 ht rfl rfl (zv_c1 ht rfl rfl ?_)
    refine zv_e1 (x := Int32.ofNat (4 * k)) ht rfl rfl (zi_mulE rfl rfl) ?_
    refine zv_c1 ht rfl rfl ?_
    refine zv_e1 (x := Int32.ofNat ((4 * k) + 2)) ht rfl rfl (zi_addE rfl rfl) ?_
    refine zv_ba (j := ((4 * k) + 2)) ht rfl rfl rfl rfl (zi_natE (a := ((4 * k) + 2)) rfl (by omega)) ⟨(Or.inl rfl), zi_inE (a := ((4 * k) + 2)) (n := 64) rfl (by omega) (by omega)⟩ ?_
    refine zv_c1 ht rfl rfl (zv_c1 ht rfl rfl (zv_c1 ht rfl rfl (zv_c1 ht rfl rfl (zv_c1 ht rfl rfl (zv_c1 ht rfl rfl ?_)))))
    refine zv_gl (st' := [.ref 8, .int (((((gA S 8 (4 * k)) &&& (255 : Int32)) <<< (24 &&& 31) : Int32) ||| (((gA S 8 ((4 * k) + 1)) &&& (255 : Int32)) <<< (16 &&& 31) : Int32)) ||| (((gA S 8 ((4 * k) + 2)) &&& (255 : Int32)) <<< (8 &&& 31) : Int32)), .int (Int32.ofNat k), .ref 5]) ht rfl hF rfl rfl rfl ?_
    refine zv_c1 ht rfl rfl (zv_c1 ht rfl rfl ?_)
    refine zv_e1 (x := Int32.ofNat (4 * k)) ht rfl rfl (zi_mulE rfl rfl) ?_
    refine zv_c1 ht rfl rfl ?_
    refine zv_e1 (x := Int32.ofNat ((4 * k) + 3)) ht rfl rfl (zi_addE rfl rfl) ?_
    refine zv_ba (j := ((4 * k) + 3)) ht rfl rfl rfl rfl (zi_natE (a := ((4 * k) + 3)) rfl (by omega)) ⟨(Or.inl rfl), zi_inE (a := ((4 * k) + 3)) (n := 64) rfl (by omega) (by omega)⟩ ?_
    refine zv_c1 ht rfl rfl (zv_c1 ht rfl rfl (zv_c1 ht rfl rfl ?_))
    refine zv_is (j := k) (x := q48a_e1 S k) ht rfl rfl rfl rfl (zi_natE (a := k) rfl (by omega)) ⟨rfl, zi_inE (a := k) (n := 64) rfl (by omega) (by omega)⟩ ?_
    refine zv_c2 (L' := [.ref 1, .int ((Int32.ofNat k) + 1), .retAddr 0, .retAddr 0, .retAddr 0, .retAddr 0, .retAddr 0, .retAddr 0, .retAddr 0, .retAddr 0, .retAddr 0, .retAddr 0]) ht rfl rfl ?_
    refine zv_c1 ht rfl rfl ?_
    exact (Eq.mpr (congrArg (fun zz => zEv d 48 2 [.ref 1, .int zz, .retAddr 0, .retAddr 0, .retAddr 0, .retAddr 0, .retAddr 0, .retAddr 0, .retAddr 0, .retAddr 0, .retAddr 0, .retAddr 0] [] (sA S 5 k (q48a_e1 S k)) post) ((zi_addE rfl rfl) : (Int32.ofNat k) + 1 = Int32.ofNat (k + 1))) (h2 b1))

def q48b_e1 (S : zS) (k : Nat) : Int32 := (((gA S 5 (k - 16)) + (((hR (gA S 5 (k - 15)) 7) ^^^ (hR (gA S 5 (k - 15)) 18)) ^^^ (((gA S 5 (k - 15)).toUInt32 >>> (Int32.toUInt32 3 &&& Int32.toUInt32 31)).toInt32))) + (gA S 5 (k - 7))) + (((hR (gA S 5 (k - 2)) 17) ^^^ (hR (gA S 5 (k - 2)) 19)) ^^^ (((gA S 5 (k - 2)).toUInt32 >>> (Int32.toUInt32 10 &&& Int32.toUInt32 31)).toInt32))
theorem q48b {d : Nat} {S : zS} (hF : zFin true S) (hd : 1 ≤ d) (k : Nat) (hk : k ≤ 64) (hk2 : 16 ≤ k) {post : Outcome × zS → Prop} (h1 : (64 ≤ k) → zEv d 48 248 [.ref 1, .int (gA S 4 0), .int (gA S 4 1), .int (gA S 4 2), .int (gA S 4 3), .int (gA S 4 4), .int (gA S 4 5), .int (gA S 4 6), .int (gA S 4 7), .int (Int32.ofNat 0), .retAddr 0, .retAddr 0] [] S post) (h2 : (¬ (64 ≤ k)) → zEv d 48 89 [.ref 1, .int (Int32.ofNat (k + 1)), .retAddr 0, .retAddr 0, .retAddr 0, .retAddr 0, .retAddr 0, .retAddr 0, .retAddr 0, .retAddr 0, .retAddr 0, .retAddr 0] [] (sA S 5 k (q48b_e1 S k)) post) : zEv d 48 89 [.ref 1, .int (Int32.ofNat k), .retAddr 0, .retAddr 0, .retAddr 0, .retAddr 0, .retAddr 0, .retAddr 0, .retAddr 0, .retAddr 0, .retAddr 0, .retAddr 0] [] S post := by
  have ht : ztab 48 = ztb48 := rfl
  skip
  refine zv_c1 ht rfl rfl (zv_c1 ht rfl rfl ?_)
  refine zv_br ht rfl rfl rfl (fun b1 => ?_) (fun b1 => ?_)
  · replace b1 : 64 ≤ k := (zi_leE (a := 64) (b := k) rfl rfl (by omega) (by omega)).mp b1
    refine zv_c1 ht rfl rfl ?_
    refine zv_gl (st' := [.ref 4]) ht rfl hF rfl rfl rfl ?_
    refine zv_c1 ht rfl rfl ?_
    refine zv_ia (j := 0) ht rfl rfl rfl rfl (zi_nat (k := 0) (by decide)) ⟨(Or.inl rfl), zi_in (k := 0) (n := 8) (by decide) (by decide)⟩ ?_
    refine zv_c2 (L' := [.ref 1, .int (gA S 4 0), .retAddr 0, .retAddr 0, .retAddr 0, .retAddr 0, .retAddr 0, .retAddr 0, .retAddr 0, .retAddr 0, .retAddr 0, .retAddr 0]) ht rfl rfl ?_
    refine zv_c1 ht rfl rfl ?_
    refine zv_gl (st' := [.ref 4]) ht rfl hF rfl rfl rfl ?_
    refine zv_c1 ht rfl rfl ?_
    refine zv_ia (j := 1) ht rfl rfl rfl rfl (zi_nat (k := 1) (by decide)) ⟨(Or.inl rfl), zi_in (k := 1) (n := 8) (by decide) (by decide)⟩ ?_
    refine zv_c2 (L' := [.ref 1, .int (gA S 4 0), .int (gA S 4 1), .retAddr 0, .retAddr 0, .retAddr 0, .retAddr 0, .retAddr 0, .retAddr 0, .retAddr 0, .retAddr 0, .retAddr 0]) ht rfl rfl ?_
    refine zv_c1 ht rfl rfl ?_
    refine zv_gl (st' := [.ref 4]) ht rfl hF rfl rfl rfl ?_
    refine zv_c1 ht rfl rfl ?_
    refine zv_ia (j := 2) ht rfl rfl rfl rfl (zi_nat (k := 2) (by decide)) ⟨(Or.inl rfl), zi_in (k := 2) (n := 8) (by decide) (by decide)⟩ ?_
    refine zv_c2 (L' := [.ref 1, .int (gA S 4 0), .int (gA S 4 1), .int (gA S 4 2), .retAddr 0, .retAddr 0, .retAddr 0, .retAddr 0, .retAddr 0, .retAddr 0, .retAddr 0, .retAddr 0]) ht rfl rfl ?_
    refine zv_c1 ht rfl rfl ?_
    refine zv_gl (st' := [.ref 4]) ht rfl hF rfl rfl rfl ?_
    refine zv_c1 ht rfl rfl ?_
    refine zv_ia (j := 3) ht rfl rfl rfl rfl (zi_nat (k := 3) (by decide)) ⟨(Or.inl rfl), zi_in (k := 3) (n := 8) (by decide) (by decide)⟩ ?_
    refine zv_c2 (L' := [.ref 1, .int (gA S 4 0), .int (gA S 4 1), .int (gA S 4 2), .int (gA S 4 3), .retAddr 0, .retAddr 0, .retAddr 0, .retAddr 0, .retAddr 0, .retAddr 0, .retAddr 0]) ht rfl rfl ?_
    refine zv_c1 ht rfl rfl ?_
    refine zv_gl (st' := [.ref 4]) ht rfl hF rfl rfl rfl ?_
    refine zv_c1 ht rfl rfl ?_
    refine zv_ia (j := 4) ht rfl rfl rfl rfl (zi_nat (k := 4) (by decide)) ⟨(Or.inl rfl), zi_in (k := 4) (n := 8) (by decide) (by decide)⟩ ?_
    refine zv_c2 (L' := [.ref 1, .int (gA S 4 0), .int (gA S 4 1), .int (gA S 4 2), .int (gA S 4 3), .int (gA S 4 4), .retAddr 0, .retAddr 0, .retAddr 0, .retAddr 0, .retAddr 0, .retAddr 0]) ht rfl rfl ?_
    refine zv_c1 ht rfl rfl ?_
    refine zv_gl (st' := [.ref 4]) ht rfl hF rfl rfl rfl ?_
    refine zv_c1 ht rfl rfl ?_
    refine zv_ia (j := 5) ht rfl rfl rfl rfl (zi_nat (k := 5) (by decide)) ⟨(Or.inl rfl), zi_in (k := 5) (n := 8) (by decide) (by decide)⟩ ?_
    refine zv_c2 (L' := [.ref 1, .int (gA S 4 0), .int (gA S 4 1), .int (gA S 4 2), .int (gA S 4 3), .int (gA S 4 4), .int (gA S 4 5), .retAddr 0, .retAddr 0, .retAddr 0, .retAddr 0, .retAddr 0]) ht rfl rfl ?_
    refine zv_c1 ht rfl rfl ?_
    refine zv_gl (st' := [.ref 4]) ht rfl hF rfl rfl rfl ?_
    refine zv_c1 ht rfl rfl ?_
    refine zv_ia (j := 6) ht rfl rfl rfl rfl (zi_nat (k := 6) (by decide)) ⟨(Or.inl rfl), zi_in (k := 6) (n := 8) (by decide) (by decide)⟩ ?_
    refine zv_c2 (L' := [.ref 1, .int (gA S 4 0), .int (gA S 4 1), .int (gA S 4 2), .int (gA S 4 3), .int (gA S 4 4), .int (gA S 4 5), .int (gA S 4 6), .retAddr 0, .retAddr 0, .retAddr 0, .retAddr 0]) ht rfl rfl ?_
    refine zv_c1 ht rfl rfl ?_
    refine zv_gl (st' := [.ref 4]) ht rfl hF rfl rfl rfl ?_
    refine zv_c1 ht rfl rfl ?_
    refine zv_ia (j := 7) ht rfl rfl rfl rfl (zi_nat (k := 7) (by decide)) ⟨(Or.inl rfl), zi_in (k := 7) (n := 8) (by decide) (by decide)⟩ ?_
    refine zv_c2 (L' := [.ref 1, .int (gA S 4 0), .int (gA S 4 1), .int (gA S 4 2), .int (gA S 4 3), .int (gA S 4 4), .int (gA S 4 5), .int (gA S 4 6), .int (gA S 4 7), .retAddr 0, .retAddr 0, .retAddr 0]) ht rfl rfl ?_
    refine zv_c1 ht rfl rfl ?_
    refine zv_c2 (L' := [.ref 1, .int (gA S 4 0), .int (gA S 4 1), .int (gA S 4 2), .int (gA S 4 3), .int (gA S 4 4), .int (gA S 4 5), .int (gA S 4 6), .int (gA S 4 7), .int 0, .retAddr 0, .retAddr 0]) ht rfl rfl ?_
    exact (h1 b1)
  · replace b1 : ¬ (64 ≤ k) := fun h => b1 ((zi_leE (a := 64) (b := k) rfl rfl (by omega) (by omega)).mpr h)
    refine zv_c1 ht rfl rfl ?_
    refine zv_gl (st' := [.ref 5]) ht rfl hF rfl rfl rfl ?_
    refine zv_c1 ht rfl rfl (zv_c1 ht rfl rfl (zv_c1 ht rfl rfl ?_))
    refine zv_ia (j := (k - 15)) ht rfl rfl rfl rfl (zi_natE (a := (k - 15)) (zi_subE rfl rfl (by omega)) (by omega)) ⟨(Or.inl rfl), zi_inE (a := (k - 15)) (n := 64) (zi_subE rfl rfl (by omega)) (by omega) (by omega)⟩ ?_
    refine zv_c2 (L' := [.ref 1, .int (Int32.ofNat k), .int (gA S 5 (k - 15)), .retAddr 0, .retAddr 0, .retAddr 0, .retAddr 0, .retAddr 0, .retAddr 0, .retAddr 0, .retAddr 0, .retAddr 0]) ht rfl rfl ?_
    refine zv_c1 ht rfl rfl ?_
    refine zv_gl (st' := [.ref 5]) ht rfl hF rfl rfl rfl ?_
    refine zv_c1 ht rfl rfl (zv_c1 ht rfl rfl (zv_c1 ht rfl rfl ?_))
    refine zv_ia (j := (k - 2)) ht rfl rfl rfl rfl (zi_natE (a := (k - 2)) (zi_subE rfl rfl (by omega)) (by omega)) ⟨(Or.inl rfl), zi_inE (a := (k - 2)) (n := 64) (zi_subE rfl rfl (by omega)) (by omega) (by omega)⟩ ?_
    refine zv_c2 (L' := [.ref 1, .int (Int32.ofNat k), .int (gA S 5 (k - 15)), .int (gA S 5 (k - 2)), .retAddr 0, .retAddr 0, .retAddr 0, .retAddr 0, .retAddr 0, .retAddr 0, .retAddr 0, .retAddr 0]) ht rfl rfl ?_
    refine zv_c1 ht rfl rfl ?_
    refine zv_gl (st' := [.ref 5]) ht rfl hF rfl rfl rfl ?_
    refine zv_c1 ht rfl rfl (zv_c1 ht rfl rfl ?_)
    refine zv_gl (st' := [.ref 5, .int (Int32.ofNat k), .ref 5]) ht rfl hF rfl rfl rfl ?_
    refine zv_c1 ht rfl rfl (zv_c1 ht rfl rfl (zv_c1 ht rfl rfl ?_))
    refine zv_ia (j := (k - 16)) ht rfl rfl rfl rfl (zi_natE (a := (k - 16)) (zi_subE rfl rfl (by omega)) (by omega)) ⟨(Or.inl rfl), zi_inE (a := (k - 16)) (n := 64) (zi_subE rfl rfl (by omega)) (by omega) (by omega)⟩ ?_
    refine zv_c1 ht rfl rfl (zv_c1 ht rfl rfl ?_)
    refine zv_cl ht rfl rfl rfl rfl (by omega) (Nat.le_of_ble_eq_true rfl) (x_right (S := S) hF (gA S 5 (k - 15)) 7 ?_)
    show zEv d 48 134 [.ref 1, .int (Int32.ofNat k), .int (gA S 5 (k - 15)), .int (gA S 5 (k - 2)), .retAddr 0, .retAddr 0, .retAddr 0, .retAddr 0, .retAddr 0, .retAddr 0, .retAddr 0, .retAddr 0] [.int (hR (gA S 5 (k - 15)) 7), .int (gA S 5 (k - 16)), .int (Int32.ofNat k), .ref 5] S post
    refine zv_c1 ht rfl rfl (zv_c1 ht rfl rfl ?_)
    refine zv_cl ht rfl rfl rfl rfl (by omega) (Nat.le_of_ble_eq_true rfl) (x_right (S := S) hF (gA S 5 (k - 15)) 18 ?_)
    show zEv d 48 140 [.ref 1, .int (Int32.ofNat k), .int (gA S 5 (k - 15)), .int (gA S 5 (k - 2)), .retAddr 0, .retAddr 0, .retAddr 0, .retAddr 0, .retAddr 0, .retAddr 0, .retAddr 0, .retAddr 0] [.int (hR (gA S 5 (k - 15)) 18), .int (hR (gA S 5 (k - 15)) 7), .int (gA S 5 (k - 16)), .int (Int32.ofNat k), .ref 5] S post
    refine zv_c1 ht rfl rfl (zv_c1 ht rfl rfl (zv_c1 ht rfl rfl (zv_c1 ht rfl rfl (zv_c1 ht rfl rfl (zv_c1 ht rfl rfl (zv_c1 ht rfl rfl ?_))))))
    refine zv_gl (st' := [.ref 5, .int ((gA S 5 (k - 16)) + (((hR (gA S 5 (k - 15)) 7) ^^^ (hR (gA S 5 (k - 15)) 18)) ^^^ (((gA S 5 (k - 15)).toUInt32 >>> (Int32.toUInt32 3 &&& Int32.toUInt32 31)).toInt32))), .int (Int32.ofNat k), .ref 5]) ht rfl hF rfl rfl rfl ?_
    refine zv_c1 ht rfl rfl (zv_c1 ht rfl rfl (zv_c1 ht rfl rfl ?_))
    refine zv_ia (j := (k - 7)) ht rfl rfl rfl rfl (zi_natE (a := (k - 7)) (zi_subE rfl rfl (by omega)) (by omega)) ⟨(Or.inl rfl), zi_inE (a := (k - 7)) (n := 64) (zi_subE rfl rfl (by omega)) (by omega) (by omega)⟩ ?_
    refine zv_c1 ht rfl rfl (zv_c1 ht rfl rfl (zv_c1 ht rfl rfl ?_))
    refine zv_cl ht rfl rfl rfl rfl (by omega) (Nat.le_of_ble_eq_true rfl) (x_right (S := S) hF (gA S 5 (k - 2)) 17 ?_)
    show zEv d 48 162 [.ref 1, .int (Int32.ofNat k), .int (gA S 5 (k - 15)), .int (gA S 5 (k - 2)), .retAddr 0, .retAddr 0, .retAddr 0, .retAddr 0, .retAddr 0, .retAddr 0, .retAddr 0, .retAddr 0] [.int (hR (gA S 5 (k - 2)) 17), .int (((gA S 5 (k - 16)) + (((hR (gA S 5 (k - 15)) 7) ^^^ (hR (gA S 5 (k - 15)) 18)) ^^^ (((gA S 5 (k - 15)).toUInt32 >>> (Int32.toUInt32 3 &&& Int32.toUInt32 31)).toInt32))) + (gA S 5 (k - 7))), .int (Int32.ofNat k), .ref 5] S post
    refine zv_c1 ht rfl rfl (zv_c1 ht rfl rfl ?_)
    refine zv_cl ht rfl rfl rfl rfl (by omega) (Nat.le_of_ble_eq_true rfl) (x_right (S := S) hF (gA S 5 (k - 2)) 19 ?_)
    show zEv d 48 168 [.ref 1, .int (Int32.ofNat k), .int (gA S 5 (k - 15)), .int (gA S 5 (k - 2)), .retAddr 0, .retAddr 0, .retAddr 0, .retAddr 0, .retAddr 0, .retAddr 0, .retAddr 0, .retAddr 0] [.int (hR (gA S 5 (k - 2)) 19), .int (hR (gA S 5 (k - 2)) 17), .int (((gA S 5 (k - 16)) + (((hR (gA S 5 (k - 15)) 7) ^^^ (hR (gA S 5 (k - 15)) 18)) ^^^ (((gA S 5 (k - 15)).toUInt32 >>> (Int32.toUInt32 3 &&& Int32.toUInt32 31)).toInt32))) + (gA S 5 (k - 7))), .int (Int32.ofNat k), .ref 5] S post
    refine zv_c1 ht rfl rfl (zv_c1 ht rfl rfl (zv_c1 ht rfl rfl (zv_c1 ht rfl rfl (zv_c1 ht rfl rfl (zv_c1 ht rfl rfl ?_)))))
    refine zv_is (j := k) (x := q48b_e1 S k) ht rfl rfl rfl rfl (zi_natE (a := k) rfl (by omega)) ⟨rfl, zi_inE (a := k) (n := 64) rfl (by omega) (by omega)⟩ ?_
    refine zv_c2 (L' := [.ref 1, .int ((Int32.ofNat k) + 1), .int (gA S 5 (k - 15)), .int (gA S 5 (k - 2)), .retAddr 0, .retAddr 0, .retAddr 0, .retAddr 0, .retAddr 0, .retAddr 0, .retAddr 0, .retAddr 0]) ht rfl rfl ?_
    refine zv_c1 ht rfl rfl ?_
    exact zEv.wk (L := [.ref 1, .int ((Int32.ofNat k) + 1), .retAddr 0, .retAddr 0, .retAddr 0, .retAddr 0, .retAddr 0, .retAddr 0, .retAddr 0, .retAddr 0, .retAddr 0, .retAddr 0]) (L' := [.ref 1, .int ((Int32.ofNat k) + 1), .int (gA S 5 (k - 15)), .int (gA S 5 (k - 2)), .retAddr 0, .retAddr 0, .retAddr 0, .retAddr 0, .retAddr 0, .retAddr 0, .retAddr 0, .retAddr 0]) (And.intro (Or.inl rfl) (And.intro (Or.inl rfl) (And.intro (Or.inr rfl) (And.intro (Or.inr rfl) (And.intro (Or.inl rfl) (And.intro (Or.inl rfl) (And.intro (Or.inl rfl) (And.intro (Or.inl rfl) (And.intro (Or.inl rfl) (And.intro (Or.inl rfl) (And.intro (Or.inl rfl) (And.intro (Or.inl rfl) trivial)))))))))))) (Eq.mpr (congrArg (fun zz => zEv d 48 89 [.ref 1, .int zz, .retAddr 0, .retAddr 0, .retAddr 0, .retAddr 0, .retAddr 0, .retAddr 0, .retAddr 0, .retAddr 0, .retAddr 0, .retAddr 0] [] (sA S 5 k (q48b_e1 S k)) post) ((zi_addE rfl rfl) : (Int32.ofNat k) + 1 = Int32.ofNat (k + 1))) (h2 b1))

def q48c_e1 (S : zS) (k : Nat) (ve : Int32) (vf : Int32) (vg : Int32) (vh : Int32) : Int32 := (((vh + (((hR ve 6) ^^^ (hR ve 11)) ^^^ (hR ve 25))) + ((ve &&& vf) ^^^ ((ve ^^^ ((-1) : Int32)) &&& vg))) + (gA S 2 k)) + (gA S 5 k)
def q48c_e2 (va : Int32) (vb : Int32) (vc : Int32) : Int32 := (((hR va 2) ^^^ (hR va 13)) ^^^ (hR va 22)) + (((va &&& vb) ^^^ (va &&& vc)) ^^^ (vb &&& vc))
theorem q48c {d : Nat} {S : zS} (hF : zFin true S) (hd : 1 ≤ d) (k : Nat) (va vb vc vd ve vf vg vh : Int32) (hk : k ≤ 64) {post : Outcome × zS → Prop} (h1 : (64 ≤ k) → post (.returned none, sA (sA (sA (sA (sA (sA (sA (sA S 4 0 ((gA S 4 0) + va)) 4 1 ((gA S 4 1) + vb)) 4 2 ((gA S 4 2) + vc)) 4 3 ((gA S 4 3) + vd)) 4 4 ((gA S 4 4) + ve)) 4 5 ((gA S 4 5) + vf)) 4 6 ((gA S 4 6) + vg)) 4 7 ((gA S 4 7) + vh))) (h2 : (¬ (64 ≤ k)) → zEv d 48 248 [.ref 1, .int ((q48c_e1 S k ve vf vg vh) + (q48c_e2 va vb vc)), .int va, .int vb, .int vc, .int (vd + (q48c_e1 S k ve vf vg vh)), .int ve, .int vf, .int vg, .int (Int32.ofNat (k + 1)), .retAddr 0, .retAddr 0] [] S post) : zEv d 48 248 [.ref 1, .int va, .int vb, .int vc, .int vd, .int ve, .int vf, .int vg, .int vh, .int (Int32.ofNat k), .retAddr 0, .retAddr 0] [] S post := by
  have ht : ztab 48 = ztb48 := rfl
  skip
  refine zv_c1 ht rfl rfl (zv_c1 ht rfl rfl ?_)
  refine zv_br ht rfl rfl rfl (fun b1 => ?_) (fun b1 => ?_)
  · replace b1 : 64 ≤ k := (zi_leE (a := 64) (b := k) rfl rfl (by omega) (by omega)).mp b1
    refine zv_c1 ht rfl rfl ?_
    refine zv_gl (st' := [.ref 4]) ht rfl hF rfl rfl rfl ?_
    refine zv_c1 ht rfl rfl (zv_c1 ht rfl rfl ?_)
    refine zv_ia (j := 0) ht rfl rfl rfl rfl (zi_nat (k := 0) (by decide)) ⟨(Or.inl rfl), zi_in (k := 0) (n := 8) (by decide) (by decide)⟩ ?_
    refine zv_c1 ht rfl rfl (zv_c1 ht rfl rfl ?_)
    refine zv_is (j := 0) (x := (gA S 4 0) + va) ht rfl rfl rfl rfl (zi_nat (k := 0) (by decide)) ⟨rfl, zi_in (k := 0) (n := 8) (by decide) (by decide)⟩ ?_
    refine zv_c1 ht rfl rfl ?_
    refine zv_gl (st' := [.ref 4]) ht rfl hF rfl rfl rfl ?_
    refine zv_c1 ht rfl rfl (zv_c1 ht rfl rfl ?_)
    refine zv_ia (j := 1) ht rfl rfl rfl rfl (zi_nat (k := 1) (by decide)) ⟨(Or.inl rfl), zi_in (k := 1) (n := 8) (by decide) (by decide)⟩ ?_
    show zEv d 48 401 [.ref 1, .int va, .int vb, .int vc, .int vd, .int ve, .int vf, .int vg, .int vh, .int (Int32.ofNat k), .retAddr 0, .retAddr 0] [.int (gA S 4 1), .int 1, .ref 4] (sA S 4 0 ((gA S 4 0) + va)) post
    refine zv_c1 ht rfl rfl (zv_c1 ht rfl rfl ?_)
    refine zv_is (j := 1) (x := (gA S 4 1) + vb) ht rfl rfl rfl rfl (zi_nat (k := 1) (by decide)) ⟨rfl, zi_in (k := 1) (n := 8) (by decide) (by decide)⟩ ?_
    refine zv_c1 ht rfl rfl ?_
    refine zv_gl (st' := [.ref 4]) ht rfl hF rfl rfl rfl ?_
    refine zv_c1 ht rfl rfl (zv_c1 ht rfl rfl ?_)
    refine zv_ia (j := 2) ht rfl rfl rfl rfl (zi_nat (k := 2) (by decide)) ⟨(Or.inl rfl), zi_in (k := 2) (n := 8) (by decide) (by decide)⟩ ?_
    show zEv d 48 411 [.ref 1, .int va, .int vb, .int vc, .int vd, .int ve, .int vf, .int vg, .int vh, .int (Int32.ofNat k), .retAddr 0, .retAddr 0] [.int (gA S 4 2), .int 2, .ref 4] (sA (sA S 4 0 ((gA S 4 0) + va)) 4 1 ((gA S 4 1) + vb)) post
    refine zv_c1 ht rfl rfl (zv_c1 ht rfl rfl ?_)
    refine zv_is (j := 2) (x := (gA S 4 2) + vc) ht rfl rfl rfl rfl (zi_nat (k := 2) (by decide)) ⟨rfl, zi_in (k := 2) (n := 8) (by decide) (by decide)⟩ ?_
    refine zv_c1 ht rfl rfl ?_
    refine zv_gl (st' := [.ref 4]) ht rfl hF rfl rfl rfl ?_
    refine zv_c1 ht rfl rfl (zv_c1 ht rfl rfl ?_)
    refine zv_ia (j := 3) ht rfl rfl rfl rfl (zi_nat (k := 3) (by decide)) ⟨(Or.inl rfl), zi_in (k := 3) (n := 8) (by decide) (by decide)⟩ ?_
    show zEv d 48 421 [.ref 1, .int va, .int vb, .int vc, .int vd, .int ve, .int vf, .int vg, .int vh, .int (Int32.ofNat k), .retAddr 0, .retAddr 0] [.int (gA S 4 3), .int 3, .ref 4] (sA (sA (sA S 4 0 ((gA S 4 0) + va)) 4 1 ((gA S 4 1) + vb)) 4 2 ((gA S 4 2) + vc)) post
    refine zv_c1 ht rfl rfl (zv_c1 ht rfl rfl ?_)
    refine zv_is (j := 3) (x := (gA S 4 3) + vd) ht rfl rfl rfl rfl (zi_nat (k := 3) (by decide)) ⟨rfl, zi_in (k := 3) (n := 8) (by decide) (by decide)⟩ ?_
    refine zv_c1 ht rfl rfl ?_
    refine zv_gl (st' := [.ref 4]) ht rfl hF rfl rfl rfl ?_
    refine zv_c1 ht rfl rfl (zv_c1 ht rfl rfl ?_)
    refine zv_ia (j := 4) ht rfl rfl rfl rfl (zi_nat (k := 4) (by decide)) ⟨(Or.inl rfl), zi_in (k := 4) (n := 8) (by decide) (by decide)⟩ ?_
    show zEv d 48 432 [.ref 1, .int va, .int vb, .int vc, .int vd, .int ve, .int vf, .int vg, .int vh, .int (Int32.ofNat k), .retAddr 0, .retAddr 0] [.int (gA S 4 4), .int 4, .ref 4] (sA (sA (sA (sA S 4 0 ((gA S 4 0) + va)) 4 1 ((gA S 4 1) + vb)) 4 2 ((gA S 4 2) + vc)) 4 3 ((gA S 4 3) + vd)) post
    refine zv_c1 ht rfl rfl (zv_c1 ht rfl rfl ?_)
    refine zv_is (j := 4) (x := (gA S 4 4) + ve) ht rfl rfl rfl rfl (zi_nat (k := 4) (by decide)) ⟨rfl, zi_in (k := 4) (n := 8) (by decide) (by decide)⟩ ?_
    refine zv_c1 ht rfl rfl ?_
    refine zv_gl (st' := [.ref 4]) ht rfl hF rfl rfl rfl ?_
    refine zv_c1 ht rfl rfl (zv_c1 ht rfl rfl ?_)
    refine zv_ia (j := 5) ht rfl rfl rfl rfl (zi_nat (k := 5) (by decide)) ⟨(Or.inl rfl), zi_in (k := 5) (n := 8) (by decide) (by decide)⟩ ?_
    show zEv d 48 443 [.ref 1, .int va, .int vb, .int vc, .int vd, .int ve, .int vf, .int vg, .int vh, .int (Int32.ofNat k), .retAddr 0, .retAddr 0] [.int (gA S 4 5), .int 5, .ref 4] (sA (sA (sA (sA (sA S 4 0 ((gA S 4 0) + va)) 4 1 ((gA S 4 1) + vb)) 4 2 ((gA S 4 2) + vc)) 4 3 ((gA S 4 3) + vd)) 4 4 ((gA S 4 4) + ve)) post
    refine zv_c1 ht rfl rfl (zv_c1 ht rfl rfl ?_)
    refine zv_is (j := 5) (x := (gA S 4 5) + vf) ht rfl rfl rfl rfl (zi_nat (k := 5) (by decide)) ⟨rfl, zi_in (k := 5) (n := 8) (by decide) (by decide)⟩ ?_
    refine zv_c1 ht rfl rfl ?_
    refine zv_gl (st' := [.ref 4]) ht rfl hF rfl rfl rfl ?_
    refine zv_c1 ht rfl rfl (zv_c1 ht rfl rfl ?_)
    refine zv_ia (j := 6) ht rfl rfl rfl rfl (zi_nat (k := 6) (by decide)) ⟨(Or.inl rfl), zi_in (k := 6) (n := 8) (by decide) (by decide)⟩ ?_
    show zEv d 48 455 [.ref 1, .int va, .int vb, .int vc, .int vd, .int ve, .int vf, .int vg, .int vh, .int (Int32.ofNat k), .retAddr 0, .retAddr 0] [.int (gA S 4 6), .int 6, .ref 4] (sA (sA (sA (sA (sA (sA S 4 0 ((gA S 4 0) + va)) 4 1 ((gA S 4 1) + vb)) 4 2 ((gA S 4 2) + vc)) 4 3 ((gA S 4 3) + vd)) 4 4 ((gA S 4 4) + ve)) 4 5 ((gA S 4 5) + vf)) post
    refine zv_c1 ht rfl rfl (zv_c1 ht rfl rfl ?_)
    refine zv_is (j := 6) (x := (gA S 4 6) + vg) ht rfl rfl rfl rfl (zi_nat (k := 6) (by decide)) ⟨rfl, zi_in (k := 6) (n := 8) (by decide) (by decide)⟩ ?_
    refine zv_c1 ht rfl rfl ?_
    refine zv_gl (st' := [.ref 4]) ht rfl hF rfl rfl rfl ?_
    refine zv_c1 ht rfl rfl (zv_c1 ht rfl rfl ?_)
    refine zv_ia (j := 7) ht rfl rfl rfl rfl (zi_nat (k := 7) (by decide)) ⟨(Or.inl rfl), zi_in (k := 7) (n := 8) (by decide) (by decide)⟩ ?_
    show zEv d 48 467 [.ref 1, .int va, .int vb, .int vc, .int vd, .int ve, .int vf, .int vg, .int vh, .int (Int32.ofNat k), .retAddr 0, .retAddr 0] [.int (gA S 4 7), .int 7, .ref 4] (sA (sA (sA (sA (sA (sA (sA S 4 0 ((gA S 4 0) + va)) 4 1 ((gA S 4 1) + vb)) 4 2 ((gA S 4 2) + vc)) 4 3 ((gA S 4 3) + vd)) 4 4 ((gA S 4 4) + ve)) 4 5 ((gA S 4 5) + vf)) 4 6 ((gA S 4 6) + vg)) post
    refine zv_c1 ht rfl rfl (zv_c1 ht rfl rfl ?_)
    refine zv_is (j := 7) (x := (gA S 4 7) + vh) ht rfl rfl rfl rfl (zi_nat (k := 7) (by decide)) ⟨rfl, zi_in (k := 7) (n := 8) (by decide) (by decide)⟩ ?_
    exact zv_rt ht rfl rfl rfl rfl (h1 b1)
  · replace b1 : ¬ (64 ≤ k) := fun h => b1 ((zi_leE (a := 64) (b := k) rfl rfl (by omega) (by omega)).mpr h)
    refine zv_c1 ht rfl rfl (zv_c1 ht rfl rfl (zv_c1 ht rfl rfl ?_))
    refine zv_cl ht rfl rfl rfl rfl (by omega) (Nat.le_of_ble_eq_true rfl) (x_right (S := S) hF ve 6 ?_)
    show zEv d 48 264 [.ref 1, .int va, .int vb, .int vc, .int vd, .int ve, .int vf, .int vg, .int vh, .int (Int32.ofNat k), .retAddr 0, .retAddr 0] [.int (hR ve 6), .int vh] S post
    refine zv_c1 ht rfl rfl (zv_c1 ht rfl rfl ?_)
    refine zv_cl ht rfl rfl rfl rfl (by omega) (Nat.le_of_ble_eq_true rfl) (x_right (S := S) hF ve 11 ?_)
    show zEv d 48 271 [.ref 1, .int va, .int vb, .int vc, .int vd, .int ve, .int vf, .int vg, .int vh, .int (Int32.ofNat k), .retAddr 0, .retAddr 0] [.int (hR ve 11), .int (hR ve 6), .int vh] S post
    refine zv_c1 ht rfl rfl (zv_c1 ht rfl rfl (zv_c1 ht rfl rfl ?_))
    refine zv_cl ht rfl rfl rfl rfl (by omega) (Nat.le_of_ble_eq_true rfl) (x_right (S := S) hF ve 25 ?_)
    show zEv d 48 279 [.ref 1, .int va, .int vb, .int vc, .int vd, .int ve, .int vf, .int vg, .int vh, .int (Int32.ofNat k), .retAddr 0, .retAddr 0] [.int (hR ve 25), .int ((hR ve 6) ^^^ (hR ve 11)), .int vh] S post
    refine zv_c1 ht rfl rfl (zv_c1 ht rfl rfl (zv_c1 ht rfl rfl (zv_c1 ht rfl rfl (zv_c1 ht rfl rfl (zv_c1 ht rfl rfl (zv_c1 ht rfl rfl (zv_c1 ht rfl rfl ?_)))))))
    refine zv_c1 ht rfl rfl (zv_c1 ht rfl rfl (zv_c1 ht rfl rfl (zv_c1 ht rfl rfl (zv_c1 ht rfl rfl ?_))))
    refine zv_gl (st' := [.ref 2, .int ((vh + (((hR ve 6) ^^^ (hR ve 11)) ^^^ (hR ve 25))) + ((ve &&& vf) ^^^ ((ve ^^^ ((-1) : Int32)) &&& vg)))]) ht rfl hF rfl rfl rfl ?_
    refine zv_c1 ht rfl rfl ?_
    refine zv_ia (j := k) ht rfl rfl rfl rfl (zi_natE (a := k) rfl (by omega)) ⟨(Or.inl rfl), zi_inE (a := k) (n := 64) rfl (by omega) (by omega)⟩ ?_
    refine zv_c1 ht rfl rfl (zv_c1 ht rfl rfl ?_)
    refine zv_gl (st' := [.ref 5, .int (((vh + (((hR ve 6) ^^^ (hR ve 11)) ^^^ (hR ve 25))) + ((ve &&& vf) ^^^ ((ve ^^^ ((-1) : Int32)) &&& vg))) + (gA S 2 k))]) ht rfl hF rfl rfl rfl ?_
    refine zv_c1 ht rfl rfl ?_
    refine zv_ia (j := k) ht rfl rfl rfl rfl (zi_natE (a := k) rfl (by omega)) ⟨(Or.inl rfl), zi_inE (a := k) (n := 64) rfl (by omega) (by omega)⟩ ?_
    refine zv_c1 ht rfl rfl ?_
    refine zv_c2 (L' := [.ref 1, .int va, .int vb, .int vc, .int vd, .int ve, .int vf, .int vg, .int vh, .int (Int32.ofNat k), .int (q48c_e1 S k ve vf vg vh), .retAddr 0]) ht rfl rfl ?_
    refine zv_c1 ht rfl rfl (zv_c1 ht rfl rfl ?_)
    refine zv_cl ht rfl rfl rfl rfl (by omega) (Nat.le_of_ble_eq_true rfl) (x_right (S := S) hF va 2 ?_)
    show zEv d 48 318 [.ref 1, .int va, .int vb, .int vc, .int vd, .int ve, .int vf, .int vg, .int vh, .int (Int32.ofNat k), .int (q48c_e1 S k ve vf vg vh), .retAddr 0] [.int (hR va 2)] S post
    refine zv_c1 ht rfl rfl (zv_c1 ht rfl rfl ?_)
    refine zv_cl ht rfl rfl rfl rfl (by omega) (Nat.le_of_ble_eq_true rfl) (x_right (S := S) hF va 13 ?_)
    show zEv d 48 324 [.ref 1, .int va, .int vb, .int vc, .int vd, .int ve, .int vf, .int vg, .int vh, .int (Int32.ofNat k), .int (q48c_e1 S k ve vf vg vh), .retAddr 0] [.int (hR va 13), .int (hR va 2)] S post
    refine zv_c1 ht rfl rfl (zv_c1 ht rfl rfl (zv_c1 ht rfl rfl ?_))
    refine zv_cl ht rfl rfl rfl rfl (by omega) (Nat.le_of_ble_eq_true rfl) (x_right (S := S) hF va 22 ?_)
    show zEv d 48 331 [.ref 1, .int va, .int vb, .int vc, .int vd, .int ve, .int vf, .int vg, .int vh, .int (Int32.ofNat k), .int (q48c_e1 S k ve vf vg vh), .retAddr 0] [.int (hR va 22), .int ((hR va 2) ^^^ (hR va 13))] S post
    refine zv_c1 ht rfl rfl (zv_c1 ht rfl rfl (zv_c1 ht rfl rfl (zv_c1 ht rfl rfl (zv_c1 ht rfl rfl (zv_c1 ht rfl rfl (zv_c1 ht rfl rfl (zv_c1 ht rfl rfl ?_)))))))
    refine zv_c1 ht rfl rfl (zv_c1 ht rfl rfl (zv_c1 ht rfl rfl (zv_c1 ht rfl rfl (zv_c1 ht rfl rfl ?_))))
    refine zv_c2 (L' := [.ref 1, .int va, .int vb, .int vc, .int vd, .int ve, .int vf, .int vg, .int vh, .int (Int32.ofNat k), .int (q48c_e1 S k ve vf vg vh), .int (q48c_e2 va vb vc)]) ht rfl rfl ?_
    refine zv_c1 ht rfl rfl ?_
    refine zv_c2 (L' := [.ref 1, .int va, .int vb, .int vc, .int vd, .int ve, .int vf, .int vg, .int vg, .int (Int32.ofNat k), .int (q48c_e1 S k ve vf vg vh), .int (q48c_e2 va vb vc)]) ht rfl rfl ?_
    refine zv_c1 ht rfl rfl ?_
    refine zv_c2 (L' := [.ref 1, .int va, .int vb, .int vc, .int vd, .int ve, .int vf, .int vf, .int vg, .int (Int32.ofNat k), .int (q48c_e1 S k ve vf vg vh), .int (q48c_e2 va vb vc)]) ht rfl rfl ?_
    refine zv_c1 ht rfl rfl ?_
    refine zv_c2 (L' := [.ref 1, .int va, .int vb, .int vc, .int vd, .int ve, .int ve, .int vf, .int vg, .int (Int32.ofNat k), .int (q48c_e1 S k ve vf vg vh), .int (q48c_e2 va vb vc)]) ht rfl rfl ?_
    refine zv_c1 ht rfl rfl (zv_c1 ht rfl rfl (zv_c1 ht rfl rfl ?_))
    refine zv_c2 (L' := [.ref 1, .int va, .int vb, .int vc, .int vd, .int (vd + (q48c_e1 S k ve vf vg vh)), .int ve, .int vf, .int vg, .int (Int32.ofNat k), .int (q48c_e1 S k ve vf vg vh), .int (q48c_e2 va vb vc)]) ht rfl rfl ?_
    refine zv_c1 ht rfl rfl ?_
    refine zv_c2 (L' := [.ref 1, .int va, .int vb, .int vc, .int vc, .int (vd + (q48c_e1 S k ve vf vg vh)), .int ve, .int vf, .int vg, .int (Int32.ofNat k), .int (q48c_e1 S k ve vf vg vh), .int (q48c_e2 va vb vc)]) ht rfl rfl ?_
    refine zv_c1 ht rfl rfl ?_
    refine zv_c2 (L' := [.ref 1, .int va, .int vb, .int vb, .int vc, .int (vd + (q48c_e1 S k ve vf vg vh)), .int ve, .int vf, .int vg, .int (Int32.ofNat k), .int (q48c_e1 S k ve vf vg vh), .int (q48c_e2 va vb vc)]) ht rfl rfl ?_
    refine zv_c1 ht rfl rfl ?_
    refine zv_c2 (L' := [.ref 1, .int va, .int va, .int vb, .int vc, .int (vd + (q48c_e1 S k ve vf vg vh)), .int ve, .int vf, .int vg, .int (Int32.ofNat k), .int (q48c_e1 S k ve vf vg vh), .int (q48c_e2 va vb vc)]) ht rfl rfl ?_
    refine zv_c1 ht rfl rfl (zv_c1 ht rfl rfl (zv_c1 ht rfl rfl ?_))
    refine zv_c2 (L' := [.ref 1, .int ((q48c_e1 S k ve vf vg vh) + (q48c_e2 va vb vc)), .int va, .int vb, .int vc, .int (vd + (q48c_e1 S k ve vf vg vh)), .int ve, .int vf, .int vg, .int (Int32.ofNat k), .int (q48c_e1 S k ve vf vg vh), .int (q48c_e2 va vb vc)]) ht rfl rfl ?_
    refine zv_c2 (L' := [.ref 1, .int ((q48c_e1 S k ve vf vg vh) + (q48c_e2 va vb vc)), .int va, .int vb, .int vc, .int (vd + (q48c_e1 S k ve vf vg vh)), .int ve, .int vf, .int vg, .int ((Int32.ofNat k) + 1), .int (q48c_e1 S k ve vf vg vh), .int (q48c_e2 va vb vc)]) ht rfl rfl ?_
    refine zv_c1 ht rfl rfl ?_
    exact zEv.wk (L := [.ref 1, .int ((q48c_e1 S k ve vf vg vh) + (q48c_e2 va vb vc)), .int va, .int vb, .int vc, .int (vd + (q48c_e1 S k ve vf vg vh)), .int ve, .int vf, .int vg, .int ((Int32.ofNat k) + 1), .retAddr 0, .retAddr 0]) (L' := [.ref 1, .int ((q48c_e1 S k ve vf vg vh) + (q48c_e2 va vb vc)), .int va, .int vb, .int vc, .int (vd + (q48c_e1 S k ve vf vg vh)), .int ve, .int vf, .int vg, .int ((Int32.ofNat k) + 1), .int (q48c_e1 S k ve vf vg vh), .int (q48c_e2 va vb vc)]) (And.intro (Or.inl rfl) (And.intro (Or.inl rfl) (And.intro (Or.inl rfl) (And.intro (Or.inl rfl) (And.intro (Or.inl rfl) (And.intro (Or.inl rfl) (And.intro (Or.inl rfl) (And.intro (Or.inl rfl) (And.intro (Or.inl rfl) (And.intro (Or.inl rfl) (And.intro (Or.inr rfl) (And.intro (Or.inr rfl) trivial)))))))))))) (Eq.mpr (congrArg (fun zz => zEv d 48 248 [.ref 1, .int ((q48c_e1 S k ve vf vg vh) + (q48c_e2 va vb vc)), .int va, .int vb, .int vc, .int (vd + (q48c_e1 S k ve vf vg vh)), .int ve, .int vf, .int vg, .int zz, .retAddr 0, .retAddr 0] [] S post) ((zi_addE rfl rfl) : (Int32.ofNat k) + 1 = Int32.ofNat (k + 1))) (h2 b1))

theorem q107 {d : Nat} {S : zS} (hF : zFin true S) (at0 : Nat) (ha : at0 ≤ 192) {post : Outcome × zS → Prop} (h1 : zEv d 107 2 [.ref 1592, .int (Int32.ofNat at0), .int (Int32.ofNat 0), .retAddr 0, .retAddr 0, .retAddr 0, .retAddr 0, .retAddr 0, .retAddr 0, .retAddr 0, .retAddr 0, .retAddr 0, .retAddr 0] [] S post) : zCall d 107 [.ref 1592, .int (Int32.ofNat at0)] S post := by
  have ht : ztab 107 = ztb107 := rfl
  show zEv d 107 0 [.ref 1592, .int (Int32.ofNat at0), .retAddr 0, .retAddr 0, .retAddr 0, .retAddr 0, .retAddr 0, .retAddr 0, .retAddr 0, .retAddr 0, .retAddr 0, .retAddr 0, .retAddr 0] [] S post
  refine zv_c1 ht rfl rfl ?_
  refine zv_c2 (L' := [.ref 1592, .int (Int32.ofNat at0), .int 0, .retAddr 0, .retAddr 0, .retAddr 0, .retAddr 0, .retAddr 0, .retAddr 0, .retAddr 0, .retAddr 0, .retAddr 0, .retAddr 0]) ht rfl rfl ?_
  exact h1

theorem q107a {d : Nat} {S : zS} (hF : zFin true S) (at0 k : Nat) (ha : at0 ≤ 192) (hk : k ≤ 16) {post : Outcome × zS → Prop} (h1 : (16 ≤ k) → zEv d 107 65 [.ref 1592, .retAddr 0, .int (Int32.ofNat 16), .retAddr 0, .retAddr 0, .retAddr 0, .retAddr 0, .retAddr 0, .retAddr 0, .retAddr 0, .retAddr 0, .retAddr 0, .retAddr 0] [] S post) (h2 : (¬ (16 ≤ k)) → zEv d 107 17 [.ref 1592, .int (Int32.ofNat at0), .int (Int32.ofNat k), .int (Int32.ofNat 0), .retAddr 0, .retAddr 0, .retAddr 0, .retAddr 0, .retAddr 0, .retAddr 0, .retAddr 0, .retAddr 0, .retAddr 0] [] (sA S 1596 k 0) post) : zEv d 107 2 [.ref 1592, .int (Int32.ofNat at0), .int (Int32.ofNat k), .retAddr 0, .retAddr 0, .retAddr 0, .retAddr 0, .retAddr 0, .retAddr 0, .retAddr 0, .retAddr 0, .retAddr 0, .retAddr 0] [] S post := by
  have ht : ztab 107 = ztb107 := rfl
  skip
  refine zv_c1 ht rfl rfl (zv_c1 ht rfl rfl ?_)
  refine zv_br ht rfl rfl rfl (fun b1 => ?_) (fun b1 => ?_)
  · replace b1 : 16 ≤ k := (zi_leE (a := 16) (b := k) rfl rfl (by omega) (by omega)).mp b1
    refine zv_c1 ht rfl rfl ?_
    refine zv_c2 (L' := [.ref 1592, .int (Int32.ofNat at0), .int 16, .retAddr 0, .retAddr 0, .retAddr 0, .retAddr 0, .retAddr 0, .retAddr 0, .retAddr 0, .retAddr 0, .retAddr 0, .retAddr 0]) ht rfl rfl ?_
    exact zEv.wk (L := [.ref 1592, .retAddr 0, .int 16, .retAddr 0, .retAddr 0, .retAddr 0, .retAddr 0, .retAddr 0, .retAddr 0, .retAddr 0, .retAddr 0, .retAddr 0, .retAddr 0]) (L' := [.ref 1592, .int (Int32.ofNat at0), .int 16, .retAddr 0, .retAddr 0, .retAddr 0, .retAddr 0, .retAddr 0, .retAddr 0, .retAddr 0, .retAddr 0, .retAddr 0, .retAddr 0]) (And.intro (Or.inl rfl) (And.intro (Or.inr rfl) (And.intro (Or.inl rfl) (And.intro (Or.inl rfl) (And.intro (Or.inl rfl) (And.intro (Or.inl rfl) (And.intro (Or.inl rfl) (And.intro (Or.inl rfl) (And.intro (Or.inl rfl) (And.intro (Or.inl rfl) (And.intro (Or.inl rfl) (And.intro (Or.inl rfl) (And.intro (Or.inl rfl) trivial))))))))))))) (h1 b1)
  · replace b1 : ¬ (16 ≤ k) := fun h => b1 ((zi_leE (a := 16) (b := k) rfl rfl (by omega) (by omega)).mpr h)
    refine zv_c1 ht rfl rfl ?_
    refine zv_gl (st' := [.ref 1596]) ht rfl hF rfl rfl rfl ?_
    refine zv_c1 ht rfl rfl (zv_c1 ht rfl rfl ?_)
    refine zv_is (j := k) (x := 0) ht rfl rfl rfl rfl (zi_natE (a := k) rfl (by omega)) ⟨rfl, zi_inE (a := k) (n := 64) rfl (by omega) (by omega)⟩ ?_
    refine zv_c1 ht rfl rfl ?_
    refine zv_c2 (L' := [.ref 1592, .int (Int32.ofNat at0), .int (Int32.ofNat k), .int 0, .retAddr 0, .retAddr 0, .retAddr 0, .retAddr 0, .retAddr 0, .retAddr 0, .retAddr 0, .retAddr 0, .retAddr 0]) ht rfl rfl ?_
    exact (h2 b1)

def q107a2_e1 (S : zS) (at0 : Nat) (k : Nat) (i : Nat) : Int32 := ((gA S 1596 k) <<< (8 &&& 31) : Int32) ||| (gA S 1594 ((at0 + (4 * k)) + i))
theorem q107a2 {d : Nat} {S : zS} (hF : zFin true S) (at0 k i : Nat) (ha : at0 ≤ 192) (hk : k < 16) (hi : i ≤ 4) {post : Outcome × zS → Prop} (h1 : (4 ≤ i) → zEv d 107 2 [.ref 1592, .int (Int32.ofNat at0), .int (Int32.ofNat (k + 1)), .retAddr 0, .retAddr 0, .retAddr 0, .retAddr 0, .retAddr 0, .retAddr 0, .retAddr 0, .retAddr 0, .retAddr 0, .retAddr 0] [] S post) (h2 : (¬ (4 ≤ i)) → zEv d 107 17 [.ref 1592, .int (Int32.ofNat at0), .int (Int32.ofNat k), .int (Int32.ofNat (i + 1)), .retAddr 0, .retAddr 0, .retAddr 0, .retAddr 0, .retAddr 0, .retAddr 0, .retAddr 0, .retAddr 0, .retAddr 0] [] (sA S 1596 k (q107a2_e1 S at0 k i)) post) : zEv d 107 17 [.ref 1592, .int (Int32.ofNat at0), .int (Int32.ofNat k), .int (Int32.ofNat i), .retAddr 0, .retAddr 0, .retAddr 0, .retAddr 0, .retAddr 0, .retAddr 0, .retAddr 0, .retAddr 0, .retAddr 0] [] S post := by
  have ht : ztab 107 = ztb107 := rfl
  skip
  refine zv_c1 ht rfl rfl (zv_c1 ht rfl rfl ?_)
  refine zv_br ht rfl rfl rfl (fun b1 => ?_) (fun b1 => ?_)
  · replace b1 : 4 ≤ i := (zi_leE (a := 4) (b := i) rfl rfl (by omega) (by omega)).mp b1
    refine zv_c2 (L' := [.ref 1592, .int (Int32.ofNat at0), .int ((Int32.ofNat k) + 1), .int (Int32.ofNat i), .retAddr 0, .retAddr 0, .retAddr 0, .retAddr 0, .retAddr 0, .retAddr 0, .retAddr 0, .retAddr 0, .retAddr 0]) ht rfl rfl ?_
    refine zv_c1 ht rfl rfl ?_
    exact zEv.wk (L := [.ref 1592, .int (Int32.ofNat at0), .int ((Int32.ofNat k) + 1), .retAddr 0, .retAddr 0, .retAddr 0, .retAddr 0, .retAddr 0, .retAddr 0, .retAddr 0, .retAddr 0, .retAddr 0, .retAddr 0]) (L' := [.ref 1592, .int (Int32.ofNat at0), .int ((Int32.ofNat k) + 1), .int (Int32.ofNat i), .retAddr 0, .retAddr 0, .retAddr 0, .retAddr 0, .retAddr 0, .retAddr 0, .retAddr 0, .retAddr 0, .retAddr 0]) (And.intro (Or.inl rfl) (And.intro (Or.inl rfl) (And.intro (Or.inl rfl) (And.intro (Or.inr rfl) (And.intro (Or.inl rfl) (And.intro (Or.inl rfl) (And.intro (Or.inl rfl) (And.intro (Or.inl rfl) (And.intro (Or.inl rfl) (And.intro (Or.inl rfl) (And.intro (Or.inl rfl) (And.intro (Or.inl rfl) (And.intro (Or.inl rfl) trivial))))))))))))) (Eq.mpr (congrArg (fun zz => zEv d 107 2 [.ref 1592, .int (Int32.ofNat at0), .int zz, .retAddr 0, .retAddr 0, .retAddr 0, .retAddr 0, .retAddr 0, .retAddr 0, .retAddr 0, .retAddr 0, .retAddr 0, .retAddr 0] [] S post) ((zi_addE rfl rfl) : (Int32.ofNat k) + 1 = Int32.ofNat (k + 1))) (h1 b1))
  · replace b1 : ¬ (4 ≤ i) := fun h => b1 ((zi_leE (a := 4) (b := i) rfl rfl (by omega) (by omega)).mpr h)
    refine zv_c1 ht rfl rfl ?_
    refine zv_gl (st' := [.ref 1596]) ht rfl hF rfl rfl rfl ?_
    refine zv_c1 ht rfl rfl (zv_c1 ht rfl rfl ?_)
    refine zv_gl (st' := [.ref 1596, .int (Int32.ofNat k), .ref 1596]) ht rfl hF rfl rfl rfl ?_
    refine zv_c1 ht rfl rfl ?_
    refine zv_ia (j := k) ht rfl rfl rfl rfl (zi_natE (a := k) rfl (by omega)) ⟨(Or.inl rfl), zi_inE (a := k) (n := 64) rfl (by omega) (by omega)⟩ ?_
    refine zv_c1 ht rfl rfl (zv_c1 ht rfl rfl (zv_c1 ht rfl rfl ?_))
    refine zv_gl (st' := [.ref 1594, .int ((gA S 1596 k) <<< (8 &&& 31) : Int32), .int (Int32.ofNat k), .ref 1596]) ht rfl hF rfl rfl rfl ?_
    refine zv_c1 ht rfl rfl (zv_c1 ht rfl rfl (zv_c1 ht rfl rfl ?_))
    refine zv_e1 (x := Int32.ofNat (4 * k)) ht rfl rfl (zi_mulE rfl rfl) ?_
    refine zv_e1 (x := Int32.ofNat (at0 + (4 * k))) ht rfl rfl (zi_addE rfl rfl) ?_
    refine zv_c1 ht rfl rfl ?_
    refine zv_e1 (x := Int32.ofNat ((at0 + (4 * k)) + i)) ht rfl rfl (zi_addE rfl rfl) ?_
    refine zv_ia (j := ((at0 + (4 * k)) + i)) ht rfl rfl rfl rfl (zi_natE (a := ((at0 + (4 * k)) + i)) rfl (by omega)) ⟨(Or.inl rfl), zi_inE (a := ((at0 + (4 * k)) + i)) (n := 256) rfl (by omega) (by omega)⟩ ?_
    refine zv_c1 ht rfl rfl ?_
    refine zv_is (j := k) (x := q107a2_e1 S at0 k i) ht rfl rfl rfl rfl (zi_natE (a := k) rfl (by omega)) ⟨rfl, zi_inE (a := k) (n := 64) rfl (by omega) (by omega)⟩ ?_
    refine zv_c2 (L' := [.ref 1592, .int (Int32.ofNat at0), .int (Int32.ofNat k), .int ((Int32.ofNat i) + 1), .retAddr 0, .retAddr 0, .retAddr 0, .retAddr 0, .retAddr 0, .retAddr 0, .retAddr 0, .retAddr 0, .retAddr 0]) ht rfl rfl ?_
    refine zv_c1 ht rfl rfl ?_
    exact (Eq.mpr (congrArg (fun zz => zEv d 107 17 [.ref 1592, .int (Int32.ofNat at0), .int (Int32.ofNat k), .int zz, .retAddr 0, .retAddr 0, .retAddr 0, .retAddr 0, .retAddr 0, .retAddr 0, .retAddr 0, .retAddr 0, .retAddr 0] [] (sA S 1596 k (q107a2_e1 S at0 k i)) post) ((zi_addE rfl rfl) : (Int32.ofNat i) + 1 = Int32.ofNat (i + 1))) (h2 b1))

def q107b_e1 (S : zS) (k : Nat) : Int32 := (((gA S 1596 (k - 16)) + (((hR (gA S 1596 (k - 15)) 7) ^^^ (hR (gA S 1596 (k - 15)) 18)) ^^^ (((gA S 1596 (k - 15)).toUInt32 >>> (Int32.toUInt32 3 &&& Int32.toUInt32 31)).toInt32))) + (gA S 1596 (k - 7))) + (((hR (gA S 1596 (k - 2)) 17) ^^^ (hR (gA S 1596 (k - 2)) 19)) ^^^ (((gA S 1596 (k - 2)).toUInt32 >>> (Int32.toUInt32 10 &&& Int32.toUInt32 31)).toInt32))
theorem q107b {d : Nat} {S : zS} (hF : zFin true S) (hd : 1 ≤ d) (k : Nat) (hk : k ≤ 64) (hk2 : 16 ≤ k) {post : Outcome × zS → Prop} (h1 : (64 ≤ k) → zEv d 107 229 [.ref 1592, .retAddr 0, .int (gA S 1597 0), .int (gA S 1597 1), .int (gA S 1597 2), .int (gA S 1597 3), .int (gA S 1597 4), .int (gA S 1597 5), .int (gA S 1597 6), .int (gA S 1597 7), .int (Int32.ofNat 0), .retAddr 0, .retAddr 0] [] S post) (h2 : (¬ (64 ≤ k)) → zEv d 107 65 [.ref 1592, .retAddr 0, .int (Int32.ofNat (k + 1)), .retAddr 0, .retAddr 0, .retAddr 0, .retAddr 0, .retAddr 0, .retAddr 0, .retAddr 0, .retAddr 0, .retAddr 0, .retAddr 0] [] (sA S 1596 k (q107b_e1 S k)) post) : zEv d 107 65 [.ref 1592, .retAddr 0, .int (Int32.ofNat k), .retAddr 0, .retAddr 0, .retAddr 0, .retAddr 0, .retAddr 0, .retAddr 0, .retAddr 0, .retAddr 0, .retAddr 0, .retAddr 0] [] S post := by
  have ht : ztab 107 = ztb107 := rfl
  skip
  refine zv_c1 ht rfl rfl (zv_c1 ht rfl rfl ?_)
  refine zv_br ht rfl rfl rfl (fun b1 => ?_) (fun b1 => ?_)
  · replace b1 : 64 ≤ k := (zi_leE (a := 64) (b := k) rfl rfl (by omega) (by omega)).mp b1
    refine zv_c1 ht rfl rfl ?_
    refine zv_gl (st' := [.ref 1597]) ht rfl hF rfl rfl rfl ?_
    refine zv_c1 ht rfl rfl ?_
    refine zv_ia (j := 0) ht rfl rfl rfl rfl (zi_nat (k := 0) (by decide)) ⟨(Or.inl rfl), zi_in (k := 0) (n := 8) (by decide) (by decide)⟩ ?_
    refine zv_c2 (L' := [.ref 1592, .retAddr 0, .int (gA S 1597 0), .retAddr 0, .retAddr 0, .retAddr 0, .retAddr 0, .retAddr 0, .retAddr 0, .retAddr 0, .retAddr 0, .retAddr 0, .retAddr 0]) ht rfl rfl ?_
    refine zv_c1 ht rfl rfl ?_
    refine zv_gl (st' := [.ref 1597]) ht rfl hF rfl rfl rfl ?_
    refine zv_c1 ht rfl rfl ?_
    refine zv_ia (j := 1) ht rfl rfl rfl rfl (zi_nat (k := 1) (by decide)) ⟨(Or.inl rfl), zi_in (k := 1) (n := 8) (by decide) (by decide)⟩ ?_
    refine zv_c2 (L' := [.ref 1592, .retAddr 0, .int (gA S 1597 0), .int (gA S 1597 1), .retAddr 0, .retAddr 0, .retAddr 0, .retAddr 0, .retAddr 0, .retAddr 0, .retAddr 0, .retAddr 0, .retAddr 0]) ht rfl rfl ?_
    refine zv_c1 ht rfl rfl ?_
    refine zv_gl (st' := [.ref 1597]) ht rfl hF rfl rfl rfl ?_
    refine zv_c1 ht rfl rfl ?_
    refine zv_ia (j := 2) ht rfl rfl rfl rfl (zi_nat (k := 2) (by decide)) ⟨(Or.inl rfl), zi_in (k := 2) (n := 8) (by decide) (by decide)⟩ ?_
    refine zv_c2 (L' := [.ref 1592, .retAddr 0, .int (gA S 1597 0), .int (gA S 1597 1), .int (gA S 1597 2), .retAddr 0, .retAddr 0, .retAddr 0, .retAddr 0, .retAddr 0, .retAddr 0, .retAddr 0, .retAddr 0]) ht rfl rfl ?_
    refine zv_c1 ht rfl rfl ?_
    refine zv_gl (st' := [.ref 1597]) ht rfl hF rfl rfl rfl ?_
    refine zv_c1 ht rfl rfl ?_
    refine zv_ia (j := 3) ht rfl rfl rfl rfl (zi_nat (k := 3) (by decide)) ⟨(Or.inl rfl), zi_in (k := 3) (n := 8) (by decide) (by decide)⟩ ?_
    refine zv_c2 (L' := [.ref 1592, .retAddr 0, .int (gA S 1597 0), .int (gA S 1597 1), .int (gA S 1597 2), .int (gA S 1597 3), .retAddr 0, .retAddr 0, .retAddr 0, .retAddr 0, .retAddr 0, .retAddr 0, .retAddr 0]) ht rfl rfl ?_
    refine zv_c1 ht rfl rfl ?_
    refine zv_gl (st' := [.ref 1597]) ht rfl hF rfl rfl rfl ?_
    refine zv_c1 ht rfl rfl ?_
    refine zv_ia (j := 4) ht rfl rfl rfl rfl (zi_nat (k := 4) (by decide)) ⟨(Or.inl rfl), zi_in (k := 4) (n := 8) (by decide) (by decide)⟩ ?_
    refine zv_c2 (L' := [.ref 1592, .retAddr 0, .int (gA S 1597 0), .int (gA S 1597 1), .int (gA S 1597 2), .int (gA S 1597 3), .int (gA S 1597 4), .retAddr 0, .retAddr 0, .retAddr 0, .retAddr 0, .retAddr 0, .retAddr 0]) ht rfl rfl ?_
    refine zv_c1 ht rfl rfl ?_
    refine zv_gl (st' := [.ref 1597]) ht rfl hF rfl rfl rfl ?_
    refine zv_c1 ht rfl rfl ?_
    refine zv_ia (j := 5) ht rfl rfl rfl rfl (zi_nat (k := 5) (by decide)) ⟨(Or.inl rfl), zi_in (k := 5) (n := 8) (by decide) (by decide)⟩ ?_
    refine zv_c2 (L' := [.ref 1592, .retAddr 0, .int (gA S 1597 0), .int (gA S 1597 1), .int (gA S 1597 2), .int (gA S 1597 3), .int (gA S 1597 4), .int (gA S 1597 5), .retAddr 0, .retAddr 0, .retAddr 0, .retAddr 0, .retAddr 0]) ht rfl rfl ?_
    refine zv_c1 ht rfl rfl ?_
    refine zv_gl (st' := [.ref 1597]) ht rfl hF rfl rfl rfl ?_
    refine zv_c1 ht rfl rfl ?_
    refine zv_ia (j := 6) ht rfl rfl rfl rfl (zi_nat (k := 6) (by decide)) ⟨(Or.inl rfl), zi_in (k := 6) (n := 8) (by decide) (by decide)⟩ ?_
    refine zv_c2 (L' := [.ref 1592, .retAddr 0, .int (gA S 1597 0), .int (gA S 1597 1), .int (gA S 1597 2), .int (gA S 1597 3), .int (gA S 1597 4), .int (gA S 1597 5), .int (gA S 1597 6), .retAddr 0, .retAddr 0, .retAddr 0, .retAddr 0]) ht rfl rfl ?_
    refine zv_c1 ht rfl rfl ?_
    refine zv_gl (st' := [.ref 1597]) ht rfl hF rfl rfl rfl ?_
    refine zv_c1 ht rfl rfl ?_
    refine zv_ia (j := 7) ht rfl rfl rfl rfl (zi_nat (k := 7) (by decide)) ⟨(Or.inl rfl), zi_in (k := 7) (n := 8) (by decide) (by decide)⟩ ?_
    refine zv_c2 (L' := [.ref 1592, .retAddr 0, .int (gA S 1597 0), .int (gA S 1597 1), .int (gA S 1597 2), .int (gA S 1597 3), .int (gA S 1597 4), .int (gA S 1597 5), .int (gA S 1597 6), .int (gA S 1597 7), .retAddr 0, .retAddr 0, .retAddr 0]) ht rfl rfl ?_
    refine zv_c1 ht rfl rfl ?_
    refine zv_c2 (L' := [.ref 1592, .retAddr 0, .int (gA S 1597 0), .int (gA S 1597 1), .int (gA S 1597 2), .int (gA S 1597 3), .int (gA S 1597 4), .int (gA S 1597 5), .int (gA S 1597 6), .int (gA S 1597 7), .int 0, .retAddr 0, .retAddr 0]) ht rfl rfl ?_
    exact (h1 b1)
  · replace b1 : ¬ (64 ≤ k) := fun h => b1 ((zi_leE (a := 64) (b := k) rfl rfl (by omega) (by omega)).mpr h)
    refine zv_c1 ht rfl rfl ?_
    refine zv_gl (st' := [.ref 1596]) ht rfl hF rfl rfl rfl ?_
    refine zv_c1 ht rfl rfl (zv_c1 ht rfl rfl (zv_c1 ht rfl rfl ?_))
    refine zv_ia (j := (k - 15)) ht rfl rfl rfl rfl (zi_natE (a := (k - 15)) (zi_subE rfl rfl (by omega)) (by omega)) ⟨(Or.inl rfl), zi_inE (a := (k - 15)) (n := 64) (zi_subE rfl rfl (by omega)) (by omega) (by omega)⟩ ?_
    refine zv_c2 (L' := [.ref 1592, .retAddr 0, .int (Int32.ofNat k), .int (gA S 1596 (k - 15)), .retAddr 0, .retAddr 0, .retAddr 0, .retAddr 0, .retAddr 0, .retAddr 0, .retAddr 0, .retAddr 0, .retAddr 0]) ht rfl rfl ?_
    refine zv_c1 ht rfl rfl ?_
    refine zv_gl (st' := [.ref 1596]) ht rfl hF rfl rfl rfl ?_
    refine zv_c1 ht rfl rfl (zv_c1 ht rfl rfl (zv_c1 ht rfl rfl ?_))
    refine zv_ia (j := (k - 2)) ht rfl rfl rfl rfl (zi_natE (a := (k - 2)) (zi_subE rfl rfl (by omega)) (by omega)) ⟨(Or.inl rfl), zi_inE (a := (k - 2)) (n := 64) (zi_subE rfl rfl (by omega)) (by omega) (by omega)⟩ ?_
    refine zv_c2 (L' := [.ref 1592, .retAddr 0, .int (Int32.ofNat k), .int (gA S 1596 (k - 15)), .int (gA S 1596 (k - 2)), .retAddr 0, .retAddr 0, .retAddr 0, .retAddr 0, .retAddr 0, .retAddr 0, .retAddr 0, .retAddr 0]) ht rfl rfl ?_
    refine zv_c1 ht rfl rfl ?_
    refine zv_gl (st' := [.ref 1596]) ht rfl hF rfl rfl rfl ?_
    refine zv_c1 ht rfl rfl (zv_c1 ht rfl rfl ?_)
    refine zv_gl (st' := [.ref 1596, .int (Int32.ofNat k), .ref 1596]) ht rfl hF rfl rfl rfl ?_
    refine zv_c1 ht rfl rfl (zv_c1 ht rfl rfl (zv_c1 ht rfl rfl ?_))
    refine zv_ia (j := (k - 16)) ht rfl rfl rfl rfl (zi_natE (a := (k - 16)) (zi_subE rfl rfl (by omega)) (by omega)) ⟨(Or.inl rfl), zi_inE (a := (k - 16)) (n := 64) (zi_subE rfl rfl (by omega)) (by omega) (by omega)⟩ ?_
    refine zv_c1 ht rfl rfl (zv_c1 ht rfl rfl ?_)
    refine zv_cl ht rfl rfl rfl rfl (by omega) (Nat.le_of_ble_eq_true rfl) (m_right (S := S) hF (gA S 1596 (k - 15)) 7 ?_)
    show zEv d 107 111 [.ref 1592, .retAddr 0, .int (Int32.ofNat k), .int (gA S 1596 (k - 15)), .int (gA S 1596 (k - 2)), .retAddr 0, .retAddr 0, .retAddr 0, .retAddr 0, .retAddr 0, .retAddr 0, .retAddr 0, .retAddr 0] [.int (hR (gA S 1596 (k - 15)) 7), .int (gA S 1596 (k - 16)), .int (Int32.ofNat k), .ref 1596] S post
    refine zv_c1 ht rfl rfl (zv_c1 ht rfl rfl ?_)
    refine zv_cl ht rfl rfl rfl rfl (by omega) (Nat.le_of_ble_eq_true rfl) (m_right (S := S) hF (gA S 1596 (k - 15)) 18 ?_)
    show zEv d 107 117 [.ref 1592, .retAddr 0, .int (Int32.ofNat k), .int (gA S 1596 (k - 15)), .int (gA S 1596 (k - 2)), .retAddr 0, .retAddr 0, .retAddr 0, .retAddr 0, .retAddr 0, .retAddr 0, .retAddr 0, .retAddr 0] [.int (hR (gA S 1596 (k - 15)) 18), .int (hR (gA S 1596 (k - 15)) 7), .int (gA S 1596 (k - 16)), .int (Int32.ofNat k), .ref 1596] S post
    refine zv_c1 ht rfl rfl (zv_c1 ht rfl rfl (zv_c1 ht rfl rfl (zv_c1 ht rfl rfl (zv_c1 ht rfl rfl (zv_c1 ht rfl rfl (zv_c1 ht rfl rfl ?_))))))
    refine zv_gl (st' := [.ref 1596, .int ((gA S 1596 (k - 16)) + (((hR (gA S 1596 (k - 15)) 7) ^^^ (hR (gA S 1596 (k - 15)) 18)) ^^^ (((gA S 1596 (k - 15)).toUInt32 >>> (Int32.toUInt32 3 &&& Int32.toUInt32 31)).toInt32))), .int (Int32.ofNat k), .ref 1596]) ht rfl hF rfl rfl rfl ?_
    refine zv_c1 ht rfl rfl (zv_c1 ht rfl rfl (zv_c1 ht rfl rfl ?_))
    refine zv_ia (j := (k - 7)) ht rfl rfl rfl rfl (zi_natE (a := (k - 7)) (zi_subE rfl rfl (by omega)) (by omega)) ⟨(Or.inl rfl), zi_inE (a := (k - 7)) (n := 64) (zi_subE rfl rfl (by omega)) (by omega) (by omega)⟩ ?_
    refine zv_c1 ht rfl rfl (zv_c1 ht rfl rfl (zv_c1 ht rfl rfl ?_))
    refine zv_cl ht rfl rfl rfl rfl (by omega) (Nat.le_of_ble_eq_true rfl) (m_right (S := S) hF (gA S 1596 (k - 2)) 17 ?_)
    show zEv d 107 140 [.ref 1592, .retAddr 0, .int (Int32.ofNat k), .int (gA S 1596 (k - 15)), .int (gA S 1596 (k - 2)), .retAddr 0, .retAddr 0, .retAddr 0, .retAddr 0, .retAddr 0, .retAddr 0, .retAddr 0, .retAddr 0] [.int (hR (gA S 1596 (k - 2)) 17), .int (((gA S 1596 (k - 16)) + (((hR (gA S 1596 (k - 15)) 7) ^^^ (hR (gA S 1596 (k - 15)) 18)) ^^^ (((gA S 1596 (k - 15)).toUInt32 >>> (Int32.toUInt32 3 &&& Int32.toUInt32 31)).toInt32))) + (gA S 1596 (k - 7))), .int (Int32.ofNat k), .ref 1596] S post
    refine zv_c1 ht rfl rfl (zv_c1 ht rfl rfl ?_)
    refine zv_cl ht rfl rfl rfl rfl (by omega) (Nat.le_of_ble_eq_true rfl) (m_right (S := S) hF (gA S 1596 (k - 2)) 19 ?_)
    show zEv d 107 147 [.ref 1592, .retAddr 0, .int (Int32.ofNat k), .int (gA S 1596 (k - 15)), .int (gA S 1596 (k - 2)), .retAddr 0, .retAddr 0, .retAddr 0, .retAddr 0, .retAddr 0, .retAddr 0, .retAddr 0, .retAddr 0] [.int (hR (gA S 1596 (k - 2)) 19), .int (hR (gA S 1596 (k - 2)) 17), .int (((gA S 1596 (k - 16)) + (((hR (gA S 1596 (k - 15)) 7) ^^^ (hR (gA S 1596 (k - 15)) 18)) ^^^ (((gA S 1596 (k - 15)).toUInt32 >>> (Int32.toUInt32 3 &&& Int32.toUInt32 31)).toInt32))) + (gA S 1596 (k - 7))), .int (Int32.ofNat k), .ref 1596] S post
    refine zv_c1 ht rfl rfl (zv_c1 ht rfl rfl (zv_c1 ht rfl rfl (zv_c1 ht rfl rfl (zv_c1 ht rfl rfl (zv_c1 ht rfl rfl ?_)))))
    refine zv_is (j := k) (x := q107b_e1 S k) ht rfl rfl rfl rfl (zi_natE (a := k) rfl (by omega)) ⟨rfl, zi_inE (a := k) (n := 64) rfl (by omega) (by omega)⟩ ?_
    refine zv_c2 (L' := [.ref 1592, .retAddr 0, .int ((Int32.ofNat k) + 1), .int (gA S 1596 (k - 15)), .int (gA S 1596 (k - 2)), .retAddr 0, .retAddr 0, .retAddr 0, .retAddr 0, .retAddr 0, .retAddr 0, .retAddr 0, .retAddr 0]) ht rfl rfl ?_
    refine zv_c1 ht rfl rfl ?_
    exact zEv.wk (L := [.ref 1592, .retAddr 0, .int ((Int32.ofNat k) + 1), .retAddr 0, .retAddr 0, .retAddr 0, .retAddr 0, .retAddr 0, .retAddr 0, .retAddr 0, .retAddr 0, .retAddr 0, .retAddr 0]) (L' := [.ref 1592, .retAddr 0, .int ((Int32.ofNat k) + 1), .int (gA S 1596 (k - 15)), .int (gA S 1596 (k - 2)), .retAddr 0, .retAddr 0, .retAddr 0, .retAddr 0, .retAddr 0, .retAddr 0, .retAddr 0, .retAddr 0]) (And.intro (Or.inl rfl) (And.intro (Or.inl rfl) (And.intro (Or.inl rfl) (And.intro (Or.inr rfl) (And.intro (Or.inr rfl) (And.intro (Or.inl rfl) (And.intro (Or.inl rfl) (And.intro (Or.inl rfl) (And.intro (Or.inl rfl) (And.intro (Or.inl rfl) (And.intro (Or.inl rfl) (And.intro (Or.inl rfl) (And.intro (Or.inl rfl) trivial))))))))))))) (Eq.mpr (congrArg (fun zz => zEv d 107 65 [.ref 1592, .retAddr 0, .int zz, .retAddr 0, .retAddr 0, .retAddr 0, .retAddr 0, .retAddr 0, .retAddr 0, .retAddr 0, .retAddr 0, .retAddr 0, .retAddr 0] [] (sA S 1596 k (q107b_e1 S k)) post) ((zi_addE rfl rfl) : (Int32.ofNat k) + 1 = Int32.ofNat (k + 1))) (h2 b1))

def q107c_e1 (S : zS) (k : Nat) (ve : Int32) (vf : Int32) (vg : Int32) (vh : Int32) : Int32 := (((vh + (((hR ve 6) ^^^ (hR ve 11)) ^^^ (hR ve 25))) + ((ve &&& vf) ^^^ ((ve ^^^ ((-1) : Int32)) &&& vg))) + (gA S 1598 k)) + (gA S 1596 k)
def q107c_e2 (va : Int32) (vb : Int32) (vc : Int32) : Int32 := (((hR va 2) ^^^ (hR va 13)) ^^^ (hR va 22)) + (((va &&& vb) ^^^ (va &&& vc)) ^^^ (vb &&& vc))
theorem q107c {d : Nat} {S : zS} (hF : zFin true S) (hd : 1 ≤ d) (k : Nat) (va vb vc vd ve vf vg vh : Int32) (hk : k ≤ 64) {post : Outcome × zS → Prop} (h1 : (64 ≤ k) → post (.returned none, sA (sA (sA (sA (sA (sA (sA (sA S 1597 0 ((gA S 1597 0) + va)) 1597 1 ((gA S 1597 1) + vb)) 1597 2 ((gA S 1597 2) + vc)) 1597 3 ((gA S 1597 3) + vd)) 1597 4 ((gA S 1597 4) + ve)) 1597 5 ((gA S 1597 5) + vf)) 1597 6 ((gA S 1597 6) + vg)) 1597 7 ((gA S 1597 7) + vh))) (h2 : (¬ (64 ≤ k)) → zEv d 107 229 [.ref 1592, .retAddr 0, .int ((q107c_e1 S k ve vf vg vh) + (q107c_e2 va vb vc)), .int va, .int vb, .int vc, .int (vd + (q107c_e1 S k ve vf vg vh)), .int ve, .int vf, .int vg, .int (Int32.ofNat (k + 1)), .retAddr 0, .retAddr 0] [] S post) : zEv d 107 229 [.ref 1592, .retAddr 0, .int va, .int vb, .int vc, .int vd, .int ve, .int vf, .int vg, .int vh, .int (Int32.ofNat k), .retAddr 0, .retAddr 0] [] S post := by
  have ht : ztab 107 = ztb107 := rfl
  skip
  refine zv_c1 ht rfl rfl (zv_c1 ht rfl rfl ?_)
  refine zv_br ht rfl rfl rfl (fun b1 => ?_) (fun b1 => ?_)
  · replace b1 : 64 ≤ k := (zi_leE (a := 64) (b := k) rfl rfl (by omega) (by omega)).mp b1
    refine zv_c1 ht rfl rfl ?_
    refine zv_gl (st' := [.ref 1597]) ht rfl hF rfl rfl rfl ?_
    refine zv_c1 ht rfl rfl (zv_c1 ht rfl rfl ?_)
    refine zv_ia (j := 0) ht rfl rfl rfl rfl (zi_nat (k := 0) (by decide)) ⟨(Or.inl rfl), zi_in (k := 0) (n := 8) (by decide) (by decide)⟩ ?_
    refine zv_c1 ht rfl rfl (zv_c1 ht rfl rfl ?_)
    refine zv_is (j := 0) (x := (gA S 1597 0) + va) ht rfl rfl rfl rfl (zi_nat (k := 0) (by decide)) ⟨rfl, zi_in (k := 0) (n := 8) (by decide) (by decide)⟩ ?_
    refine zv_c1 ht rfl rfl ?_
    refine zv_gl (st' := [.ref 1597]) ht rfl hF rfl rfl rfl ?_
    refine zv_c1 ht rfl rfl (zv_c1 ht rfl rfl ?_)
    refine zv_ia (j := 1) ht rfl rfl rfl rfl (zi_nat (k := 1) (by decide)) ⟨(Or.inl rfl), zi_in (k := 1) (n := 8) (by decide) (by decide)⟩ ?_
    show zEv d 107 386 [.ref 1592, .retAddr 0, .int va, .int vb, .int vc, .int vd, .int ve, .int vf, .int vg, .int vh, .int (Int32.ofNat k), .retAddr 0, .retAddr 0] [.int (gA S 1597 1), .int 1, .ref 1597] (sA S 1597 0 ((gA S 1597 0) + va)) post
    refine zv_c1 ht rfl rfl (zv_c1 ht rfl rfl ?_)
    refine zv_is (j := 1) (x := (gA S 1597 1) + vb) ht rfl rfl rfl rfl (zi_nat (k := 1) (by decide)) ⟨rfl, zi_in (k := 1) (n := 8) (by decide) (by decide)⟩ ?_
    refine zv_c1 ht rfl rfl ?_
    refine zv_gl (st' := [.ref 1597]) ht rfl hF rfl rfl rfl ?_
    refine zv_c1 ht rfl rfl (zv_c1 ht rfl rfl ?_)
    refine zv_ia (j := 2) ht rfl rfl rfl rfl (zi_nat (k := 2) (by decide)) ⟨(Or.inl rfl), zi_in (k := 2) (n := 8) (by decide) (by decide)⟩ ?_
    show zEv d 107 396 [.ref 1592, .retAddr 0, .int va, .int vb, .int vc, .int vd, .int ve, .int vf, .int vg, .int vh, .int (Int32.ofNat k), .retAddr 0, .retAddr 0] [.int (gA S 1597 2), .int 2, .ref 1597] (sA (sA S 1597 0 ((gA S 1597 0) + va)) 1597 1 ((gA S 1597 1) + vb)) post
    refine zv_c1 ht rfl rfl (zv_c1 ht rfl rfl ?_)
    refine zv_is (j := 2) (x := (gA S 1597 2) + vc) ht rfl rfl rfl rfl (zi_nat (k := 2) (by decide)) ⟨rfl, zi_in (k := 2) (n := 8) (by decide) (by decide)⟩ ?_
    refine zv_c1 ht rfl rfl ?_
    refine zv_gl (st' := [.ref 1597]) ht rfl hF rfl rfl rfl ?_
    refine zv_c1 ht rfl rfl (zv_c1 ht rfl rfl ?_)
    refine zv_ia (j := 3) ht rfl rfl rfl rfl (zi_nat (k := 3) (by decide)) ⟨(Or.inl rfl), zi_in (k := 3) (n := 8) (by decide) (by decide)⟩ ?_
    show zEv d 107 407 [.ref 1592, .retAddr 0, .int va, .int vb, .int vc, .int vd, .int ve, .int vf, .int vg, .int vh, .int (Int32.ofNat k), .retAddr 0, .retAddr 0] [.int (gA S 1597 3), .int 3, .ref 1597] (sA (sA (sA S 1597 0 ((gA S 1597 0) + va)) 1597 1 ((gA S 1597 1) + vb)) 1597 2 ((gA S 1597 2) + vc)) post
    refine zv_c1 ht rfl rfl (zv_c1 ht rfl rfl ?_)
    refine zv_is (j := 3) (x := (gA S 1597 3) + vd) ht rfl rfl rfl rfl (zi_nat (k := 3) (by decide)) ⟨rfl, zi_in (k := 3) (n := 8) (by decide) (by decide)⟩ ?_
    refine zv_c1 ht rfl rfl ?_
    refine zv_gl (st' := [.ref 1597]) ht rfl hF rfl rfl rfl ?_
    refine zv_c1 ht rfl rfl (zv_c1 ht rfl rfl ?_)
    refine zv_ia (j := 4) ht rfl rfl rfl rfl (zi_nat (k := 4) (by decide)) ⟨(Or.inl rfl), zi_in (k := 4) (n := 8) (by decide) (by decide)⟩ ?_
    show zEv d 107 418 [.ref 1592, .retAddr 0, .int va, .int vb, .int vc, .int vd, .int ve, .int vf, .int vg, .int vh, .int (Int32.ofNat k), .retAddr 0, .retAddr 0] [.int (gA S 1597 4), .int 4, .ref 1597] (sA (sA (sA (sA S 1597 0 ((gA S 1597 0) + va)) 1597 1 ((gA S 1597 1) + vb)) 1597 2 ((gA S 1597 2) + vc)) 1597 3 ((gA S 1597 3) + vd)) post
    refine zv_c1 ht rfl rfl (zv_c1 ht rfl rfl ?_)
    refine zv_is (j := 4) (x := (gA S 1597 4) + ve) ht rfl rfl rfl rfl (zi_nat (k := 4) (by decide)) ⟨rfl, zi_in (k := 4) (n := 8) (by decide) (by decide)⟩ ?_
    refine zv_c1 ht rfl rfl ?_
    refine zv_gl (st' := [.ref 1597]) ht rfl hF rfl rfl rfl ?_
    refine zv_c1 ht rfl rfl (zv_c1 ht rfl rfl ?_)
    refine zv_ia (j := 5) ht rfl rfl rfl rfl (zi_nat (k := 5) (by decide)) ⟨(Or.inl rfl), zi_in (k := 5) (n := 8) (by decide) (by decide)⟩ ?_
    show zEv d 107 429 [.ref 1592, .retAddr 0, .int va, .int vb, .int vc, .int vd, .int ve, .int vf, .int vg, .int vh, .int (Int32.ofNat k), .retAddr 0, .retAddr 0] [.int (gA S 1597 5), .int 5, .ref 1597] (sA (sA (sA (sA (sA S 1597 0 ((gA S 1597 0) + va)) 1597 1 ((gA S 1597 1) + vb)) 1597 2 ((gA S 1597 2) + vc)) 1597 3 ((gA S 1597 3) + vd)) 1597 4 ((gA S 1597 4) + ve)) post
    refine zv_c1 ht rfl rfl (zv_c1 ht rfl rfl ?_)
    refine zv_is (j := 5) (x := (gA S 1597 5) + vf) ht rfl rfl rfl rfl (zi_nat (k := 5) (by decide)) ⟨rfl, zi_in (k := 5) (n := 8) (by decide) (by decide)⟩ ?_
    refine zv_c1 ht rfl rfl ?_
    refine zv_gl (st' := [.ref 1597]) ht rfl hF rfl rfl rfl ?_
    refine zv_c1 ht rfl rfl (zv_c1 ht rfl rfl ?_)
    refine zv_ia (j := 6) ht rfl rfl rfl rfl (zi_nat (k := 6) (by decide)) ⟨(Or.inl rfl), zi_in (k := 6) (n := 8) (by decide) (by decide)⟩ ?_
    show zEv d 107 441 [.ref 1592, .retAddr 0, .int va, .int vb, .int vc, .int vd, .int ve, .int vf, .int vg, .int vh, .int (Int32.ofNat k), .retAddr 0, .retAddr 0] [.int (gA S 1597 6), .int 6, .ref 1597] (sA (sA (sA (sA (sA (sA S 1597 0 ((gA S 1597 0) + va)) 1597 1 ((gA S 1597 1) + vb)) 1597 2 ((gA S 1597 2) + vc)) 1597 3 ((gA S 1597 3) + vd)) 1597 4 ((gA S 1597 4) + ve)) 1597 5 ((gA S 1597 5) + vf)) post
    refine zv_c1 ht rfl rfl (zv_c1 ht rfl rfl ?_)
    refine zv_is (j := 6) (x := (gA S 1597 6) + vg) ht rfl rfl rfl rfl (zi_nat (k := 6) (by decide)) ⟨rfl, zi_in (k := 6) (n := 8) (by decide) (by decide)⟩ ?_
    refine zv_c1 ht rfl rfl ?_
    refine zv_gl (st' := [.ref 1597]) ht rfl hF rfl rfl rfl ?_
    refine zv_c1 ht rfl rfl (zv_c1 ht rfl rfl ?_)
    refine zv_ia (j := 7) ht rfl rfl rfl rfl (zi_nat (k := 7) (by decide)) ⟨(Or.inl rfl), zi_in (k := 7) (n := 8) (by decide) (by decide)⟩ ?_
    show zEv d 107 453 [.ref 1592, .retAddr 0, .int va, .int vb, .int vc, .int vd, .int ve, .int vf, .int vg, .int vh, .int (Int32.ofNat k), .retAddr 0, .retAddr 0] [.int (gA S 1597 7), .int 7, .ref 1597] (sA (sA (sA (sA (sA (sA (sA S 1597 0 ((gA S 1597 0) + va)) 1597 1 ((gA S 1597 1) + vb)) 1597 2 ((gA S 1597 2) + vc)) 1597 3 ((gA S 1597 3) + vd)) 1597 4 ((gA S 1597 4) + ve)) 1597 5 ((gA S 1597 5) + vf)) 1597 6 ((gA S 1597 6) + vg)) post
    refine zv_c1 ht rfl rfl (zv_c1 ht rfl rfl ?_)
    refine zv_is (j := 7) (x := (gA S 1597 7) + vh) ht rfl rfl rfl rfl (zi_nat (k := 7) (by decide)) ⟨rfl, zi_in (k := 7) (n := 8) (by decide) (by decide)⟩ ?_
    exact zv_rt ht rfl rfl rfl rfl (h1 b1)
  · replace b1 : ¬ (64 ≤ k) := fun h => b1 ((zi_leE (a := 64) (b := k) rfl rfl (by omega) (by omega)).mpr h)
    refine zv_c1 ht rfl rfl (zv_c1 ht rfl rfl (zv_c1 ht rfl rfl ?_))
    refine zv_cl ht rfl rfl rfl rfl (by omega) (Nat.le_of_ble_eq_true rfl) (m_right (S := S) hF ve 6 ?_)
    show zEv d 107 245 [.ref 1592, .retAddr 0, .int va, .int vb, .int vc, .int vd, .int ve, .int vf, .int vg, .int vh, .int (Int32.ofNat k), .retAddr 0, .retAddr 0] [.int (hR ve 6), .int vh] S post
    refine zv_c1 ht rfl rfl (zv_c1 ht rfl rfl ?_)
    refine zv_cl ht rfl rfl rfl rfl (by omega) (Nat.le_of_ble_eq_true rfl) (m_right (S := S) hF ve 11 ?_)
    show zEv d 107 252 [.ref 1592, .retAddr 0, .int va, .int vb, .int vc, .int vd, .int ve, .int vf, .int vg, .int vh, .int (Int32.ofNat k), .retAddr 0, .retAddr 0] [.int (hR ve 11), .int (hR ve 6), .int vh] S post
    refine zv_c1 ht rfl rfl (zv_c1 ht rfl rfl (zv_c1 ht rfl rfl ?_))
    refine zv_cl ht rfl rfl rfl rfl (by omega) (Nat.le_of_ble_eq_true rfl) (m_right (S := S) hF ve 25 ?_)
    show zEv d 107 260 [.ref 1592, .retAddr 0, .int va, .int vb, .int vc, .int vd, .int ve, .int vf, .int vg, .int vh, .int (Int32.ofNat k), .retAddr 0, .retAddr 0] [.int (hR ve 25), .int ((hR ve 6) ^^^ (hR ve 11)), .int vh] S post
    refine zv_c1 ht rfl rfl (zv_c1 ht rfl rfl (zv_c1 ht rfl rfl (zv_c1 ht rfl rfl (zv_c1 ht rfl rfl (zv_c1 ht rfl rfl (zv_c1 ht rfl rfl (zv_c1 ht rfl rfl ?_)))))))
    refine zv_c1 ht rfl rfl (zv_c1 ht rfl rfl (zv_c1 ht rfl rfl (zv_c1 ht rfl rfl (zv_c1 ht rfl rfl ?_))))
    refine zv_gl (st' := [.ref 1598, .int ((vh + (((hR ve 6) ^^^ (hR ve 11)) ^^^ (hR ve 25))) + ((ve &&& vf) ^^^ ((ve ^^^ ((-1) : Int32)) &&& vg)))]) ht rfl hF rfl rfl rfl ?_
    refine zv_c1 ht rfl rfl ?_
    refine zv_ia (j := k) ht rfl rfl rfl rfl (zi_natE (a := k) rfl (by omega)) ⟨(Or.inl rfl), zi_inE (a := k) (n := 64) rfl (by omega) (by omega)⟩ ?_
    refine zv_c1 ht rfl rfl (zv_c1 ht rfl rfl ?_)
    refine zv_gl (st' := [.ref 1596, .int (((vh + (((hR ve 6) ^^^ (hR ve 11)) ^^^ (hR ve 25))) + ((ve &&& vf) ^^^ ((ve ^^^ ((-1) : Int32)) &&& vg))) + (gA S 1598 k))]) ht rfl hF rfl rfl rfl ?_
    refine zv_c1 ht rfl rfl ?_
    refine zv_ia (j := k) ht rfl rfl rfl rfl (zi_natE (a := k) rfl (by omega)) ⟨(Or.inl rfl), zi_inE (a := k) (n := 64) rfl (by omega) (by omega)⟩ ?_
    refine zv_c1 ht rfl rfl ?_
    refine zv_c2 (L' := [.ref 1592, .retAddr 0, .int va, .int vb, .int vc, .int vd, .int ve, .int vf, .int vg, .int vh, .int (Int32.ofNat k), .int (q107c_e1 S k ve vf vg vh), .retAddr 0]) ht rfl rfl ?_
    refine zv_c1 ht rfl rfl (zv_c1 ht rfl rfl ?_)
    refine zv_cl ht rfl rfl rfl rfl (by omega) (Nat.le_of_ble_eq_true rfl) (m_right (S := S) hF va 2 ?_)
    show zEv d 107 299 [.ref 1592, .retAddr 0, .int va, .int vb, .int vc, .int vd, .int ve, .int vf, .int vg, .int vh, .int (Int32.ofNat k), .int (q107c_e1 S k ve vf vg vh), .retAddr 0] [.int (hR va 2)] S post
    refine zv_c1 ht rfl rfl (zv_c1 ht rfl rfl ?_)
    refine zv_cl ht rfl rfl rfl rfl (by omega) (Nat.le_of_ble_eq_true rfl) (m_right (S := S) hF va 13 ?_)
    show zEv d 107 305 [.ref 1592, .retAddr 0, .int va, .int vb, .int vc, .int vd, .int ve, .int vf, .int vg, .int vh, .int (Int32.ofNat k), .int (q107c_e1 S k ve vf vg vh), .retAddr 0] [.int (hR va 13), .int (hR va 2)] S post
    refine zv_c1 ht rfl rfl (zv_c1 ht rfl rfl (zv_c1 ht rfl rfl ?_))
    refine zv_cl ht rfl rfl rfl rfl (by omega) (Nat.le_of_ble_eq_true rfl) (m_right (S := S) hF va 22 ?_)
    show zEv d 107 312 [.ref 1592, .retAddr 0, .int va, .int vb, .int vc, .int vd, .int ve, .int vf, .int vg, .int vh, .int (Int32.ofNat k), .int (q107c_e1 S k ve vf vg vh), .retAddr 0] [.int (hR va 22), .int ((hR va 2) ^^^ (hR va 13))] S post
    refine zv_c1 ht rfl rfl (zv_c1 ht rfl rfl (zv_c1 ht rfl rfl (zv_c1 ht rfl rfl (zv_c1 ht rfl rfl (zv_c1 ht rfl rfl (zv_c1 ht rfl rfl (zv_c1 ht rfl rfl ?_)))))))
    refine zv_c1 ht rfl rfl (zv_c1 ht rfl rfl (zv_c1 ht rfl rfl (zv_c1 ht rfl rfl (zv_c1 ht rfl rfl ?_))))
    refine zv_c2 (L' := [.ref 1592, .retAddr 0, .int va, .int vb, .int vc, .int vd, .int ve, .int vf, .int vg, .int vh, .int (Int32.ofNat k), .int (q107c_e1 S k ve vf vg vh), .int (q107c_e2 va vb vc)]) ht rfl rfl ?_
    refine zv_c1 ht rfl rfl ?_
    refine zv_c2 (L' := [.ref 1592, .retAddr 0, .int va, .int vb, .int vc, .int vd, .int ve, .int vf, .int vg, .int vg, .int (Int32.ofNat k), .int (q107c_e1 S k ve vf vg vh), .int (q107c_e2 va vb vc)]) ht rfl rfl ?_
    refine zv_c1 ht rfl rfl ?_
    refine zv_c2 (L' := [.ref 1592, .retAddr 0, .int va, .int vb, .int vc, .int vd, .int ve, .int vf, .int vf, .int vg, .int (Int32.ofNat k), .int (q107c_e1 S k ve vf vg vh), .int (q107c_e2 va vb vc)]) ht rfl rfl ?_
    refine zv_c1 ht rfl rfl ?_
    refine zv_c2 (L' := [.ref 1592, .retAddr 0, .int va, .int vb, .int vc, .int vd, .int ve, .int ve, .int vf, .int vg, .int (Int32.ofNat k), .int (q107c_e1 S k ve vf vg vh), .int (q107c_e2 va vb vc)]) ht rfl rfl ?_
    refine zv_c1 ht rfl rfl (zv_c1 ht rfl rfl (zv_c1 ht rfl rfl ?_))
    refine zv_c2 (L' := [.ref 1592, .retAddr 0, .int va, .int vb, .int vc, .int vd, .int (vd + (q107c_e1 S k ve vf vg vh)), .int ve, .int vf, .int vg, .int (Int32.ofNat k), .int (q107c_e1 S k ve vf vg vh), .int (q107c_e2 va vb vc)]) ht rfl rfl ?_
    refine zv_c1 ht rfl rfl ?_
    refine zv_c2 (L' := [.ref 1592, .retAddr 0, .int va, .int vb, .int vc, .int vc, .int (vd + (q107c_e1 S k ve vf vg vh)), .int ve, .int vf, .int vg, .int (Int32.ofNat k), .int (q107c_e1 S k ve vf vg vh), .int (q107c_e2 va vb vc)]) ht rfl rfl ?_
    refine zv_c1 ht rfl rfl ?_
    refine zv_c2 (L' := [.ref 1592, .retAddr 0, .int va, .int vb, .int vb, .int vc, .int (vd + (q107c_e1 S k ve vf vg vh)), .int ve, .int vf, .int vg, .int (Int32.ofNat k), .int (q107c_e1 S k ve vf vg vh), .int (q107c_e2 va vb vc)]) ht rfl rfl ?_
    refine zv_c1 ht rfl rfl ?_
    refine zv_c2 (L' := [.ref 1592, .retAddr 0, .int va, .int va, .int vb, .int vc, .int (vd + (q107c_e1 S k ve vf vg vh)), .int ve, .int vf, .int vg, .int (Int32.ofNat k), .int (q107c_e1 S k ve vf vg vh), .int (q107c_e2 va vb vc)]) ht rfl rfl ?_
    refine zv_c1 ht rfl rfl (zv_c1 ht rfl rfl (zv_c1 ht rfl rfl ?_))
    refine zv_c2 (L' := [.ref 1592, .retAddr 0, .int ((q107c_e1 S k ve vf vg vh) + (q107c_e2 va vb vc)), .int va, .int vb, .int vc, .int (vd + (q107c_e1 S k ve vf vg vh)), .int ve, .int vf, .int vg, .int (Int32.ofNat k), .int (q107c_e1 S k ve vf vg vh), .int (q107c_e2 va vb vc)]) ht rfl rfl ?_
    refine zv_c2 (L' := [.ref 1592, .retAddr 0, .int ((q107c_e1 S k ve vf vg vh) + (q107c_e2 va vb vc)), .int va, .int vb, .int vc, .int (vd + (q107c_e1 S k ve vf vg vh)), .int ve, .int vf, .int vg, .int ((Int32.ofNat k) + 1), .int (q107c_e1 S k ve vf vg vh), .int (q107c_e2 va vb vc)]) ht rfl rfl ?_
    refine zv_c1 ht rfl rfl ?_
    exact zEv.wk (L := [.ref 1592, .retAddr 0, .int ((q107c_e1 S k ve vf vg vh) + (q107c_e2 va vb vc)), .int va, .int vb, .int vc, .int (vd + (q107c_e1 S k ve vf vg vh)), .int ve, .int vf, .int vg, .int ((Int32.ofNat k) + 1), .retAddr 0, .retAddr 0]) (L' := [.ref 1592, .retAddr 0, .int ((q107c_e1 S k ve vf vg vh) + (q107c_e2 va vb vc)), .int va, .int vb, .int vc, .int (vd + (q107c_e1 S k ve vf vg vh)), .int ve, .int vf, .int vg, .int ((Int32.ofNat k) + 1), .int (q107c_e1 S k ve vf vg vh), .int (q107c_e2 va vb vc)]) (And.intro (Or.inl rfl) (And.intro (Or.inl rfl) (And.intro (Or.inl rfl) (And.intro (Or.inl rfl) (And.intro (Or.inl rfl) (And.intro (Or.inl rfl) (And.intro (Or.inl rfl) (And.intro (Or.inl rfl) (And.intro (Or.inl rfl) (And.intro (Or.inl rfl) (And.intro (Or.inl rfl) (And.intro (Or.inr rfl) (And.intro (Or.inr rfl) trivial))))))))))))) (Eq.mpr (congrArg (fun zz => zEv d 107 229 [.ref 1592, .retAddr 0, .int ((q107c_e1 S k ve vf vg vh) + (q107c_e2 va vb vc)), .int va, .int vb, .int vc, .int (vd + (q107c_e1 S k ve vf vg vh)), .int ve, .int vf, .int vg, .int zz, .retAddr 0, .retAddr 0] [] S post) ((zi_addE rfl rfl) : (Int32.ofNat k) + 1 = Int32.ofNat (k + 1))) (h2 b1))

