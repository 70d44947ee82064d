set_option maxRecDepth 100000
/-! ===== RIPEMD-160: x ===== -/
def ztn (k : Nat) : List Nat := match k with
  | 0 => []
  | 1 => [48, 49, 50, 51, 52, 53, 54, 55, 56, 57, 97, 98, 99, 100, 101, 102, 55, 52, 100, 49, 97, 54, 102, 51, 99, 48, 57, 53, 50, 101, 98, 56, 51, 97, 101, 52, 57, 102, 56, 49, 50, 55, 48, 54, 100, 98, 53, 99, 49, 57, 98, 97, 48, 56, 99, 52, 100, 51, 55, 102, 101, 53, 54, 50, 52, 48, 53, 57, 55, 99, 50, 97, 101, 49, 51, 56, 98, 54, 102, 100]
  | 2 => [53, 101, 55, 48, 57, 50, 98, 52, 100, 54, 102, 56, 49, 97, 51, 99, 54, 98, 51, 55, 48, 100, 53, 97, 101, 102, 56, 99, 52, 57, 49, 50, 102, 53, 49, 51, 55, 101, 54, 57, 98, 56, 99, 50, 97, 48, 52, 100, 56, 54, 52, 49, 51, 98, 102, 48, 53, 99, 50, 100, 57, 55, 97, 101, 99, 102, 97, 52, 49, 53, 56, 55, 54, 50, 100, 101, 48, 51, 57, 98]
  | 3 => [98, 101, 102, 99, 53, 56, 55, 57, 98, 100, 101, 102, 54, 55, 57, 56, 55, 54, 56, 100, 98, 57, 55, 102, 55, 99, 102, 57, 98, 55, 100, 99, 98, 100, 54, 55, 101, 57, 100, 102, 101, 56, 100, 54, 53, 99, 55, 53, 98, 99, 101, 102, 101, 102, 57, 56, 57, 101, 53, 54, 56, 54, 53, 99, 57, 102, 53, 98, 54, 56, 100, 99, 53, 99, 100, 101, 98, 56, 53, 54]
  | 4 => [56, 57, 57, 98, 100, 102, 102, 53, 55, 55, 56, 98, 101, 101, 99, 54, 57, 100, 102, 55, 99, 56, 57, 98, 55, 55, 99, 55, 54, 102, 100, 98, 57, 55, 102, 98, 56, 54, 54, 101, 99, 100, 53, 101, 100, 100, 55, 53, 102, 53, 56, 98, 101, 101, 54, 101, 54, 57, 99, 57, 99, 53, 102, 56, 56, 53, 99, 57, 99, 53, 101, 54, 56, 100, 54, 53, 102, 100, 98, 98]
  | 5 => [112, 107]
  | 6 => [111, 108, 100, 101, 114]
  | 7 => [97, 102, 116, 101, 114]
  | 8 => [97, 110, 100]
  | 9 => [111, 114]
  | 10 => [116, 104, 114, 101, 115, 104]
  | 11 => [115, 104, 97, 50, 53, 54]
  | 12 => [104, 97, 115, 104, 50, 53, 54]
  | 13 => [114, 105, 112, 101, 109, 100, 49, 54, 48]
  | 14 => [104, 97, 115, 104, 49, 54, 48]
  | 15 => [48]
  | 16 => [49]
  | 17 => [112, 107, 104]
  | 18 => [112, 107, 95, 107]
  | 19 => [112, 107, 95, 104]
  | 20 => [109, 117, 108, 116, 105]
  | 21 => [97, 110, 100, 111, 114]
  | 22 => [97, 110, 100, 95, 110]
  | 23 => [97, 110, 100, 95, 118]
  | 24 => [97, 110, 100, 95, 98]
  | 25 => [111, 114, 95, 98]
  | 26 => [111, 114, 95, 99]
  | 27 => [111, 114, 95, 100]
  | 28 => [111, 114, 95, 105]
  | 29 => [97, 115, 99, 100, 118, 106, 110, 116, 108, 117]
  | 30 => [97, 110, 100, 111, 114, 40]
  | 31 => [112, 107, 95, 104, 40]
  | 32 => [112, 107, 95, 107, 40]
  | 33 => [111, 108, 100, 101, 114, 40]
  | 34 => [97, 102, 116, 101, 114, 40]
  | 35 => [109, 117, 108, 116, 105, 40]
  | 36 => [116, 104, 114, 101, 115, 104, 40]
  | 37 => [97, 115, 99, 100, 118, 106, 110]
  | _ => []
def rO (l : Bool) : List Nat := match l with
  | true => [0, 1, 2, 3, 4, 5, 6, 7, 8, 9, 10, 11, 12, 13, 14, 15, 7, 4, 13, 1, 10, 6, 15, 3, 12, 0, 9, 5, 2, 14, 11, 8, 3, 10, 14, 4, 9, 15, 8, 1, 2, 7, 0, 6, 13, 11, 5, 12, 1, 9, 11, 10, 0, 8, 12, 4, 13, 3, 7, 15, 14, 5, 6, 2, 4, 0, 5, 9, 7, 12, 2, 10, 14, 1, 3, 8, 11, 6, 15, 13]
  | false => [5, 14, 7, 0, 9, 2, 11, 4, 13, 6, 15, 8, 1, 10, 3, 12, 6, 11, 3, 7, 0, 13, 5, 10, 14, 15, 8, 12, 4, 9, 1, 2, 15, 5, 1, 3, 7, 14, 6, 9, 11, 8, 12, 2, 10, 0, 4, 13, 8, 6, 4, 1, 3, 11, 15, 0, 5, 12, 2, 13, 9, 7, 10, 14, 12, 15, 10, 4, 1, 5, 8, 7, 6, 2, 13, 14, 0, 3, 9, 11]
def rT (l : Bool) : List Nat := match l with
  | true => [11, 14, 15, 12, 5, 8, 7, 9, 11, 13, 14, 15, 6, 7, 9, 8, 7, 6, 8, 13, 11, 9, 7, 15, 7, 12, 15, 9, 11, 7, 13, 12, 11, 13, 6, 7, 14, 9, 13, 15, 14, 8, 13, 6, 5, 12, 7, 5, 11, 12, 14, 15, 14, 15, 9, 8, 9, 14, 5, 6, 8, 6, 5, 12, 9, 15, 5, 11, 6, 8, 13, 12, 5, 12, 13, 14, 11, 8, 5, 6]
  | false => [8, 9, 9, 11, 13, 15, 15, 5, 7, 7, 8, 11, 14, 14, 12, 6, 9, 13, 15, 7, 12, 8, 9, 11, 7, 7, 12, 7, 6, 15, 13, 11, 9, 7, 15, 11, 8, 6, 6, 14, 12, 13, 5, 14, 13, 13, 7, 5, 15, 5, 8, 11, 14, 14, 6, 14, 6, 9, 12, 9, 12, 5, 15, 8, 8, 5, 12, 9, 12, 5, 14, 6, 8, 13, 6, 5, 15, 13, 11, 11]
def zLits (S : zS) : Prop := ∀ k, k < 38 → zStr S (zLB + 2 * k) (ztn k) ∧ gP S 199 (zLB + 2 * k) = some (zLB + 2 * k + 1)
theorem zStr.zM {S : zS} {s : Nat} {cs : List Nat} (h : zStr S s cs) {I A : Nat → Nat → Int32} (hI : I 200 s = gI S 200 s) (hA : ∀ v, gP S 199 s = some v → A v = gA S v) : zStr (zM S I A) s cs := by
  obtain ⟨v, h1, h2, h3, h4, h5, h6, h7⟩ := h
  exact ⟨v, h1, h2, hI.trans h3, h4, h5, fun j hj => (congrFun (hA v h2) j).trans (h6 j hj), h7⟩
theorem zStr.ty {S : zS} {s : Nat} {cs : List Nat} (h : zStr S s cs) : ztyp S s = 22 := by obtain ⟨v, h1, -⟩ := h; exact h1
theorem zLits.zM {S : zS} (h : zLits S) {I A : Nat → Nat → Int32} (hI : ∀ s, zLB ≤ s → I 200 s = gI S 200 s) (hA : ∀ v, zLB ≤ v → A v = gA S v) : zLits (zM S I A) := fun k hk =>
  ⟨(h k hk).1.zM (hI _ (by omega)) (fun v hv => hA v (by have := (h k hk).2.symm.trans hv; injection this with e; omega)), (h k hk).2⟩
theorem zLits.sA {S : zS} (h : zLits S) {a j : Nat} {v : Int32} (ha : a < zLB) : zLits (sA S a j v) := h.zM (I := gI S) (A := zu (gA S) a j v) (fun _ _ => rfl) (fun b hb => zu_ne' (by omega))
def hMix (how : Nat) (x y z : Int32) : Int32 := match how with
  | 0 => (x ^^^ y) ^^^ z
  | 1 => (x &&& y) ||| ((x ^^^ (-1)) &&& z)
  | 2 => (x ||| (y ^^^ (-1))) ^^^ z
  | 3 => (x &&& z) ||| (y &&& (z ^^^ (-1)))
  | _ => x ^^^ (y ||| (z ^^^ (-1)))
def rK (l : Bool) (r : Nat) : Int32 := match l, r with
  | true, 0 => 0
  | true, 1 => 1518500249
  | true, 2 => 1859775393
  | true, 3 => -1894007588
  | true, _ => -1454113458
  | false, 0 => 1352829926
  | false, 1 => 1548603684
  | false, 2 => 1836072691
  | false, 3 => 2053994217
  | false, _ => 0
def hexd (c : Nat) : Nat := if 57 < c then (c - 97) + 10 else c - 48
def hexok (cs : List Nat) : Bool := cs.all (fun c => (Nat.ble 48 c && Nat.ble c 57) || (Nat.ble 97 c && Nat.ble c 102))
theorem q53 {d : Nat} {S : zS} (hF : zFin true S) (how x y z : Int32) {post : Outcome × zS → Prop} (h1 : (how = 0) → post (.returned (some (.int ((x ^^^ y) ^^^ z))), S)) (h2 : (¬ how = 0) → (how = 1) → post (.returned (some (.int ((x &&& y) ||| ((x ^^^ ((-1) : Int32)) &&& z)))), S)) (h3 : (¬ how = 0) → (¬ how = 1) → (how = 2) → post (.returned (some (.int ((x ||| (y ^^^ ((-1) : Int32))) ^^^ z))), S)) (h4 : (¬ how = 0) → (¬ how = 1) → (¬ how = 2) → (how = 3) → post (.returned (some (.int ((x &&& z) ||| (y &&& (z ^^^ ((-1) : Int32)))))), S)) (h5 : (¬ how = 0) → (¬ how = 1) → (¬ how = 2) → (¬ how = 3) → post (.returned (some (.int (x ^^^ (y ||| (z ^^^ ((-1) : Int32)))))), S)) : zCall d 53 [.int how, .int x, .int y, .int z] S post := by
  have ht : ztab 53 = ztb53 := rfl
  show zEv d 53 0 [.int how, .int x, .int y, .int z] [] S post
  refine zv_c1 ht rfl rfl ?_
  refine zv_sw ht rfl rfl rfl rfl rfl ?_
  refine And.intro (fun b1 => ?_) (fun b1 => ?_)
  · refine zv_c1 ht rfl rfl ?_
    refine zv_c1 ht rfl rfl ?_
    refine zv_c1 ht rfl rfl ?_
    refine zv_c1 ht rfl rfl ?_
    refine zv_c1 ht rfl rfl ?_
    exact zv_rt ht rfl rfl rfl rfl (h1 b1)
  refine And.intro (fun b2 => ?_) (fun b2 => ?_)
  · refine zv_c1 ht rfl rfl ?_
    refine zv_c1 ht rfl rfl ?_
    refine zv_c1 ht rfl rfl ?_
    refine zv_c1 ht rfl rfl ?_
    refine zv_c1 ht rfl rfl ?_
    refine zv_c1 ht rfl rfl ?_
    refine zv_c1 ht rfl rfl ?_
    refine zv_c1 ht rfl rfl ?_
    refine zv_c1 ht rfl rfl ?_
    exact zv_rt ht rfl rfl rfl rfl (h2 b1 b2)
  refine And.intro (fun b3 => ?_) (fun b3 => ?_)
  · refine zv_c1 ht rfl rfl ?_
    refine zv_c1 ht rfl rfl ?_
    refine zv_c1 ht rfl rfl ?_
    refine zv_c1 ht rfl rfl ?_
    refine zv_c1 ht rfl rfl ?_
    refine zv_c1 ht rfl rfl ?_
    refine zv_c1 ht rfl rfl ?_
    exact zv_rt ht rfl rfl rfl rfl (h3 b1 b2 b3)
  refine And.intro (fun b4 => ?_) (fun b4 => ?_)
  · refine zv_c1 ht rfl rfl ?_
    refine zv_c1 ht rfl rfl ?_
    refine zv_c1 ht rfl rfl ?_
    refine zv_c1 ht rfl rfl ?_
    refine zv_c1 ht rfl rfl ?_
    refine zv_c1 ht rfl rfl ?_
    refine zv_c1 ht rfl rfl ?_
    refine zv_c1 ht rfl rfl ?_
    refine zv_c1 ht rfl rfl ?_
    exact zv_rt ht rfl rfl rfl rfl (h4 b1 b2 b3 b4)
  refine zv_c1 ht rfl rfl (zv_c1 ht rfl rfl (zv_c1 ht rfl rfl (zv_c1 ht rfl rfl (zv_c1 ht rfl rfl (zv_c1 ht rfl rfl (zv_c1 ht rfl rfl ?_))))))
  exact zv_rt ht rfl rfl rfl rfl (h5 b1 b2 b3 b4)

theorem q115 {d : Nat} {S : zS} (hF : zFin true S) (how x y z : Int32) {post : Outcome × zS → Prop} (h1 : (how = 0) → post (.returned (some (.int ((x ^^^ y) ^^^ z))), S)) (h2 : (¬ how = 0) → (how = 1) → post (.returned (some (.int ((x &&& y) ||| ((x ^^^ ((-1) : Int32)) &&& z)))), S)) (h3 : (¬ how = 0) → (¬ how = 1) → (how = 2) → post (.returned (some (.int ((x ||| (y ^^^ ((-1) : Int32))) ^^^ z))), S)) (h4 : (¬ how = 0) → (¬ how = 1) → (¬ how = 2) → (how = 3) → post (.returned (some (.int ((x &&& z) ||| (y &&& (z ^^^ ((-1) : Int32)))))), S)) (h5 : (¬ how = 0) → (¬ how = 1) → (¬ how = 2) → (¬ how = 3) → post (.returned (some (.int (x ^^^ (y ||| (z ^^^ ((-1) : Int32)))))), S)) : zCall d 115 [.int how, .int x, .int y, .int z] S post := by
  have ht : ztab 115 = ztb115 := rfl
  show zEv d 115 0 [.int how, .int x, .int y, .int z] [] S post
  refine zv_c1 ht rfl rfl ?_
  refine zv_sw ht rfl rfl rfl rfl rfl ?_
  refine And.intro (fun b1 => ?_) (fun b1 => ?_)
  · refine zv_c1 ht rfl rfl ?_
    refine zv_c1 ht rfl rfl ?_
    refine zv_c1 ht rfl rfl ?_
    refine zv_c1 ht rfl rfl ?_
    refine zv_c1 ht rfl rfl ?_
    exact zv_rt ht rfl rfl rfl rfl (h1 b1)
  refine And.intro (fun b2 => ?_) (fun b2 => ?_)
  · refine zv_c1 ht rfl rfl ?_
    refine zv_c1 ht rfl rfl ?_
    refine zv_c1 ht rfl rfl ?_
    refine zv_c1 ht rfl rfl ?_
    refine zv_c1 ht rfl rfl ?_
    refine zv_c1 ht rfl rfl ?_
    refine zv_c1 ht rfl rfl ?_
    refine zv_c1 ht rfl rfl ?_
    refine zv_c1 ht rfl rfl ?_
    exact zv_rt ht rfl rfl rfl rfl (h2 b1 b2)
  refine And.intro (fun b3 => ?_) (fun b3 => ?_)
  · refine zv_c1 ht rfl rfl ?_
    refine zv_c1 ht rfl rfl ?_
    refine zv_c1 ht rfl rfl ?_
    refine zv_c1 ht rfl rfl ?_
    refine zv_c1 ht rfl rfl ?_
    refine zv_c1 ht rfl rfl ?_
    refine zv_c1 ht rfl rfl ?_
    exact zv_rt ht rfl rfl rfl rfl (h3 b1 b2 b3)
  refine And.intro (fun b4 => ?_) (fun b4 => ?_)
  · refine zv_c1 ht rfl rfl ?_
    refine zv_c1 ht rfl rfl ?_
    refine zv_c1 ht rfl rfl ?_
    refine zv_c1 ht rfl rfl ?_
    refine zv_c1 ht rfl rfl ?_
    refine zv_c1 ht rfl rfl ?_
    refine zv_c1 ht rfl rfl ?_
    refine zv_c1 ht rfl rfl ?_
    refine zv_c1 ht rfl rfl ?_
    exact zv_rt ht rfl rfl rfl rfl (h4 b1 b2 b3 b4)
  refine zv_c1 ht rfl rfl (zv_c1 ht rfl rfl (zv_c1 ht rfl rfl (zv_c1 ht rfl rfl (zv_c1 ht rfl rfl (zv_c1 ht rfl rfl (zv_c1 ht rfl rfl ?_))))))
  exact zv_rt ht rfl rfl rfl rfl (h5 b1 b2 b3 b4)

theorem q54l {d : Nat} {S : zS} (hF : zFin true S) (rd : Int32) {post : Outcome × zS → Prop} (h1 : (rd = 0) → post (.returned (some (.int 0)), S)) (h2 : (¬ rd = 0) → (rd = 1) → post (.returned (some (.int 1518500249)), S)) (h3 : (¬ rd = 0) → (¬ rd = 1) → (rd = 2) → post (.returned (some (.int 1859775393)), S)) (h4 : (¬ rd = 0) → (¬ rd = 1) → (¬ rd = 2) → (rd = 3) → post (.returned (some (.int (-1894007588))), S)) (h5 : (¬ rd = 0) → (¬ rd = 1) → (¬ rd = 2) → (¬ rd = 3) → post (.returned (some (.int (-1454113458))), S)) : zCall d 54 [.int rd, .int 1] S post := by
  have ht : ztab 54 = ztb54 := rfl
  show zEv d 54 0 [.int rd, .int 1] [] S post
  refine zv_c1 ht rfl rfl ?_
  refine zv_br ht rfl rfl rfl (fun h => absurd h (by decide)) (fun _ => ?_)
  refine zv_c1 ht rfl rfl (zv_c1 ht rfl rfl ?_)
  refine zv_sw ht rfl rfl rfl rfl rfl ?_
  refine And.intro (fun b1 => ?_) (fun b1 => ?_)
  · refine zv_c1 ht rfl rfl ?_
    exact zv_rt ht rfl rfl rfl rfl (h1 b1)
  refine And.intro (fun b2 => ?_) (fun b2 => ?_)
  · refine zv_c1 ht rfl rfl ?_
    refine zv_br ht rfl rfl rfl (fun h => absurd h (by decide)) (fun _ => ?_)
    refine zv_c1 ht rfl rfl ?_
    refine zv_c1 ht rfl rfl ?_
    exact zv_rt ht rfl rfl rfl rfl (h2 b1 b2)
  refine And.intro (fun b3 => ?_) (fun b3 => ?_)
  · refine zv_c1 ht rfl rfl ?_
    refine zv_br ht rfl rfl rfl (fun h => absurd h (by decide)) (fun _ => ?_)
    refine zv_c1 ht rfl rfl ?_
    refine zv_c1 ht rfl rfl ?_
    exact zv_rt ht rfl rfl rfl rfl (h3 b1 b2 b3)
  refine And.intro (fun b4 => ?_) (fun b4 => ?_)
  · refine zv_c1 ht rfl rfl ?_
    refine zv_br ht rfl rfl rfl (fun h => absurd h (by decide)) (fun _ => ?_)
    refine zv_c1 ht rfl rfl ?_
    refine zv_c1 ht rfl rfl ?_
    exact zv_rt ht rfl rfl rfl rfl (h4 b1 b2 b3 b4)
  refine zv_c1 ht rfl rfl ?_
  refine zv_br ht rfl rfl rfl (fun h => absurd h (by decide)) (fun _ => ?_)
  refine zv_c1 ht rfl rfl (zv_c1 ht rfl rfl ?_)
  exact zv_rt ht rfl rfl rfl rfl (h5 b1 b2 b3 b4)

theorem q54r {d : Nat} {S : zS} (hF : zFin true S) (rd : Int32) {post : Outcome × zS → Prop} (h1 : (4 - rd = 0) → post (.returned (some (.int 0)), S)) (h2 : (¬ 4 - rd = 0) → (4 - rd = 1) → post (.returned (some (.int 2053994217)), S)) (h3 : (¬ 4 - rd = 0) → (¬ 4 - rd = 1) → (4 - rd = 2) → post (.returned (some (.int 1836072691)), S)) (h4 : (¬ 4 - rd = 0) → (¬ 4 - rd = 1) → (¬ 4 - rd = 2) → (4 - rd = 3) → post (.returned (some (.int 1548603684)), S)) (h5 : (¬ 4 - rd = 0) → (¬ 4 - rd = 1) → (¬ 4 - rd = 2) → (¬ 4 - rd = 3) → post (.returned (some (.int 1352829926)), S)) : zCall d 54 [.int rd, .int 0] S post := by
  have ht : ztab 54 = ztb54 := rfl
  show zEv d 54 0 [.int rd, .int 0] [] S post
  refine zv_c1 ht rfl rfl ?_
  refine zv_br ht rfl rfl rfl (fun _ => ?_) (fun h => absurd (by decide) h)
  refine zv_c1 ht rfl rfl (zv_c1 ht rfl rfl (zv_c1 ht rfl rfl ?_))
  refine zv_sw ht rfl rfl rfl rfl rfl ?_
  refine And.intro (fun b1 => ?_) (fun b1 => ?_)
  · refine zv_c1 ht rfl rfl ?_
    exact zv_rt ht rfl rfl rfl rfl (h1 b1)
  refine And.intro (fun b2 => ?_) (fun b2 => ?_)
  · refine zv_c1 ht rfl rfl ?_
    refine zv_br ht rfl rfl rfl (fun _ => ?_) (fun h => absurd (by decide) h)
    refine zv_c1 ht rfl rfl ?_
    exact zv_rt ht rfl rfl rfl rfl (h2 b1 b2)
  refine And.intro (fun b3 => ?_) (fun b3 => ?_)
  · refine zv_c1 ht rfl rfl ?_
    refine zv_br ht rfl rfl rfl (fun _ => ?_) (fun h => absurd (by decide) h)
    refine zv_c1 ht rfl rfl ?_
    exact zv_rt ht rfl rfl rfl rfl (h3 b1 b2 b3)
  refine And.intro (fun b4 => ?_) (fun b4 => ?_)
  · refine zv_c1 ht rfl rfl ?_
    refine zv_br ht rfl rfl rfl (fun _ => ?_) (fun h => absurd (by decide) h)
    refine zv_c1 ht rfl rfl ?_
    exact zv_rt ht rfl rfl rfl rfl (h4 b1 b2 b3 b4)
  refine zv_c1 ht rfl rfl ?_
  refine zv_br ht rfl rfl rfl (fun _ => ?_) (fun h => absurd (by decide) h)
  refine zv_c1 ht rfl rfl ?_
  exact zv_rt ht rfl rfl rfl rfl (h5 b1 b2 b3 b4)

theorem x_mixed {d : Nat} {S : zS} (hF : zFin true S) (rw : Nat) (hw : rw ≤ 4) (x y z : Int32) {post : Outcome × zS → Prop} (h : post (.returned (some (.int (hMix rw x y z))), S)) : zCall d 53 [.int (Int32.ofNat rw), .int x, .int y, .int z] S post := by
  have hc : rw = 0 ∨ rw = 1 ∨ rw = 2 ∨ rw = 3 ∨ rw = 4 := by omega
  rcases hc with rfl | rfl | rfl | rfl | rfl
  · exact q53 hF _ x y z (fun _ => h) (fun b0 b1 => absurd (by decide) b0) (fun b0 b1 b2 => absurd (by decide) b0) (fun b0 b1 b2 b3 => absurd (by decide) b0) (fun b0 b1 b2 b3 => absurd (by decide) b0)
  · exact q53 hF _ x y z (fun b => absurd b (by decide)) (fun _ _ => h) (fun b0 b1 b2 => absurd (by decide) b1) (fun b0 b1 b2 b3 => absurd (by decide) b1) (fun b0 b1 b2 b3 => absurd (by decide) b1)
  · exact q53 hF _ x y z (fun b => absurd b (by decide)) (fun _ b => absurd b (by decide)) (fun _ _ _ => h) (fun b0 b1 b2 b3 => absurd (by decide) b2) (fun b0 b1 b2 b3 => absurd (by decide) b2)
  · exact q53 hF _ x y z (fun b => absurd b (by decide)) (fun _ b => absurd b (by decide)) (fun _ _ b => absurd b (by decide)) (fun _ _ _ _ => h) (fun b0 b1 b2 b3 => absurd (by decide) b3)
  · exact q53 hF _ x y z (fun b => absurd b (by decide)) (fun _ b => absurd b (by decide)) (fun _ _ b => absurd b (by decide)) (fun _ _ _ b => absurd b (by decide)) (fun _ _ _ _ => h)

theorem m_mix {d : Nat} {S : zS} (hF : zFin true S) (rw : Nat) (hw : rw ≤ 4) (x y z : Int32) {post : Outcome × zS → Prop} (h : post (.returned (some (.int (hMix rw x y z))), S)) : zCall d 115 [.int (Int32.ofNat rw), .int x, .int y, .int z] S post := by
  have hc : rw = 0 ∨ rw = 1 ∨ rw = 2 ∨ rw = 3 ∨ rw = 4 := by omega
  rcases hc with rfl | rfl | rfl | rfl | rfl
  · exact q115 hF _ x y z (fun _ => h) (fun b0 b1 => absurd (by decide) b0) (fun b0 b1 b2 => absurd (by decide) b0) (fun b0 b1 b2 b3 => absurd (by decide) b0) (fun b0 b1 b2 b3 => absurd (by decide) b0)
  · exact q115 hF _ x y z (fun b => absurd b (by decide)) (fun _ _ => h) (fun b0 b1 b2 => absurd (by decide) b1) (fun b0 b1 b2 b3 => absurd (by decide) b1) (fun b0 b1 b2 b3 => absurd (by decide) b1)
  · exact q115 hF _ x y z (fun b => absurd b (by decide)) (fun _ b => absurd b (by decide)) (fun _ _ _ => h) (fun b0 b1 b2 b3 => absurd (by decide) b2) (fun b0 b1 b2 b3 => absurd (by decide) b2)
  · exact q115 hF _ x y z (fun b => absurd b (by decide)) (fun _ b => absurd b (by decide)) (fun _ _ b => absurd b (by decide)) (fun _ _ _ _ => h) (fun b0 b1 b2 b3 => absurd (by decide) b3)
  · exact q115 hF _ x y z (fun b => absurd b (by decide)) (fun _ b => absurd b (by decide)) (fun _ _ b => absurd b (by decide)) (fun _ _ _ b => absurd b (by decide)) (fun _ _ _ _ => h)

theorem x_constL {d : Nat} {S : zS} (hF : zFin true S) (rw : Nat) (hw : rw ≤ 4) {post : Outcome × zS → Prop} (h : post (.returned (some (.int (rK true rw))), S)) : zCall d 54 [.int (Int32.ofNat rw), .int 1] S post := by
  have hc : rw = 0 ∨ rw = 1 ∨ rw = 2 ∨ rw = 3 ∨ rw = 4 := by omega
  rcases hc with rfl | rfl | rfl | rfl | rfl
  · exact q54l hF _ (fun _ => h) (fun b0 b1 => absurd (by decide) b0) (fun b0 b1 b2 => absurd (by decide) b0) (fun b0 b1 b2 b3 => absurd (by decide) b0) (fun b0 b1 b2 b3 => absurd (by decide) b0)
  · exact q54l hF _ (fun b => absurd b (by decide)) (fun _ _ => h) (fun b0 b1 b2 => absurd (by decide) b1) (fun b0 b1 b2 b3 => absurd (by decide) b1) (fun b0 b1 b2 b3 => absurd (by decide) b1)
  · exact q54l hF _ (fun b => absurd b (by decide)) (fun _ b => absurd b (by decide)) (fun _ _ _ => h) (fun b0 b1 b2 b3 => absurd (by decide) b2) (fun b0 b1 b2 b3 => absurd (by decide) b2)
  · exact q54l hF _ (fun b => absurd b (by decide)) (fun _ b => absurd b (by decide)) (fun _ _ b => absurd b (by decide)) (fun _ _ _ _ => h) (fun b0 b1 b2 b3 => absurd (by decide) b3)
  · exact q54l hF _ (fun b => absurd b (by decide)) (fun _ b => absurd b (by decide)) (fun _ _ b => absurd b (by decide)) (fun _ _ _ b => absurd b (by decide)) (fun _ _ _ _ => h)

theorem x_constR {d : Nat} {S : zS} (hF : zFin true S) (rw : Nat) (hw : rw ≤ 4) {post : Outcome × zS → Prop} (h : post (.returned (some (.int (rK false rw))), S)) : zCall d 54 [.int (Int32.ofNat rw), .int 0] S post := by
  have hc : rw = 0 ∨ rw = 1 ∨ rw = 2 ∨ rw = 3 ∨ rw = 4 := by omega
  rcases hc with rfl | rfl | rfl | rfl | rfl
  · exact q54r hF _ (fun b => absurd b (by decide)) (fun _ b => absurd b (by decide)) (fun _ _ b => absurd b (by decide)) (fun _ _ _ b => absurd b (by decide)) (fun _ _ _ _ => h)
  · exact q54r hF _ (fun b => absurd b (by decide)) (fun _ b => absurd b (by decide)) (fun _ _ b => absurd b (by decide)) (fun _ _ _ _ => h) (fun b0 b1 b2 b3 => absurd (by decide) b3)
  · exact q54r hF _ (fun b => absurd b (by decide)) (fun _ b => absurd b (by decide)) (fun _ _ _ => h) (fun b0 b1 b2 b3 => absurd (by decide) b2) (fun b0 b1 b2 b3 => absurd (by decide) b2)
  · exact q54r hF _ (fun b => absurd b (by decide)) (fun _ _ => h) (fun b0 b1 b2 => absurd (by decide) b1) (fun b0 b1 b2 b3 => absurd (by decide) b1) (fun b0 b1 b2 b3 => absurd (by decide) b1)
  · exact q54r hF _ (fun _ => h) (fun b0 b1 => absurd (by decide) b0) (fun b0 b1 b2 => absurd (by decide) b0) (fun b0 b1 b2 b3 => absurd (by decide) b0) (fun b0 b1 b2 b3 => absurd (by decide) b0)

theorem q52 {d : Nat} {S : zS} (hF : zFin true S) (hd : 4 ≤ d) {s k : Nat} {cs : List Nat} (hk : k < cs.length) (hs : zStr S s cs) (h0 : (48 ≤ cs.getD k 0 ∧ cs.getD k 0 ≤ 57) ∨ (97 ≤ cs.getD k 0 ∧ cs.getD k 0 ≤ 102)) {post : Outcome × zS → Prop} (h1 : ((cs.getD k 0) ≤ 57) → post (.returned (some (.int ((Int32.ofNat (cs.getD k 0)) - 48))), S)) (h2 : (¬ ((cs.getD k 0) ≤ 57)) → post (.returned (some (.int (Int32.ofNat (((cs.getD k 0) - 97) + 10)))), S)) : zCall d 52 [.ref s, .int (Int32.ofNat k)] S post := by
  have ht : ztab 52 = ztb52 := rfl
  show zEv d 52 0 [.ref s, .int (Int32.ofNat k), .retAddr 0] [] S post
  refine zv_c1 ht rfl rfl (zv_c1 ht rfl rfl ?_)
  refine zv_cl ht rfl rfl rfl (zv_tgv hs.ty rfl) (by omega) (Nat.le_of_ble_eq_true rfl) (j_charAt (S := S) hF (by omega) hs (by omega)  ?_)
  show zEv d 52 5 [.ref s, .int (Int32.ofNat k), .retAddr 0] [.int (Int32.ofNat (cs.getD k 0))] S post
  refine zv_c2 (L' := [.ref s, .int (Int32.ofNat k), .int (Int32.ofNat (cs.getD k 0))]) ht rfl rfl ?_
  refine zv_c1 ht rfl rfl (zv_c1 ht rfl rfl ?_)
  refine zv_br ht rfl rfl rfl (fun b1 => ?_) (fun b1 => ?_)
  · replace b1 : (cs.getD k 0) ≤ 57 := (zi_leE (a := (cs.getD k 0)) (b := 57) rfl rfl (by omega) (by omega)).mp b1
    refine zv_c1 ht rfl rfl (zv_c1 ht rfl rfl (zv_c1 ht rfl rfl ?_))
    exact zv_rt ht rfl rfl rfl rfl (h1 b1)
  · replace b1 : ¬ ((cs.getD k 0) ≤ 57) := fun h => b1 ((zi_leE (a := (cs.getD k 0)) (b := 57) rfl rfl (by omega) (by omega)).mpr h)
    refine zv_c1 ht rfl rfl (zv_c1 ht rfl rfl (zv_c1 ht rfl rfl (zv_c1 ht rfl rfl ?_)))
    refine zv_e1 (x := Int32.ofNat (((cs.getD k 0) - 97) + 10)) ht rfl rfl (zi_addE (zi_subE rfl rfl (by omega)) rfl) ?_
    refine zv_c1 ht rfl rfl ?_
    exact zv_rt ht rfl rfl rfl rfl (h2 b1)

theorem hexok_at {cs : List Nat} (h : hexok cs = true) {k : Nat} (hk : k < cs.length) : (48 ≤ cs.getD k 0 ∧ cs.getD k 0 ≤ 57) ∨ (97 ≤ cs.getD k 0 ∧ cs.getD k 0 ≤ 102) := by
  have := List.all_eq_true.mp h _ (getD_mem hk)
  simp only [Bool.or_eq_true, Bool.and_eq_true, Nat.ble_eq] at this
  exact this
theorem x_at {d : Nat} {S : zS} (hF : zFin true S) (hd : 4 ≤ d) {s k : Nat} {cs : List Nat} (hs : zStr S s cs) (hk : k < cs.length) (hx : hexok cs = true) {post : Outcome × zS → Prop} (h : post (.returned (some (.int (Int32.ofNat (hexd (cs.getD k 0))))), S)) : zCall d 52 [.ref s, .int (Int32.ofNat k)] S post := by
  have h0 := hexok_at hx hk
  refine q52 hF hd hk hs h0 (fun b => ?_) (fun b => ?_)
  · rw [show Int32.ofNat (cs.getD k 0) - 48 = Int32.ofNat (cs.getD k 0 - 48) from zi_subE rfl rfl (by omega)]
    unfold hexd at h
    rw [if_neg (by omega)] at h
    exact h
  · unfold hexd at h
    rw [if_pos (by omega)] at h
    exact h
theorem rO_ok (l : Bool) : (rO l).length = 80 ∧ ∀ v ∈ rO l, v < 16 := by cases l <;> decide +kernel
theorem rT_ok (l : Bool) : (rT l).length = 80 ∧ ∀ v ∈ rT l, v < 16 := by cases l <;> decide +kernel
theorem ztn_hex : hexok (ztn 1) = true ∧ hexok (ztn 2) = true ∧ hexok (ztn 3) = true ∧ hexok (ztn 4) = true := by decide +kernel
theorem ztn_len : (ztn 1).length = 80 ∧ (ztn 2).length = 80 ∧ (ztn 3).length = 80 ∧ (ztn 4).length = 80 := by decide +kernel
theorem ztn_val : ∀ k, k < 80 → hexd ((ztn 1).getD k 0) = (rO true).getD k 0 ∧ hexd ((ztn 2).getD k 0) = (rO false).getD k 0 ∧ hexd ((ztn 3).getD k 0) = (rT true).getD k 0 ∧ hexd ((ztn 4).getD k 0) = (rT false).getD k 0 := by decide +kernel
theorem x_atT {d : Nat} {S : zS} (hF : zFin true S) (hd : 4 ≤ d) (hLt : zLits S) (q k : Nat) (hq : 1 ≤ q ∧ q ≤ 4) (hk : k < 80) {post : Outcome × zS → Prop} (h : post (.returned (some (.int (Int32.ofNat ((match q with | 1 => rO true | 2 => rO false | 3 => rT true | _ => rT false).getD k 0)))), S)) : zCall d 52 [.ref (zLB + 2 * q), .int (Int32.ofNat k)] S post := by
  have hc : q = 1 ∨ q = 2 ∨ q = 3 ∨ q = 4 := by omega
  have hv := ztn_val k hk
  have hn := ztn_len
  have hx := ztn_hex
  rcases hc with rfl | rfl | rfl | rfl
  · refine x_at hF hd (hLt 1 (by omega)).1 (by rw [hn.1]; exact hk) hx.1 ?_
    rw [hv.1]; exact h
  · refine x_at hF hd (hLt 2 (by omega)).1 (by rw [hn.2.1]; exact hk) hx.2.1 ?_
    rw [hv.2.1]; exact h
  · refine x_at hF hd (hLt 3 (by omega)).1 (by rw [hn.2.2.1]; exact hk) hx.2.2.1 ?_
    rw [hv.2.2.1]; exact h
  · refine x_at hF hd (hLt 4 (by omega)).1 (by rw [hn.2.2.2]; exact hk) hx.2.2.2 ?_
    rw [hv.2.2.2]; exact h
theorem rO_lt (l : Bool) {k : Nat} (hk : k < 80) : (rO l).getD k 0 < 16 := (rO_ok l).2 _ (getD_mem (by rw [(rO_ok l).1]; exact hk))
def q51l_e1 (S : zS) (k : Nat) : Int32 := (((gA S 6 0) + (hMix (k / 16) (gA S 6 1) (gA S 6 2) (gA S 6 3))) + (gA S 5 ((rO true).getD k 0))) + (rK true (k / 16))
def q51l_e2 (S : zS) (k : Nat) : Int32 := (hL (q51l_e1 S k) (Int32.ofNat ((rT true).getD k 0))) + (gA S 6 4)
theorem q51l {d : Nat} {S : zS} (hF : zFin true S) (hd : 5 ≤ d) (k : Nat) (hk : k < 80) (hLt : zLits S) (ho : (rO true).getD k 0 < 16) {post : Outcome × zS → Prop} (h1 : post (.returned none, sA (sA (sA (sA (sA S 6 0 (gA S 6 4)) 6 4 (gA S 6 3)) 6 3 (hL (gA S 6 2) 10)) 6 2 (gA S 6 1)) 6 1 (q51l_e2 S k))) : zCall d 51 [.ref 1, .ref 6, .int (Int32.ofNat k), .int 1] S post := by
  have ht : ztab 51 = ztb51 := rfl
  show zEv d 51 0 [.ref 1, .ref 6, .int (Int32.ofNat k), .int 1, .retAddr 0, .retAddr 0, .retAddr 0, .retAddr 0, .retAddr 0] [] S post
  refine zv_c1 ht rfl rfl (zv_c1 ht rfl rfl ?_)
  refine zv_ei (x := Int32.ofNat (k / 16)) ht rfl rfl (zi_nz (a := 16) rfl (by omega) (by omega)) (zi_divE (a := k) (b := 16) rfl rfl (by omega) (by omega)) ?_
  refine zv_c2 (L' := [.ref 1, .ref 6, .int (Int32.ofNat k), .int 1, .int (Int32.ofNat (k / 16)), .retAddr 0, .retAddr 0, .retAddr 0, .retAddr 0]) ht rfl rfl ?_
  refine zv_c1 ht rfl rfl ?_
  refine zv_br ht rfl rfl rfl (fun h => absurd h (by decide)) (fun _ => ?_)
  refine zv_c1 ht rfl rfl (zv_c1 ht rfl rfl ?_)
  refine zv_c2 (L' := [.ref 1, .ref 6, .int (Int32.ofNat k), .int 1, .int (Int32.ofNat (k / 16)), .int (Int32.ofNat (k / 16)), .retAddr 0, .retAddr 0, .retAddr 0]) ht rfl rfl ?_
  refine zv_c1 ht rfl rfl ?_
  refine zv_gl (st' := [.ref 5]) ht rfl hF rfl rfl rfl ?_
  refine zv_c1 ht rfl rfl ?_
  refine zv_br ht rfl rfl rfl (fun h => absurd h (by decide)) (fun _ => ?_)
  refine zv_c1 ht rfl rfl (zv_c1 ht rfl rfl (zv_c1 ht rfl rfl ?_))
  refine zv_cl ht rfl rfl rfl rfl (by omega) (Nat.le_of_ble_eq_true rfl) (x_atT (S := S) hF (by omega) hLt 1 k (by omega) hk  ?_)
  show zEv d 51 40 [.ref 1, .ref 6, .int (Int32.ofNat k), .int 1, .int (Int32.ofNat (k / 16)), .int (Int32.ofNat (k / 16)), .retAddr 0, .retAddr 0, .retAddr 0] [.int (Int32.ofNat ((rO true).getD k 0)), .ref 5] S post
  refine zv_ia (j := ((rO true).getD k 0)) ht rfl rfl rfl rfl (zi_natE (a := ((rO true).getD k 0)) rfl (by omega)) ⟨(Or.inl rfl), zi_inE (a := ((rO true).getD k 0)) (n := 64) rfl (by omega) (by omega)⟩ ?_
  refine zv_c2 (L' := [.ref 1, .ref 6, .int (Int32.ofNat k), .int 1, .int (Int32.ofNat (k / 16)), .int (Int32.ofNat (k / 16)), .int (gA S 5 ((rO true).getD k 0)), .retAddr 0, .retAddr 0]) ht rfl rfl ?_
  refine zv_c1 ht rfl rfl (zv_c1 ht rfl rfl ?_)
  refine zv_ia (j := 0) ht rfl rfl rfl rfl (zi_nat (k := 0) (by decide)) ⟨(Or.inl rfl), zi_in (k := 0) (n := 5) (by decide) (by decide)⟩ ?_
  refine zv_c1 ht rfl rfl (zv_c1 ht rfl rfl (zv_c1 ht rfl rfl ?_))
  refine zv_ia (j := 1) ht rfl rfl rfl rfl (zi_nat (k := 1) (by decide)) ⟨(Or.inl rfl), zi_in (k := 1) (n := 5) (by decide) (by decide)⟩ ?_
  refine zv_c1 ht rfl rfl (zv_c1 ht rfl rfl ?_)
  refine zv_ia (j := 2) ht rfl rfl rfl rfl (zi_nat (k := 2) (by decide)) ⟨(Or.inl rfl), zi_in (k := 2) (n := 5) (by decide) (by decide)⟩ ?_
  refine zv_c1 ht rfl rfl (zv_c1 ht rfl rfl ?_)
  refine zv_ia (j := 3) ht rfl rfl rfl rfl (zi_nat (k := 3) (by decide)) ⟨(Or.inl rfl), zi_in (k := 3) (n := 5) (by decide) (by decide)⟩ ?_
  refine zv_cl ht rfl rfl rfl rfl (by omega) (Nat.le_of_ble_eq_true rfl) (x_mixed (S := S) hF (k / 16) (by omega) _ _ _  ?_)
  show zEv d 51 60 [.ref 1, .ref 6, .int (Int32.ofNat k), .int 1, .int (Int32.ofNat (k / 16)), .int (Int32.ofNat (k / 16)), .int (gA S 5 ((rO true).getD k 0)), .retAddr 0, .retAddr 0] [.int (hMix (k / 16) (gA S 6 1) (gA S 6 2) (gA S 6 3)), .int (gA S 6 0)] S post
  refine zv_c1 ht rfl rfl (zv_c1 ht rfl rfl (zv_c1 ht rfl rfl (zv_c1 ht rfl rfl (zv_c1 ht rfl rfl ?_))))
  refine zv_cl ht rfl rfl rfl rfl (by omega) (Nat.le_of_ble_eq_true rfl) (x_constL (S := S) hF (k / 16) (by omega)  ?_)
  show zEv d 51 70 [.ref 1, .ref 6, .int (Int32.ofNat k), .int 1, .int (Int32.ofNat (k / 16)), .int (Int32.ofNat (k / 16)), .int (gA S 5 ((rO true).getD k 0)), .retAddr 0, .retAddr 0] [.int (rK true (k / 16)), .int (((gA S 6 0) + (hMix (k / 16) (gA S 6 1) (gA S 6 2) (gA S 6 3))) + (gA S 5 ((rO true).getD k 0)))] S post
  refine zv_c1 ht rfl rfl ?_
  refine zv_c2 (L' := [.ref 1, .ref 6, .int (Int32.ofNat k), .int 1, .int (Int32.ofNat (k / 16)), .int (Int32.ofNat (k / 16)), .int (gA S 5 ((rO true).getD k 0)), .int (q51l_e1 S k), .retAddr 0]) ht rfl rfl ?_
  refine zv_c1 ht rfl rfl (zv_c1 ht rfl rfl ?_)
  refine zv_br ht rfl rfl rfl (fun h => absurd h (by decide)) (fun _ => ?_)
  refine zv_c1 ht rfl rfl (zv_c1 ht rfl rfl (zv_c1 ht rfl rfl ?_))
  refine zv_cl ht rfl rfl rfl rfl (by omega) (Nat.le_of_ble_eq_true rfl) (x_atT (S := S) hF (by omega) hLt 3 k (by omega) hk  ?_)
  show zEv d 51 90 [.ref 1, .ref 6, .int (Int32.ofNat k), .int 1, .int (Int32.ofNat (k / 16)), .int (Int32.ofNat (k / 16)), .int (gA S 5 ((rO true).getD k 0)), .int (q51l_e1 S k), .retAddr 0] [.int (Int32.ofNat ((rT true).getD k 0)), .int (q51l_e1 S k)] S post
  refine zv_cl ht rfl rfl rfl rfl (by omega) (Nat.le_of_ble_eq_true rfl) (x_left (S := S) hF (q51l_e1 S k) (Int32.ofNat ((rT true).getD k 0)) ?_)
  show zEv d 51 93 [.ref 1, .ref 6, .int (Int32.ofNat k), .int 1, .int (Int32.ofNat (k / 16)), .int (Int32.ofNat (k / 16)), .int (gA S 5 ((rO true).getD k 0)), .int (q51l_e1 S k), .retAddr 0] [.int (hL (q51l_e1 S k) (Int32.ofNat ((rT true).getD k 0)))] S post
  refine zv_c1 ht rfl rfl (zv_c1 ht rfl rfl ?_)
  refine zv_ia (j := 4) ht rfl rfl rfl rfl (zi_nat (k := 4) (by decide)) ⟨(Or.inl rfl), zi_in (k := 4) (n := 5) (by decide) (by decide)⟩ ?_
  refine zv_c1 ht rfl rfl ?_
  refine zv_c2 (L' := [.ref 1, .ref 6, .int (Int32.ofNat k), .int 1, .int (Int32.ofNat (k / 16)), .int (Int32.ofNat (k / 16)), .int (gA S 5 ((rO true).getD k 0)), .int (q51l_e1 S k), .int (q51l_e2 S k)]) ht rfl rfl ?_
  refine zv_c1 ht rfl rfl (zv_c1 ht rfl rfl (zv_c1 ht rfl rfl (zv_c1 ht rfl rfl ?_)))
  refine zv_ia (j := 4) ht rfl rfl rfl rfl (zi_nat (k := 4) (by decide)) ⟨(Or.inl rfl), zi_in (k := 4) (n := 5) (by decide) (by decide)⟩ ?_
  refine zv_is (j := 0) (x := gA S 6 4) ht rfl rfl rfl rfl (zi_nat (k := 0) (by decide)) ⟨rfl, zi_in (k := 0) (n := 5) (by decide) (by decide)⟩ ?_
  refine zv_c1 ht rfl rfl (zv_c1 ht rfl rfl (zv_c1 ht rfl rfl (zv_c1 ht rfl rfl ?_)))
  refine zv_ia (j := 3) ht rfl rfl rfl rfl (zi_nat (k := 3) (by decide)) ⟨(Or.inl rfl), zi_in (k := 3) (n := 5) (by decide) (by decide)⟩ ?_
  show zEv d 51 110 [.ref 1, .ref 6, .int (Int32.ofNat k), .int 1, .int (Int32.ofNat (k / 16)), .int (Int32.ofNat (k / 16)), .int (gA S 5 ((rO true).getD k 0)), .int (q51l_e1 S k), .int (q51l_e2 S k)] [.int (gA S 6 3), .int 4, .ref 6] (sA S 6 0 (gA S 6 4)) post
  refine zv_is (j := 4) (x := gA S 6 3) ht rfl rfl rfl rfl (zi_nat (k := 4) (by decide)) ⟨rfl, zi_in (k := 4) (n := 5) (by decide) (by decide)⟩ ?_
  refine zv_c1 ht rfl rfl (zv_c1 ht rfl rfl (zv_c1 ht rfl rfl (zv_c1 ht rfl rfl ?_)))
  refine zv_ia (j := 2) ht rfl rfl rfl rfl (zi_nat (k := 2) (by decide)) ⟨(Or.inl rfl), zi_in (k := 2) (n := 5) (by decide) (by decide)⟩ ?_
  show zEv d 51 116 [.ref 1, .ref 6, .int (Int32.ofNat k), .int 1, .int (Int32.ofNat (k / 16)), .int (Int32.ofNat (k / 16)), .int (gA S 5 ((rO true).getD k 0)), .int (q51l_e1 S k), .int (q51l_e2 S k)] [.int (gA S 6 2), .int 3, .ref 6] (sA (sA S 6 0 (gA S 6 4)) 6 4 (gA S 6 3)) post
  refine zv_c1 ht rfl rfl ?_
  refine zv_cl ht rfl rfl rfl rfl (by omega) (Nat.le_of_ble_eq_true rfl) (x_left (S := sA (sA S 6 0 (gA S 6 4)) 6 4 (gA S 6 3)) hF (gA S 6 2) 10 ?_)
  show zEv d 51 121 [.ref 1, .ref 6, .int (Int32.ofNat k), .int 1, .int (Int32.ofNat (k / 16)), .int (Int32.ofNat (k / 16)), .int (gA S 5 ((rO true).getD k 0)), .int (q51l_e1 S k), .int (q51l_e2 S k)] [.int (hL (gA S 6 2) 10), .int 3, .ref 6] (sA (sA S 6 0 (gA S 6 4)) 6 4 (gA S 6 3)) post
  refine zv_is (j := 3) (x := hL (gA S 6 2) 10) ht rfl rfl rfl rfl (zi_nat (k := 3) (by decide)) ⟨rfl, zi_in (k := 3) (n := 5) (by decide) (by decide)⟩ ?_
  refine zv_c1 ht rfl rfl (zv_c1 ht rfl rfl (zv_c1 ht rfl rfl (zv_c1 ht rfl rfl ?_)))
  refine zv_ia (j := 1) ht rfl rfl rfl rfl (zi_nat (k := 1) (by decide)) ⟨(Or.inl rfl), zi_in (k := 1) (n := 5) (by decide) (by decide)⟩ ?_
  show zEv d 51 127 [.ref 1, .ref 6, .int (Int32.ofNat k), .int 1, .int (Int32.ofNat (k / 16)), .int (Int32.ofNat (k / 16)), .int (gA S 5 ((rO true).getD k 0)), .int (q51l_e1 S k), .int (q51l_e2 S k)] [.int (gA S 6 1), .int 2, .ref 6] (sA (sA (sA S 6 0 (gA S 6 4)) 6 4 (gA S 6 3)) 6 3 (hL (gA S 6 2) 10)) post
  refine zv_is (j := 2) (x := gA S 6 1) ht rfl rfl rfl rfl (zi_nat (k := 2) (by decide)) ⟨rfl, zi_in (k := 2) (n := 5) (by decide) (by decide)⟩ ?_
  refine zv_c1 ht rfl rfl (zv_c1 ht rfl rfl (zv_c1 ht rfl rfl ?_))
  refine zv_is (j := 1) (x := q51l_e2 S k) ht rfl rfl rfl rfl (zi_nat (k := 1) (by decide)) ⟨rfl, zi_in (k := 1) (n := 5) (by decide) (by decide)⟩ ?_
  exact zv_rt ht rfl rfl rfl rfl h1

def q51r_e1 (S : zS) (k : Nat) : Int32 := (((gA S 7 0) + (hMix (4 - (k / 16)) (gA S 7 1) (gA S 7 2) (gA S 7 3))) + (gA S 5 ((rO false).getD k 0))) + (rK false (k / 16))
def q51r_e2 (S : zS) (k : Nat) : Int32 := (hL (q51r_e1 S k) (Int32.ofNat ((rT false).getD k 0))) + (gA S 7 4)
theorem q51r {d : Nat} {S : zS} (hF : zFin true S) (hd : 5 ≤ d) (k : Nat) (hk : k < 80) (hLt : zLits S) (ho : (rO false).getD k 0 < 16) {post : Outcome × zS → Prop} (h1 : post (.returned none, sA (sA (sA (sA (sA S 7 0 (gA S 7 4)) 7 4 (gA S 7 3)) 7 3 (hL (gA S 7 2) 10)) 7 2 (gA S 7 1)) 7 1 (q51r_e2 S k))) : zCall d 51 [.ref 1, .ref 7, .int (Int32.ofNat k), .int 0] S post := by
  have ht : ztab 51 = ztb51 := rfl
  show zEv d 51 0 [.ref 1, .ref 7, .int (Int32.ofNat k), .int 0, .retAddr 0, .retAddr 0, .retAddr 0, .retAddr 0, .retAddr 0] [] S post
  refine zv_c1 ht rfl rfl (zv_c1 ht rfl rfl ?_)
  refine zv_ei (x := Int32.ofNat (k / 16)) ht rfl rfl (zi_nz (a := 16) rfl (by omega) (by omega)) (zi_divE (a := k) (b := 16) rfl rfl (by omega) (by omega)) ?_
  refine zv_c2 (L' := [.ref 1, .ref 7, .int (Int32.ofNat k), .int 0, .int (Int32.ofNat (k / 16)), .retAddr 0, .retAddr 0, .retAddr 0, .retAddr 0]) ht rfl rfl ?_
  refine zv_c1 ht rfl rfl ?_
  refine zv_br ht rfl rfl rfl (fun _ => ?_) (fun h => absurd (by decide) h)
  refine zv_c1 ht rfl rfl (zv_c1 ht rfl rfl (zv_c1 ht rfl rfl ?_))
  refine zv_c2 (L' := [.ref 1, .ref 7, .int (Int32.ofNat k), .int 0, .int (Int32.ofNat (k / 16)), .int (4 - (Int32.ofNat (k / 16))), .retAddr 0, .retAddr 0, .retAddr 0]) ht rfl rfl ?_
  refine zv_c1 ht rfl rfl ?_
  refine zv_gl (st' := [.ref 5]) ht rfl hF rfl rfl rfl ?_
  refine zv_c1 ht rfl rfl ?_
  refine zv_br ht rfl rfl rfl (fun _ => ?_) (fun h => absurd (by decide) h)
  refine zv_c1 ht rfl rfl (zv_c1 ht rfl rfl ?_)
  refine zv_cl ht rfl rfl rfl rfl (by omega) (Nat.le_of_ble_eq_true rfl) (x_atT (S := S) hF (by omega) hLt 2 k (by omega) hk  ?_)
  show zEv d 51 40 [.ref 1, .ref 7, .int (Int32.ofNat k), .int 0, .int (Int32.ofNat (k / 16)), .int (4 - (Int32.ofNat (k / 16))), .retAddr 0, .retAddr 0, .retAddr 0] [.int (Int32.ofNat ((rO false).getD k 0)), .ref 5] S post
  refine zv_ia (j := ((rO false).getD k 0)) ht rfl rfl rfl rfl (zi_natE (a := ((rO false).getD k 0)) rfl (by omega)) ⟨(Or.inl rfl), zi_inE (a := ((rO false).getD k 0)) (n := 64) rfl (by omega) (by omega)⟩ ?_
  refine zv_c2 (L' := [.ref 1, .ref 7, .int (Int32.ofNat k), .int 0, .int (Int32.ofNat (k / 16)), .int (4 - (Int32.ofNat (k / 16))), .int (gA S 5 ((rO false).getD k 0)), .retAddr 0, .retAddr 0]) ht rfl rfl ?_
  refine zv_c1 ht rfl rfl (zv_c1 ht rfl rfl ?_)
  refine zv_ia (j := 0) ht rfl rfl rfl rfl (zi_nat (k := 0) (by decide)) ⟨(Or.inl rfl), zi_in (k := 0) (n := 5) (by decide) (by decide)⟩ ?_
  refine zv_c1 ht rfl rfl (zv_c1 ht rfl rfl (zv_c1 ht rfl rfl ?_))
  refine zv_ia (j := 1) ht rfl rfl rfl rfl (zi_nat (k := 1) (by decide)) ⟨(Or.inl rfl), zi_in (k := 1) (n := 5) (by decide) (by decide)⟩ ?_
  refine zv_c1 ht rfl rfl (zv_c1 ht rfl rfl ?_)
  refine zv_ia (j := 2) ht rfl rfl rfl rfl (zi_nat (k := 2) (by decide)) ⟨(Or.inl rfl), zi_in (k := 2) (n := 5) (by decide) (by decide)⟩ ?_
  refine zv_c1 ht rfl rfl (zv_c1 ht rfl rfl ?_)
  refine zv_ia (j := 3) ht rfl rfl rfl rfl (zi_nat (k := 3) (by decide)) ⟨(Or.inl rfl), zi_in (k := 3) (n := 5) (by decide) (by decide)⟩ ?_
  refine zv_st (congrArg (fun zz => ([.int (gA S 7 3), .int (gA S 7 2), .int (gA S 7 1), .int zz, .int (gA S 7 0)] : List Value)) ((zi_subE rfl rfl (by omega)) : 4 - (Int32.ofNat (k / 16)) = Int32.ofNat (4 - (k / 16)))) ?_
  refine zv_cl ht rfl rfl rfl rfl (by omega) (Nat.le_of_ble_eq_true rfl) (x_mixed (S := S) hF (4 - (k / 16)) (by omega) _ _ _  ?_)
  show zEv d 51 60 [.ref 1, .ref 7, .int (Int32.ofNat k), .int 0, .int (Int32.ofNat (k / 16)), .int (4 - (Int32.ofNat (k / 16))), .int (gA S 5 ((rO false).getD k 0)), .retAddr 0, .retAddr 0] [.int (hMix (4 - (k / 16)) (gA S 7 1) (gA S 7 2) (gA S 7 3)), .int (gA S 7 0)] S post
  refine zv_c1 ht rfl rfl (zv_c1 ht rfl rfl (zv_c1 ht rfl rfl (zv_c1 ht rfl rfl (zv_c1 ht rfl rfl ?_))))
  refine zv_cl ht rfl rfl rfl rfl (by omega) (Nat.le_of_ble_eq_true rfl) (x_constR (S := S) hF (k / 16) (by omega)  ?_)
  show zEv d 51 70 [.ref 1, .ref 7, .int (Int32.ofNat k), .int 0, .int (Int32.ofNat (k / 16)), .int (4 - (Int32.ofNat (k / 16))), .int (gA S 5 ((rO false).getD k 0)), .retAddr 0, .retAddr 0] [.int (rK false (k / 16)), .int (((gA S 7 0) + (hMix (4 - (k / 16)) (gA S 7 1) (gA S 7 2) (gA S 7 3))) + (gA S 5 ((rO false).getD k 0)))] S post
  refine zv_c1 ht rfl rfl ?_
  refine zv_c2 (L' := [.ref 1, .ref 7, .int (Int32.ofNat k), .int 0, .int (Int32.ofNat (k / 16)), .int (4 - (Int32.ofNat (k / 16))), .int (gA S 5 ((rO false).getD k 0)), .int (q51r_e1 S k), .retAddr 0]) ht rfl rfl ?_
  refine zv_c1 ht rfl rfl (zv_c1 ht rfl rfl ?_)
  refine zv_br ht rfl rfl rfl (fun _ => ?_) (fun h => absurd (by decide) h)
  refine zv_c1 ht rfl rfl (zv_c1 ht rfl rfl ?_)
  refine zv_cl ht rfl rfl rfl rfl (by omega) (Nat.le_of_ble_eq_true rfl) (x_atT (S := S) hF (by omega) hLt 4 k (by omega) hk  ?_)
  show zEv d 51 90 [.ref 1, .ref 7, .int (Int32.ofNat k), .int 0, .int (Int32.ofNat (k / 16)), .int (4 - (Int32.ofNat (k / 16))), .int (gA S 5 ((rO false).getD k 0)), .int (q51r_e1 S k), .retAddr 0] [.int (Int32.ofNat ((rT false).getD k 0)), .int (q51r_e1 S k)] S post
  refine zv_cl ht rfl rfl rfl rfl (by omega) (Nat.le_of_ble_eq_true rfl) (x_left (S := S) hF (q51r_e1 S k) (Int32.ofNat ((rT false).getD k 0)) ?_)
  show zEv d 51 93 [.ref 1, .ref 7, .int (Int32.ofNat k), .int 0, .int (Int32.ofNat (k / 16)), .int (4 - (Int32.ofNat (k / 16))), .int (gA S 5 ((rO false).getD k 0)), .int (q51r_e1 S k), .retAddr 0] [.int (hL (q51r_e1 S k) (Int32.ofNat ((rT false).getD k 0)))] S post
  refine zv_c1 ht rfl rfl (zv_c1 ht rfl rfl ?_)
  refine zv_ia (j := 4) ht rfl rfl rfl rfl (zi_nat (k := 4) (by decide)) ⟨(Or.inl rfl), zi_in (k := 4) (n := 5) (by decide) (by decide)⟩ ?_
  refine zv_c1 ht rfl rfl ?_
  refine zv_c2 (L' := [.ref 1, .ref 7, .int (Int32.ofNat k), .int 0, .int (Int32.ofNat (k / 16)), .int (4 - (Int32.ofNat (k / 16))), .int (gA S 5 ((rO false).getD k 0)), .int (q51r_e1 S k), .int (q51r_e2 S k)]) ht rfl rfl ?_
  refine zv_c1 ht rfl rfl (zv_c1 ht rfl rfl (zv_c1 ht rfl rfl (zv_c1 ht rfl rfl ?_)))
  refine zv_ia (j := 4) ht rfl rfl rfl rfl (zi_nat (k := 4) (by decide)) ⟨(Or.inl rfl), zi_in (k := 4) (n := 5) (by decide) (by decide)⟩ ?_
  refine zv_is (j := 0) (x := gA S 7 4) ht rfl rfl rfl rfl (zi_nat (k := 0) (by decide)) ⟨rfl, zi_in (k := 0) (n := 5) (by decide) (by decide)⟩ ?_
  refine zv_c1 ht rfl rfl (zv_c1 ht rfl rfl (zv_c1 ht rfl rfl (zv_c1 ht rfl rfl ?_)))
  refine zv_ia (j := 3) ht rfl rfl rfl rfl (zi_nat (k := 3) (by decide)) ⟨(Or.inl rfl), zi_in (k := 3) (n := 5) (by decide) (by decide)⟩ ?_
  show zEv d 51 110 [.ref 1, .ref 7, .int (Int32.ofNat k), .int 0, .int (Int32.ofNat (k / 16)), .int (4 - (Int32.ofNat (k / 16))), .int (gA S 5 ((rO false).getD k 0)), .int (q51r_e1 S k), .int (q51r_e2 S k)] [.int (gA S 7 3), .int 4, .ref 7] (sA S 7 0 (gA S 7 4)) post
  refine zv_is (j := 4) (x := gA S 7 3) ht rfl rfl rfl rfl (zi_nat (k := 4) (by decide)) ⟨rfl, zi_in (k := 4) (n := 5) (by decide) (by decide)⟩ ?_
  refine zv_c1 ht rfl rfl (zv_c1 ht rfl rfl (zv_c1 ht rfl rfl (zv_c1 ht rfl rfl ?_)))
  refine zv_ia (j := 2) ht rfl rfl rfl rfl (zi_nat (k := 2) (by decide)) ⟨(Or.inl rfl), zi_in (k := 2) (n := 5) (by decide) (by decide)⟩ ?_
  show zEv d 51 116 [.ref 1, .ref 7, .int (Int32.ofNat k), .int 0, .int (Int32.ofNat (k / 16)), .int (4 - (Int32.ofNat (k / 16))), .int (gA S 5 ((rO false).getD k 0)), .int (q51r_e1 S k), .int (q51r_e2 S k)] [.int (gA S 7 2), .int 3, .ref 7] (sA (sA S 7 0 (gA S 7 4)) 7 4 (gA S 7 3)) post
  refine zv_c1 ht rfl rfl ?_
  refine zv_cl ht rfl rfl rfl rfl (by omega) (Nat.le_of_ble_eq_true rfl) (x_left (S := sA (sA S 7 0 (gA S 7 4)) 7 4 (gA S 7 3)) hF (gA S 7 2) 10 ?_)
  show zEv d 51 121 [.ref 1, .ref 7, .int (Int32.ofNat k), .int 0, .int (Int32.ofNat (k / 16)), .int (4 - (Int32.ofNat (k / 16))), .int (gA S 5 ((rO false).getD k 0)), .int (q51r_e1 S k), .int (q51r_e2 S k)] [.int (hL (gA S 7 2) 10), .int 3, .ref 7] (sA (sA S 7 0 (gA S 7 4)) 7 4 (gA S 7 3)) post
  refine zv_is (j := 3) (x := hL (gA S 7 2) 10) ht rfl rfl rfl rfl (zi_nat (k := 3) (by decide)) ⟨rfl, zi_in (k := 3) (n := 5) (by decide) (by decide)⟩ ?_
  refine zv_c1 ht rfl rfl (zv_c1 ht rfl rfl (zv_c1 ht rfl rfl (zv_c1 ht rfl rfl ?_)))
  refine zv_ia (j := 1) ht rfl rfl rfl rfl (zi_nat (k := 1) (by decide)) ⟨(Or.inl rfl), zi_in (k := 1) (n := 5) (by decide) (by decide)⟩ ?_
  show zEv d 51 127 [.ref 1, .ref 7, .int (Int32.ofNat k), .int 0, .int (Int32.ofNat (k / 16)), .int (4 - (Int32.ofNat (k / 16))), .int (gA S 5 ((rO false).getD k 0)), .int (q51r_e1 S k), .int (q51r_e2 S k)] [.int (gA S 7 1), .int 2, .ref 7] (sA (sA (sA S 7 0 (gA S 7 4)) 7 4 (gA S 7 3)) 7 3 (hL (gA S 7 2) 10)) post
  refine zv_is (j := 2) (x := gA S 7 1) ht rfl rfl rfl rfl (zi_nat (k := 2) (by decide)) ⟨rfl, zi_in (k := 2) (n := 5) (by decide) (by decide)⟩ ?_
  refine zv_c1 ht rfl rfl (zv_c1 ht rfl rfl (zv_c1 ht rfl rfl ?_))
  refine zv_is (j := 1) (x := q51r_e2 S k) ht rfl rfl rfl rfl (zi_nat (k := 1) (by decide)) ⟨rfl, zi_in (k := 1) (n := 5) (by decide) (by decide)⟩ ?_
  exact zv_rt ht rfl rfl rfl rfl h1


