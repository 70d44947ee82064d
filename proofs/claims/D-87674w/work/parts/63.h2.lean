set_option maxRecDepth 100000
/-! ===== the twin's hashes ===== -/
def mSd : List Nat := [1594, 1596, 1597, 1595, 1606]
/-- the twin's constants -/
def mC (S : zS) : Prop := (∀ k, k < 64 → gA S 1598 k = hK k) ∧ (∀ k, k < 8 → gA S 1599 k = hB0 k) ∧ (∀ k, k < 80 → gA S 1600 k = Int32.ofNat ((rO true).getD k 0)) ∧ (∀ k, k < 80 → gA S 1601 k = Int32.ofNat ((rO false).getD k 0)) ∧ (∀ k, k < 80 → gA S 1602 k = Int32.ofNat ((rT true).getD k 0)) ∧ (∀ k, k < 80 → gA S 1603 k = Int32.ofNat ((rT false).getD k 0)) ∧ (∀ k, k < 5 → gA S 1604 k = rK true k) ∧ (∀ k, k < 5 → gA S 1605 k = rK false k)
theorem mC.k {S S' : zS} (h : mC S) {fs as : List Nat} (k : zTK fs as S S') (ha : ∀ a ∈ [1598, 1599, 1600, 1601, 1602, 1603, 1604, 1605], a ∉ as) : mC S' := by
  obtain ⟨h1, h2, h3, h4, h5, h6, h7, h8⟩ := h
  exact ⟨fun j hj => (k.A (ha _ (by decide))).trans (h1 j hj), fun j hj => (k.A (ha _ (by decide))).trans (h2 j hj), fun j hj => (k.A (ha _ (by decide))).trans (h3 j hj), fun j hj => (k.A (ha _ (by decide))).trans (h4 j hj), fun j hj => (k.A (ha _ (by decide))).trans (h5 j hj), fun j hj => (k.A (ha _ (by decide))).trans (h6 j hj), fun j hj => (k.A (ha _ (by decide))).trans (h7 j hj), fun j hj => (k.A (ha _ (by decide))).trans (h8 j hj)⟩
theorem m_say {d : Nat} {S : zS} (hF : zFin true S) {s : Nat} (b : Int32)  (h_sayings : gI S 57 1592 = Int32.ofNat s) (hs : s < 256) {post : Outcome × zS → Prop} (h1 : post (.returned none, sI (sA S 1594 s (b &&& (255 : Int32))) 57 1592 (Int32.ofNat (s + 1)))) : zCall d 104 [.ref 1592, .int b] S post := by
  have ht : ztab 104 = ztb104 := rfl
  show zEv d 104 0 [.ref 1592, .int b] [] S post
  refine zv_c1 ht rfl rfl ?_
  refine zv_gl (st' := [.ref 1594]) ht rfl hF rfl rfl rfl ?_
  refine zv_c1 ht rfl rfl ?_
  refine zv_e1 (x := Int32.ofNat s) ht rfl rfl h_sayings ?_
  refine zv_c1 ht rfl rfl (zv_c1 ht rfl rfl ?_)
  refine zv_c1 (st' := [.int (b &&& (255 : Int32)), .int (Int32.ofNat s), .ref 1594]) (S' := S) ht rfl rfl ?_
  refine zv_is (j := s) (x := b &&& (255 : Int32)) ht rfl rfl rfl rfl (zi_natE (a := s) rfl (by omega)) ⟨rfl, zi_inE (a := s) (n := 256) rfl (by omega) (by omega)⟩ ?_
  refine zv_c1 ht rfl rfl (zv_c1 ht rfl rfl ?_)
  refine zv_e1 (x := Int32.ofNat s) ht rfl rfl h_sayings ?_
  refine zv_c1 ht rfl rfl ?_
  refine zv_e1 (x := Int32.ofNat (s + 1)) ht rfl rfl (zi_addE (a := s) (b := 1) rfl rfl) ?_
  refine zv_c1 (S' := sI (sA S 1594 s (b &&& (255 : Int32))) 57 1592 (Int32.ofNat (s + 1))) ht rfl rfl ?_
  exact zv_rt ht rfl rfl rfl rfl h1

theorem fl0 {d : Nat} {S : zS} (hF : zFin true S) (hd : 1 ≤ d) {s : Nat} (n : Nat) (hi : Int32)  (h_sayings : gI S 57 1592 = Int32.ofNat s) (hs : s < 200) {post : Outcome × zS → Prop} (h1 : zEv d 106 7 [.ref 1592, .int (Int32.ofNat n), .int hi, .retAddr 0, .retAddr 0] [] (sI (sA S 1594 s 128) 57 1592 (Int32.ofNat (s + 1))) post) : zCall d 106 [.ref 1592, .int (Int32.ofNat n), .int hi] S post := by
  have ht : ztab 106 = ztb106 := rfl
  show zEv d 106 0 [.ref 1592, .int (Int32.ofNat n), .int hi, .retAddr 0, .retAddr 0] [] S post
  refine zv_c1 ht rfl rfl (zv_c1 ht rfl rfl ?_)
  have C2 : ∀ (pst1 : Outcome × zS → Prop), (pst1 (.returned none, sI (sA S 1594 s 128) 57 1592 (Int32.ofNat (s + 1)))) → zCall (d - 1) 104 [.ref 1592, .int 128] S pst1 := by
    intro pst1 k4
    have ht3 : ztab 104 = ztb104 := rfl
    show zEv (d - 1) 104 0 [.ref 1592, .int 128] [] S pst1
    refine zv_c1 ht3 rfl rfl ?_
    refine zv_gl (st' := [.ref 1594]) ht3 rfl hF rfl rfl rfl ?_
    refine zv_c1 ht3 rfl rfl ?_
    refine zv_e1 (x := Int32.ofNat s) ht3 rfl rfl h_sayings ?_
    refine zv_c1 ht3 rfl rfl (zv_c1 ht3 rfl rfl ?_)
    refine zv_c1 (st' := [.int 128, .int (Int32.ofNat s), .ref 1594]) (S' := S) ht3 rfl rfl ?_
    refine zv_is (j := s) (x := 128) ht3 rfl rfl rfl rfl (zi_natE (a := s) rfl (by omega)) ⟨rfl, zi_inE (a := s) (n := 256) rfl (by omega) (by omega)⟩ ?_
    refine zv_c1 ht3 rfl rfl (zv_c1 ht3 rfl rfl ?_)
    refine zv_e1 (x := Int32.ofNat s) ht3 rfl rfl h_sayings ?_
    refine zv_c1 ht3 rfl rfl ?_
    refine zv_e1 (x := Int32.ofNat (s + 1)) ht3 rfl rfl (zi_addE (a := s) (b := 1) rfl rfl) ?_
    refine zv_c1 (S' := sI (sA S 1594 s 128) 57 1592 (Int32.ofNat (s + 1))) ht3 rfl rfl ?_
    exact zv_rt ht3 rfl rfl rfl rfl k4
  refine zv_cl ht rfl rfl rfl rfl (by omega) (Nat.le_of_ble_eq_true rfl) (C2 _ ?_)
  show zEv d 106 7 [.ref 1592, .int (Int32.ofNat n), .int hi, .retAddr 0, .retAddr 0] [] (sI (sA S 1594 s 128) 57 1592 (Int32.ofNat (s + 1))) post
  exact h1

theorem fl1 {d : Nat} {S : zS} (hF : zFin true S) (hd : 1 ≤ d) {s : Nat} (n : Nat) (hi : Int32)  (h_sayings : gI S 57 1592 = Int32.ofNat s) (hs : s < 200) {post : Outcome × zS → Prop} (h1 : (s % 64 = 56) → zEv d 106 29 [.ref 1592, .int (Int32.ofNat n), .int hi, .int (Int32.ofNat 0), .retAddr 0] [] S post) (h2 : (¬ (s % 64 = 56)) → zEv d 106 7 [.ref 1592, .int (Int32.ofNat n), .int hi, .retAddr 0, .retAddr 0] [] (sI (sA S 1594 s 0) 57 1592 (Int32.ofNat (s + 1))) post) : zEv d 106 7 [.ref 1592, .int (Int32.ofNat n), .int hi, .retAddr 0, .retAddr 0] [] S post := by
  have ht : ztab 106 = ztb106 := rfl
  refine zv_c1 ht rfl rfl ?_
  refine zv_e1 (x := Int32.ofNat s) ht rfl rfl h_sayings ?_
  refine zv_c1 ht rfl rfl ?_
  refine zv_ei (x := Int32.ofNat (s % 64)) ht rfl rfl (zi_nz (a := 64) rfl (by omega) (by omega)) (zi_remE (a := s) (b := 64) rfl rfl (by omega) (by omega)) ?_
  refine zv_c1 ht rfl rfl ?_
  refine zv_br ht rfl rfl rfl (fun b1 => ?_) (fun b1 => ?_)
  · replace b1 : s % 64 = 56 := (zi_eqE (a := (s % 64)) (b := 56) rfl rfl (by omega) (by omega)).mp b1
    refine zv_c1 ht rfl rfl ?_
    refine zv_c2 (L' := [.ref 1592, .int (Int32.ofNat n), .int hi, .int 0, .retAddr 0]) ht rfl rfl ?_
    exact (h1 b1)
  · replace b1 : ¬ (s % 64 = 56) := fun h => b1 ((zi_eqE (a := (s % 64)) (b := 56) rfl rfl (by omega) (by omega)).mpr h)
    refine zv_c1 ht rfl rfl (zv_c1 ht rfl rfl ?_)
    have C3 : ∀ (pst2 : Outcome × zS → Prop), (pst2 (.returned none, sI (sA S 1594 s 0) 57 1592 (Int32.ofNat (s + 1)))) → zCall (d - 1) 104 [.ref 1592, .int 0] S pst2 := by
      intro pst2 k5
      have ht4 : ztab 104 = ztb104 := rfl
      show zEv (d - 1) 104 0 [.ref 1592, .int 0] [] S pst2
      refine zv_c1 ht4 rfl rfl ?_
      refine zv_gl (st' := [.ref 1594]) ht4 rfl hF rfl rfl rfl ?_
      refine zv_c1 ht4 rfl rfl ?_
      refine zv_e1 (x := Int32.ofNat s) ht4 rfl rfl h_sayings ?_
      refine zv_c1 ht4 rfl rfl (zv_c1 ht4 rfl rfl ?_)
      refine zv_c1 (st' := [.int 0, .int (Int32.ofNat s), .ref 1594]) (S' := S) ht4 rfl rfl ?_
      refine zv_is (j := s) (x := 0) ht4 rfl rfl rfl rfl (zi_natE (a := s) rfl (by omega)) ⟨rfl, zi_inE (a := s) (n := 256) rfl (by omega) (by omega)⟩ ?_
      refine zv_c1 ht4 rfl rfl (zv_c1 ht4 rfl rfl ?_)
      refine zv_e1 (x := Int32.ofNat s) ht4 rfl rfl h_sayings ?_
      refine zv_c1 ht4 rfl rfl ?_
      refine zv_e1 (x := Int32.ofNat (s + 1)) ht4 rfl rfl (zi_addE (a := s) (b := 1) rfl rfl) ?_
      refine zv_c1 (S' := sI (sA S 1594 s 0) 57 1592 (Int32.ofNat (s + 1))) ht4 rfl rfl ?_
      exact zv_rt ht4 rfl rfl rfl rfl k5
    refine zv_cl ht rfl rfl rfl rfl (by omega) (Nat.le_of_ble_eq_true rfl) (C3 _ ?_)
    show zEv d 106 24 [.ref 1592, .int (Int32.ofNat n), .int hi, .retAddr 0, .retAddr 0] [] (sI (sA S 1594 s 0) 57 1592 (Int32.ofNat (s + 1))) post
    refine zv_c1 ht rfl rfl ?_
    exact (h2 b1)

theorem fl20 {d : Nat} {S : zS} (hF : zFin true S) (hd : 1 ≤ d) {s : Nat} (n k : Nat)  (h_sayings : gI S 57 1592 = Int32.ofNat s) (hs : s < 200) (hk : k ≤ 8) (hn : n < 200) {post : Outcome × zS → Prop} (h1 : (8 ≤ k) → post (.returned none, S)) (h2 : (¬ (8 ≤ k)) → zEv d 106 29 [.ref 1592, .int (Int32.ofNat n), .int (Int32.ofNat 0), .int (Int32.ofNat (k + 1)), .retAddr 0] [] (sI (sA S 1594 s ((zit (4 ≤ k) 0 ((Int32.ofNat (8 * n)) >>> ((Int32.ofNat (8 * k)) &&& 31) : Int32)) &&& (255 : Int32))) 57 1592 (Int32.ofNat (s + 1))) post) : zEv d 106 29 [.ref 1592, .int (Int32.ofNat n), .int 0, .int (Int32.ofNat k), .retAddr 0] [] S post := by
  have ht : ztab 106 = ztb106 := rfl
  refine zv_c1 ht rfl rfl (zv_c1 ht rfl rfl ?_)
  refine zv_br ht rfl rfl rfl (fun b1 => ?_) (fun b1 => ?_)
  · replace b1 : 8 ≤ k := (zi_leE (a := 8) (b := k) rfl rfl (by omega) (by omega)).mp b1
    exact zv_rt ht rfl rfl rfl rfl (h1 b1)
  · replace b1 : ¬ (8 ≤ k) := fun h => b1 ((zi_leE (a := 8) (b := k) rfl rfl (by omega) (by omega)).mpr h)
    refine zv_c1 ht rfl rfl ?_
    refine zv_br ht rfl rfl rfl (fun _ => ?_) (fun h => absurd (by decide) h)
    refine zv_c1 ht rfl rfl ?_
    refine zv_c2 (L' := [.ref 1592, .int (Int32.ofNat n), .int 0, .int (Int32.ofNat k), .int (Int32.ofNat k)]) ht rfl rfl ?_
    refine zv_c1 ht rfl rfl (zv_c1 ht rfl rfl (zv_c1 ht rfl rfl ?_))
    have J3 : zEv d 106 70 [.ref 1592, .int (Int32.ofNat n), .int 0, .int (Int32.ofNat k), .retAddr 0] [.int (zit (4 ≤ k) 0 ((Int32.ofNat (8 * n)) >>> ((Int32.ofNat (8 * k)) &&& 31) : Int32)), .ref 1592] S post := by
      have C6 : ∀ (pst5 : Outcome × zS → Prop), (pst5 (.returned none, sI (sA S 1594 s ((zit (4 ≤ k) 0 ((Int32.ofNat (8 * n)) >>> ((Int32.ofNat (8 * k)) &&& 31) : Int32)) &&& (255 : Int32))) 57 1592 (Int32.ofNat (s + 1)))) → zCall (d - 1) 104 [.ref 1592, .int (zit (4 ≤ k) 0 ((Int32.ofNat (8 * n)) >>> ((Int32.ofNat (8 * k)) &&& 31) : Int32))] S pst5 := by
        intro pst5 k8
        have ht7 : ztab 104 = ztb104 := rfl
        show zEv (d - 1) 104 0 [.ref 1592, .int (zit (4 ≤ k) 0 ((Int32.ofNat (8 * n)) >>> ((Int32.ofNat (8 * k)) &&& 31) : Int32))] [] S pst5
        refine zv_c1 ht7 rfl rfl ?_
        refine zv_gl (st' := [.ref 1594]) ht7 rfl hF rfl rfl rfl ?_
        refine zv_c1 ht7 rfl rfl ?_
        refine zv_e1 (x := Int32.ofNat s) ht7 rfl rfl h_sayings ?_
        refine zv_c1 ht7 rfl rfl (zv_c1 ht7 rfl rfl ?_)
        refine zv_c1 (st' := [.int ((zit (4 ≤ k) 0 ((Int32.ofNat (8 * n)) >>> ((Int32.ofNat (8 * k)) &&& 31) : Int32)) &&& (255 : Int32)), .int (Int32.ofNat s), .ref 1594]) (S' := S) ht7 rfl rfl ?_
        refine zv_is (j := s) (x := (zit (4 ≤ k) 0 ((Int32.ofNat (8 * n)) >>> ((Int32.ofNat (8 * k)) &&& 31) : Int32)) &&& (255 : Int32)) ht7 rfl rfl rfl rfl (zi_natE (a := s) rfl (by omega)) ⟨rfl, zi_inE (a := s) (n := 256) rfl (by omega) (by omega)⟩ ?_
        refine zv_c1 ht7 rfl rfl (zv_c1 ht7 rfl rfl ?_)
        refine zv_e1 (x := Int32.ofNat s) ht7 rfl rfl h_sayings ?_
        refine zv_c1 ht7 rfl rfl ?_
        refine zv_e1 (x := Int32.ofNat (s + 1)) ht7 rfl rfl (zi_addE (a := s) (b := 1) rfl rfl) ?_
        refine zv_c1 (S' := sI (sA S 1594 s ((zit (4 ≤ k) 0 ((Int32.ofNat (8 * n)) >>> ((Int32.ofNat (8 * k)) &&& 31) : Int32)) &&& (255 : Int32))) 57 1592 (Int32.ofNat (s + 1))) ht7 rfl rfl ?_
        exact zv_rt ht7 rfl rfl rfl rfl k8
      refine zv_cl ht rfl rfl rfl rfl (by omega) (Nat.le_of_ble_eq_true rfl) (C6 _ ?_)
      show zEv d 106 73 [.ref 1592, .int (Int32.ofNat n), .int 0, .int (Int32.ofNat k), .retAddr 0] [] (sI (sA S 1594 s ((zit (4 ≤ k) 0 ((Int32.ofNat (8 * n)) >>> ((Int32.ofNat (8 * k)) &&& 31) : Int32)) &&& (255 : Int32))) 57 1592 (Int32.ofNat (s + 1))) post
      refine zv_iinc (L' := [.ref 1592, .int (Int32.ofNat n), .int 0, .int (Int32.ofNat (k + 1)), .retAddr 0]) (i := 3) (x := Int32.ofNat (k + 1)) ht rfl rfl (zi_addE (a := k) (b := 1) rfl rfl) rfl ?_
      refine zv_c1 ht rfl rfl ?_
      exact (h2 b1)
    refine zv_br ht rfl rfl rfl (fun b2 => ?_) (fun b2 => ?_)
    · replace b2 : 4 ≤ k := (zi_leE (a := 4) (b := k) rfl rfl (by omega) (by omega)).mp b2
      refine zv_c1 ht rfl rfl ?_
      exact zEv.wk (L := [.ref 1592, .int (Int32.ofNat n), .int 0, .int (Int32.ofNat k), .retAddr 0]) (L' := [.ref 1592, .int (Int32.ofNat n), .int 0, .int (Int32.ofNat k), .int (Int32.ofNat k)]) (And.intro (Or.inl rfl) (And.intro (Or.inl rfl) (And.intro (Or.inl rfl) (And.intro (Or.inl rfl) (And.intro (Or.inr rfl) trivial))))) (zv_sub (zz := zit (4 ≤ k) 0 ((Int32.ofNat (8 * n)) >>> ((Int32.ofNat (8 * k)) &&& 31) : Int32)) (zy := 0) (p := fun zz => zEv d 106 70 [.ref 1592, .int (Int32.ofNat n), .int 0, .int (Int32.ofNat k), .retAddr 0] [.int zz, .ref 1592] S post) (zit_pos b2) J3)
    · replace b2 : ¬ (4 ≤ k) := fun h => b2 ((zi_leE (a := 4) (b := k) rfl rfl (by omega) (by omega)).mpr h)
      refine zv_c1 ht rfl rfl (zv_c1 ht rfl rfl ?_)
      refine zv_e1 (x := Int32.ofNat (8 * n)) ht rfl rfl (zi_mulE (a := 8) (b := n) rfl rfl) ?_
      refine zv_c1 ht rfl rfl (zv_c1 ht rfl rfl ?_)
      refine zv_e1 (x := Int32.ofNat (8 * k)) ht rfl rfl (zi_mulE (a := 8) (b := k) rfl rfl) ?_
      refine zv_c1 (st' := [.int ((Int32.ofNat (8 * n)) >>> ((Int32.ofNat (8 * k)) &&& 31) : Int32), .ref 1592]) (S' := S) ht rfl rfl ?_
      refine zv_c1 ht rfl rfl ?_
      exact zEv.wk (L := [.ref 1592, .int (Int32.ofNat n), .int 0, .int (Int32.ofNat k), .retAddr 0]) (L' := [.ref 1592, .int (Int32.ofNat n), .int 0, .int (Int32.ofNat k), .int (Int32.ofNat k)]) (And.intro (Or.inl rfl) (And.intro (Or.inl rfl) (And.intro (Or.inl rfl) (And.intro (Or.inl rfl) (And.intro (Or.inr rfl) trivial))))) (zv_sub (zz := zit (4 ≤ k) 0 ((Int32.ofNat (8 * n)) >>> ((Int32.ofNat (8 * k)) &&& 31) : Int32)) (zy := ((Int32.ofNat (8 * n)) >>> ((Int32.ofNat (8 * k)) &&& 31) : Int32)) (p := fun zz => zEv d 106 70 [.ref 1592, .int (Int32.ofNat n), .int 0, .int (Int32.ofNat k), .retAddr 0] [.int zz, .ref 1592] S post) (zit_neg b2) J3)

theorem fl21 {d : Nat} {S : zS} (hF : zFin true S) (hd : 1 ≤ d) {s : Nat} (n k : Nat)  (h_sayings : gI S 57 1592 = Int32.ofNat s) (hs : s < 200) (hk : k ≤ 8) (hn : n < 200) {post : Outcome × zS → Prop} (h1 : (8 ≤ k) → post (.returned none, S)) (h2 : (¬ (8 ≤ k)) → zEv d 106 29 [.ref 1592, .int (Int32.ofNat n), .int (Int32.ofNat 1), .int (Int32.ofNat (k + 1)), .retAddr 0] [] (sI (sA S 1594 s ((zit (4 ≤ 7 - k) 0 ((Int32.ofNat (8 * n)) >>> ((Int32.ofNat (8 * (7 - k))) &&& 31) : Int32)) &&& (255 : Int32))) 57 1592 (Int32.ofNat (s + 1))) post) : zEv d 106 29 [.ref 1592, .int (Int32.ofNat n), .int 1, .int (Int32.ofNat k), .retAddr 0] [] S post := by
  have ht : ztab 106 = ztb106 := rfl
  refine zv_c1 ht rfl rfl (zv_c1 ht rfl rfl ?_)
  refine zv_br ht rfl rfl rfl (fun b1 => ?_) (fun b1 => ?_)
  · replace b1 : 8 ≤ k := (zi_leE (a := 8) (b := k) rfl rfl (by omega) (by omega)).mp b1
    exact zv_rt ht rfl rfl rfl rfl (h1 b1)
  · replace b1 : ¬ (8 ≤ k) := fun h => b1 ((zi_leE (a := 8) (b := k) rfl rfl (by omega) (by omega)).mpr h)
    refine zv_c1 ht rfl rfl ?_
    refine zv_br ht rfl rfl rfl (fun h => absurd h (by decide)) (fun _ => ?_)
    refine zv_c1 ht rfl rfl (zv_c1 ht rfl rfl ?_)
    refine zv_e1 (x := Int32.ofNat (7 - k)) ht rfl rfl (zi_subE (a := 7) (b := k) rfl rfl (by omega)) ?_
    refine zv_c1 ht rfl rfl ?_
    refine zv_c2 (L' := [.ref 1592, .int (Int32.ofNat n), .int 1, .int (Int32.ofNat k), .int (Int32.ofNat (7 - k))]) ht rfl rfl ?_
    refine zv_c1 ht rfl rfl (zv_c1 ht rfl rfl (zv_c1 ht rfl rfl ?_))
    have J3 : zEv d 106 70 [.ref 1592, .int (Int32.ofNat n), .int 1, .int (Int32.ofNat k), .retAddr 0] [.int (zit (4 ≤ 7 - k) 0 ((Int32.ofNat (8 * n)) >>> ((Int32.ofNat (8 * (7 - k))) &&& 31) : Int32)), .ref 1592] S post := by
      have C6 : ∀ (pst5 : Outcome × zS → Prop), (pst5 (.returned none, sI (sA S 1594 s ((zit (4 ≤ 7 - k) 0 ((Int32.ofNat (8 * n)) >>> ((Int32.ofNat (8 * (7 - k))) &&& 31) : Int32)) &&& (255 : Int32))) 57 1592 (Int32.ofNat (s + 1)))) → zCall (d - 1) 104 [.ref 1592, .int (zit (4 ≤ 7 - k) 0 ((Int32.ofNat (8 * n)) >>> ((Int32.ofNat (8 * (7 - k))) &&& 31) : Int32))] S pst5 := by
        intro pst5 k8
        have ht7 : ztab 104 = ztb104 := rfl
        show zEv (d - 1) 104 0 [.ref 1592, .int (zit (4 ≤ 7 - k) 0 ((Int32.ofNat (8 * n)) >>> ((Int32.ofNat (8 * (7 - k))) &&& 31) : Int32))] [] S pst5
        refine zv_c1 ht7 rfl rfl ?_
        refine zv_gl (st' := [.ref 1594]) ht7 rfl hF rfl rfl rfl ?_
        refine zv_c1 ht7 rfl rfl ?_
        refine zv_e1 (x := Int32.ofNat s) ht7 rfl rfl h_sayings ?_
        refine zv_c1 ht7 rfl rfl (zv_c1 ht7 rfl rfl ?_)
        refine zv_c1 (st' := [.int ((zit (4 ≤ 7 - k) 0 ((Int32.ofNat (8 * n)) >>> ((Int32.ofNat (8 * (7 - k))) &&& 31) : Int32)) &&& (255 : Int32)), .int (Int32.ofNat s), .ref 1594]) (S' := S) ht7 rfl rfl ?_
        refine zv_is (j := s) (x := (zit (4 ≤ 7 - k) 0 ((Int32.ofNat (8 * n)) >>> ((Int32.ofNat (8 * (7 - k))) &&& 31) : Int32)) &&& (255 : Int32)) ht7 rfl rfl rfl rfl (zi_natE (a := s) rfl (by omega)) ⟨rfl, zi_inE (a := s) (n := 256) rfl (by omega) (by omega)⟩ ?_
        refine zv_c1 ht7 rfl rfl (zv_c1 ht7 rfl rfl ?_)
        refine zv_e1 (x := Int32.ofNat s) ht7 rfl rfl h_sayings ?_
        refine zv_c1 ht7 rfl rfl ?_
        refine zv_e1 (x := Int32.ofNat (s + 1)) ht7 rfl rfl (zi_addE (a := s) (b := 1) rfl rfl) ?_
        refine zv_c1 (S' := sI (sA S 1594 s ((zit (4 ≤ 7 - k) 0 ((Int32.ofNat (8 * n)) >>> ((Int32.ofNat (8 * (7 - k))) &&& 31) : Int32)) &&& (255 : Int32))) 57 1592 (Int32.ofNat (s + 1))) ht7 rfl rfl ?_
        exact zv_rt ht7 rfl rfl rfl rfl k8
      refine zv_cl ht rfl rfl rfl rfl (by omega) (Nat.le_of_ble_eq_true rfl) (C6 _ ?_)
      show zEv d 106 73 [.ref 1592, .int (Int32.ofNat n), .int 1, .int (Int32.ofNat k), .retAddr 0] [] (sI (sA S 1594 s ((zit (4 ≤ 7 - k) 0 ((Int32.ofNat (8 * n)) >>> ((Int32.ofNat (8 * (7 - k))) &&& 31) : Int32)) &&& (255 : Int32))) 57 1592 (Int32.ofNat (s + 1))) post
      refine zv_iinc (L' := [.ref 1592, .int (Int32.ofNat n), .int 1, .int (Int32.ofNat (k + 1)), .retAddr 0]) (i := 3) (x := Int32.ofNat (k + 1)) ht rfl rfl (zi_addE (a := k) (b := 1) rfl rfl) rfl ?_
      refine zv_c1 ht rfl rfl ?_
      exact (h2 b1)
    refine zv_br ht rfl rfl rfl (fun b2 => ?_) (fun b2 => ?_)
    · replace b2 : 4 ≤ 7 - k := (zi_leE (a := 4) (b := (7 - k)) rfl rfl (by omega) (by omega)).mp b2
      refine zv_c1 ht rfl rfl ?_
      exact zEv.wk (L := [.ref 1592, .int (Int32.ofNat n), .int 1, .int (Int32.ofNat k), .retAddr 0]) (L' := [.ref 1592, .int (Int32.ofNat n), .int 1, .int (Int32.ofNat k), .int (Int32.ofNat (7 - k))]) (And.intro (Or.inl rfl) (And.intro (Or.inl rfl) (And.intro (Or.inl rfl) (And.intro (Or.inl rfl) (And.intro (Or.inr rfl) trivial))))) (zv_sub (zz := zit (4 ≤ 7 - k) 0 ((Int32.ofNat (8 * n)) >>> ((Int32.ofNat (8 * (7 - k))) &&& 31) : Int32)) (zy := 0) (p := fun zz => zEv d 106 70 [.ref 1592, .int (Int32.ofNat n), .int 1, .int (Int32.ofNat k), .retAddr 0] [.int zz, .ref 1592] S post) (zit_pos b2) J3)
    · replace b2 : ¬ (4 ≤ 7 - k) := fun h => b2 ((zi_leE (a := 4) (b := (7 - k)) rfl rfl (by omega) (by omega)).mpr h)
      refine zv_c1 ht rfl rfl (zv_c1 ht rfl rfl ?_)
      refine zv_e1 (x := Int32.ofNat (8 * n)) ht rfl rfl (zi_mulE (a := 8) (b := n) rfl rfl) ?_
      refine zv_c1 ht rfl rfl (zv_c1 ht rfl rfl ?_)
      refine zv_e1 (x := Int32.ofNat (8 * (7 - k))) ht rfl rfl (zi_mulE (a := 8) (b := 7 - k) rfl rfl) ?_
      refine zv_c1 (st' := [.int ((Int32.ofNat (8 * n)) >>> ((Int32.ofNat (8 * (7 - k))) &&& 31) : Int32), .ref 1592]) (S' := S) ht rfl rfl ?_
      refine zv_c1 ht rfl rfl ?_
      exact zEv.wk (L := [.ref 1592, .int (Int32.ofNat n), .int 1, .int (Int32.ofNat k), .retAddr 0]) (L' := [.ref 1592, .int (Int32.ofNat n), .int 1, .int (Int32.ofNat k), .int (Int32.ofNat (7 - k))]) (And.intro (Or.inl rfl) (And.intro (Or.inl rfl) (And.intro (Or.inl rfl) (And.intro (Or.inl rfl) (And.intro (Or.inr rfl) trivial))))) (zv_sub (zz := zit (4 ≤ 7 - k) 0 ((Int32.ofNat (8 * n)) >>> ((Int32.ofNat (8 * (7 - k))) &&& 31) : Int32)) (zy := ((Int32.ofNat (8 * n)) >>> ((Int32.ofNat (8 * (7 - k))) &&& 31) : Int32)) (p := fun zz => zEv d 106 70 [.ref 1592, .int (Int32.ofNat n), .int 1, .int (Int32.ofNat k), .retAddr 0] [.int zz, .ref 1592] S post) (zit_neg b2) J3)

section H2
variable {d : Nat} {post : Outcome × zS → Prop}
theorem m_fills (hi : Bool) {n : Nat} {S : zS} (hF : zFin true S) (hd : 1 ≤ d) (hn : n ≤ 128) (hs : gI S 57 1592 = Int32.ofNat n)
    (h : post (.returned none, sI (sAr S 1594 n (hAll n - n) (fun i => hPd hi n (n + i))) 57 1592 (Int32.ofNat (hAll n)))) : zCall d 106 [.ref 1592, .int (Int32.ofNat n), .int (bif hi then 1 else 0)] S post := by
  have hA : hAll n = (n + 72) / 64 * 64 := rfl
  refine fl0 hF hd n _ hs (by omega) ?_
  have key : ∀ m, (fun k => sI (sAr S 1594 n k (fun i => hPd hi n (n + i))) 57 1592 (Int32.ofNat (n + k))) m = sI (sAr S 1594 n m (fun i => hPd hi n (n + i))) 57 1592 (Int32.ofNat (n + m)) := fun _ => rfl
  have e1 : sI (sA S 1594 n 128) 57 1592 (Int32.ofNat (n + 1)) = sI (sAr S 1594 n 1 (fun i => hPd hi n (n + i))) 57 1592 (Int32.ofNat (n + 1)) := by
    have := @sAr_succ S 1594 n 0 (fun i => hPd hi n (n + i))
    rw [sAr_zero] at this
    rw [← this]
    show sI (sA S 1594 n 128) _ _ _ = sI (sA S 1594 n (hPd hi n n)) _ _ _
    rw [show hPd hi n n = 128 from if_pos rfl]
  rw [e1]
  refine zLoopE (me := 106) (pc := 7) 1 (hAll n - 8 - n) (fun k => sI (sAr S 1594 n k (fun i => hPd hi n (n + i))) 57 1592 (Int32.ofNat (n + k))) (fun _ => [.ref 1592, .int (Int32.ofNat n), .int (bif hi then 1 else 0), .retAddr 0, .retAddr 0]) ?_ ?_ (by omega)
  · intro k h1 hk ih
    refine fl1 (S := sI (sAr S 1594 n k (fun i => hPd hi n (n + i))) 57 1592 (Int32.ofNat (n + k))) (s := n + k) hF hd n _ rfl (by omega) (fun b => by omega) (fun _ => ?_)
    have := @sAr_say S 1594 n k 57 (fun i => hPd hi n (n + i)) (Int32.ofNat (n + k)) (Int32.ofNat (n + k + 1))
    rw [show hPd hi n (n + k) = 0 from by unfold hPd; rw [if_neg (by omega), if_neg (by omega)]] at this
    rw [this]
    exact ih
  · refine fl1 (S := sI (sAr S 1594 n (hAll n - 8 - n) (fun i => hPd hi n (n + i))) 57 1592 (Int32.ofNat (n + (hAll n - 8 - n)))) (s := n + (hAll n - 8 - n)) hF hd n _ rfl (by omega) (fun _ => ?_) (fun b => absurd (by omega) b)
    have hlast : n + (hAll n - 8 - n + 8) = hAll n := by omega
    have hl2 : hAll n - 8 - n + 8 = hAll n - n := by omega
    have step : ∀ k, k < 8 → sI (sA (sI (sAr S 1594 n (hAll n - 8 - n + k) (fun i => hPd hi n (n + i))) 57 1592 (Int32.ofNat (n + (hAll n - 8 - n + k)))) 1594 (n + (hAll n - 8 - n + k)) (hLb n (bif hi then 7 - k else k))) 57 1592 (Int32.ofNat (n + (hAll n - 8 - n + k) + 1)) = sI (sAr S 1594 n (hAll n - 8 - n + (k + 1)) (fun i => hPd hi n (n + i))) 57 1592 (Int32.ofNat (n + (hAll n - 8 - n + (k + 1)))) := by
      intro k hk
      have := @sAr_say S 1594 n (hAll n - 8 - n + k) 57 (fun i => hPd hi n (n + i)) (Int32.ofNat (n + (hAll n - 8 - n + k))) (Int32.ofNat (n + (hAll n - 8 - n + k) + 1))
      rw [show hPd hi n (n + (hAll n - 8 - n + k)) = hLb n (bif hi then 7 - k else k) from by
        unfold hPd
        rw [if_neg (by omega), if_pos (by omega)]
        congr 1
        cases hi
        · show n + (hAll n - 8 - n + k) + 8 - hAll n = k; omega
        · show hAll n - 1 - (n + (hAll n - 8 - n + k)) = 7 - k; omega] at this
      exact this
    have := zLoopE (d := d) (post := post) (me := 106) (pc := 29) 0 8 (fun k => sI (sAr S 1594 n (hAll n - 8 - n + k) (fun i => hPd hi n (n + i))) 57 1592 (Int32.ofNat (n + (hAll n - 8 - n + k)))) (fun k => [.ref 1592, .int (Int32.ofNat n), .int (bif hi then 1 else 0), .int (Int32.ofNat k), .retAddr 0]) ?_ ?_ (by omega)
    · exact this
    · intro k _ hk ih
      have st := step k hk
      cases hi
      · refine fl20 (S := sI (sAr S 1594 n (hAll n - 8 - n + k) (fun i => hPd false n (n + i))) 57 1592 (Int32.ofNat (n + (hAll n - 8 - n + k)))) (s := n + (hAll n - 8 - n + k)) hF hd n k rfl (by omega) (by omega) (by omega) (fun b => by omega) (fun _ => ?_)
        rw [hLb_eq (by omega) hk]
        exact Eq.mpr (congrArg (fun zz => zEv d 106 29 [.ref 1592, .int (Int32.ofNat n), .int (Int32.ofNat 0), .int (Int32.ofNat (k + 1)), .retAddr 0] [] zz post) st) ih
      · refine fl21 (S := sI (sAr S 1594 n (hAll n - 8 - n + k) (fun i => hPd true n (n + i))) 57 1592 (Int32.ofNat (n + (hAll n - 8 - n + k)))) (s := n + (hAll n - 8 - n + k)) hF hd n k rfl (by omega) (by omega) (by omega) (fun b => by omega) (fun _ => ?_)
        rw [hLb_eq (by omega) (by omega)]
        exact Eq.mpr (congrArg (fun zz => zEv d 106 29 [.ref 1592, .int (Int32.ofNat n), .int (Int32.ofNat 1), .int (Int32.ofNat (k + 1)), .retAddr 0] [] zz post) st) ih
    · have hfin : post (.returned none, sI (sAr S 1594 n (hAll n - 8 - n + 8) (fun i => hPd hi n (n + i))) 57 1592 (Int32.ofNat (n + (hAll n - 8 - n + 8)))) := by
        rw [hlast, hl2]; exact h
      cases hi
      · exact fl20 (S := sI (sAr S 1594 n (hAll n - 8 - n + 8) (fun i => hPd false n (n + i))) 57 1592 (Int32.ofNat (n + (hAll n - 8 - n + 8)))) (s := n + (hAll n - 8 - n + 8)) hF hd n 8 rfl (by omega) (by omega) (by omega) (fun _ => hfin) (fun b => absurd (by omega) b)
      · exact fl21 (S := sI (sAr S 1594 n (hAll n - 8 - n + 8) (fun i => hPd true n (n + i))) 57 1592 (Int32.ofNat (n + (hAll n - 8 - n + 8)))) (s := n + (hAll n - 8 - n + 8)) hF hd n 8 rfl (by omega) (by omega) (by omega) (fun _ => hfin) (fun b => absurd (by omega) b)
def mSB (S : zS) (a : Nat) : zS := sAf (sAf S 1596 (hWds (fun j => gA S 1594 (a + j)) (gA S 1596))) 1597 (hBlk (gA S 1598) (fun j => gA S 1594 (a + j)) (gA S 1596) (gA S 1597))
end H2
theorem sh0 {d : Nat} {S : zS} (hF : zFin true S) (hd : 2 ≤ d) {n : Nat}  (h_sayings : gI S 57 1592 = Int32.ofNat n) (hn : n ≤ 128) {post : Outcome × zS → Prop} (h1 : zEv d 105 11 [.ref 1592, .int (Int32.ofNat 0)] [] (sI (sAr S 1594 n (hAll n - n) (fun i => hPd true n (n + i))) 57 1592 (Int32.ofNat (hAll n))) post) : zCall d 105 [.ref 1592] S post := by
  have ht : ztab 105 = ztb105 := rfl
  show zEv d 105 0 [.ref 1592, .retAddr 0] [] S post
  refine zv_c1 ht rfl rfl (zv_c1 ht rfl rfl ?_)
  refine zv_e1 (x := Int32.ofNat n) ht rfl rfl h_sayings ?_
  refine zv_c1 ht rfl rfl ?_
  refine zv_cl ht rfl rfl rfl rfl (by omega) (Nat.le_of_ble_eq_true rfl) (m_fills true (S := S) hF (by omega) (by omega) h_sayings ?_)
  show zEv d 105 9 [.ref 1592, .retAddr 0] [] (sI (sAr S 1594 n (hAll n - n) (fun i => hPd true n (n + i))) 57 1592 (Int32.ofNat (hAll n))) post
  refine zv_c1 ht rfl rfl ?_
  refine zv_c2 (L' := [.ref 1592, .int 0]) ht rfl rfl ?_
  exact h1

theorem sh1 {d : Nat} {S : zS} (hF : zFin true S) (k : Nat)  (hk : k ≤ 8) {post : Outcome × zS → Prop} (h1 : (8 ≤ k) → zEv d 105 37 [.ref 1592, .int (Int32.ofNat 0)] [] S post) (h2 : (¬ (8 ≤ k)) → zEv d 105 11 [.ref 1592, .int (Int32.ofNat (k + 1))] [] (sA S 1597 k (gA S 1599 k)) post) : zEv d 105 11 [.ref 1592, .int (Int32.ofNat k)] [] S post := by
  have ht : ztab 105 = ztb105 := rfl
  refine zv_c1 ht rfl rfl (zv_c1 ht rfl rfl ?_)
  refine zv_br ht rfl rfl rfl (fun b1 => ?_) (fun b1 => ?_)
  · replace b1 : 8 ≤ k := (zi_leE (a := 8) (b := k) rfl rfl (by omega) (by omega)).mp b1
    refine zv_c1 ht rfl rfl ?_
    refine zv_c2 (L' := [.ref 1592, .int 0]) ht rfl rfl ?_
    exact (h1 b1)
  · replace b1 : ¬ (8 ≤ k) := fun h => b1 ((zi_leE (a := 8) (b := k) rfl rfl (by omega) (by omega)).mpr h)
    refine zv_c1 ht rfl rfl ?_
    refine zv_gl (st' := [.ref 1597]) ht rfl hF rfl rfl rfl ?_
    refine zv_c1 ht rfl rfl (zv_c1 ht rfl rfl ?_)
    refine zv_gl (st' := [.ref 1599, .int (Int32.ofNat k), .ref 1597]) ht rfl hF rfl rfl rfl ?_
    refine zv_c1 ht rfl rfl ?_
    refine zv_iaE (j := k) (x := gA S 1599 k) ht rfl rfl rfl rfl (zi_natE (a := k) rfl (by omega)) ⟨(Or.inl rfl), zi_inE (a := k) (n := 8) rfl (by omega) (by omega)⟩ rfl ?_
    refine zv_is (j := k) (x := gA S 1599 k) ht rfl rfl rfl rfl (zi_natE (a := k) rfl (by omega)) ⟨rfl, zi_inE (a := k) (n := 8) rfl (by omega) (by omega)⟩ ?_
    refine zv_iinc (L' := [.ref 1592, .int (Int32.ofNat (k + 1))]) (i := 1) (x := Int32.ofNat (k + 1)) ht rfl rfl (zi_addE (a := k) (b := 1) rfl rfl) rfl ?_
    refine zv_c1 ht rfl rfl ?_
    exact (h2 b1)

theorem sh2 {d : Nat} {S : zS} (hF : zFin true S) (hd : 2 ≤ d) {n : Nat} (a : Nat)  (h_sayings : gI S 57 1592 = Int32.ofNat n) (hk : a ≤ 192) (hn : n ≤ 192) {post : Outcome × zS → Prop} (h1 : (n ≤ a) → zEv d 105 58 [.ref 1592, .int (Int32.ofNat 0)] [] S post) (h2 : (¬ (n ≤ a)) → zEv d 105 37 [.ref 1592, .int (Int32.ofNat (a + 64))] [] (mSB S a) post) : zEv d 105 37 [.ref 1592, .int (Int32.ofNat a)] [] S post := by
  have ht : ztab 105 = ztb105 := rfl
  refine zv_c1 ht rfl rfl (zv_c1 ht rfl rfl ?_)
  refine zv_e1 (x := Int32.ofNat n) ht rfl rfl h_sayings ?_
  refine zv_br ht rfl rfl rfl (fun b1 => ?_) (fun b1 => ?_)
  · replace b1 : n ≤ a := (zi_leE (a := n) (b := a) rfl rfl (by omega) (by omega)).mp b1
    refine zv_c1 ht rfl rfl ?_
    refine zv_c2 (L' := [.ref 1592, .int 0]) ht rfl rfl ?_
    exact (h1 b1)
  · replace b1 : ¬ (n ≤ a) := fun h => b1 ((zi_leE (a := n) (b := a) rfl rfl (by omega) (by omega)).mpr h)
    refine zv_c1 ht rfl rfl (zv_c1 ht rfl rfl ?_)
    refine zv_cl ht rfl rfl rfl rfl (by omega) (Nat.le_of_ble_eq_true rfl) (m_shaBlock (by omega) (S := S) hF a (by omega) ?_)
    show zEv d 105 50 [.ref 1592, .int (Int32.ofNat a)] [] (mSB S a) post
    refine zv_iinc (L' := [.ref 1592, .int (Int32.ofNat (a + 64))]) (i := 1) (x := Int32.ofNat (a + 64)) ht rfl rfl (zi_addE (a := a) (b := 64) rfl rfl) rfl ?_
    refine zv_c1 ht rfl rfl ?_
    exact (h2 b1)

theorem sh3 {d : Nat} {S : zS} (hF : zFin true S) (k : Nat)  (hk : k ≤ 32) {post : Outcome × zS → Prop} (h1 : (32 ≤ k) → post (.returned none, sI S 57 1592 0)) (h2 : (¬ (32 ≤ k)) → zEv d 105 58 [.ref 1592, .int (Int32.ofNat (k + 1))] [] (sA S 1595 k (((gA S 1597 (k / 4)) >>> ((Int32.ofNat (24 - (8 * (k % 4)))) &&& 31) : Int32) &&& (255 : Int32))) post) : zEv d 105 58 [.ref 1592, .int (Int32.ofNat k)] [] S post := by
  have ht : ztab 105 = ztb105 := rfl
  refine zv_c1 ht rfl rfl (zv_c1 ht rfl rfl ?_)
  refine zv_br ht rfl rfl rfl (fun b1 => ?_) (fun b1 => ?_)
  · replace b1 : 32 ≤ k := (zi_leE (a := 32) (b := k) rfl rfl (by omega) (by omega)).mp b1
    refine zv_c1 ht rfl rfl (zv_c1 ht rfl rfl ?_)
    refine zv_c1 (S' := sI S 57 1592 0) ht rfl rfl ?_
    exact zv_rt ht rfl rfl rfl rfl (h1 b1)
  · replace b1 : ¬ (32 ≤ k) := fun h => b1 ((zi_leE (a := 32) (b := k) rfl rfl (by omega) (by omega)).mpr h)
    refine zv_c1 ht rfl rfl ?_
    refine zv_gl (st' := [.ref 1595]) ht rfl hF rfl rfl rfl ?_
    refine zv_c1 ht rfl rfl (zv_c1 ht rfl rfl ?_)
    refine zv_gl (st' := [.ref 1597, .int (Int32.ofNat k), .ref 1595]) ht rfl hF rfl rfl rfl ?_
    refine zv_c1 ht rfl rfl (zv_c1 ht rfl rfl ?_)
    refine zv_ei (x := Int32.ofNat (k / 4)) ht rfl rfl (zi_nz (a := 4) rfl (by omega) (by omega)) (zi_divE (a := k) (b := 4) rfl rfl (by omega) (by omega)) ?_
    refine zv_iaE (j := k / 4) (x := gA S 1597 (k / 4)) ht rfl rfl rfl rfl (zi_natE (a := k / 4) rfl (by omega)) ⟨(Or.inl rfl), zi_inE (a := k / 4) (n := 8) rfl (by omega) (by omega)⟩ rfl ?_
    refine zv_c1 ht rfl rfl (zv_c1 ht rfl rfl (zv_c1 ht rfl rfl (zv_c1 ht rfl rfl ?_)))
    refine zv_ei (x := Int32.ofNat (k % 4)) ht rfl rfl (zi_nz (a := 4) rfl (by omega) (by omega)) (zi_remE (a := k) (b := 4) rfl rfl (by omega) (by omega)) ?_
    refine zv_e1 (x := Int32.ofNat (8 * (k % 4))) ht rfl rfl (zi_mulE (a := 8) (b := k % 4) rfl rfl) ?_
    refine zv_e1 (x := Int32.ofNat (24 - (8 * (k % 4)))) ht rfl rfl (zi_subE (a := 24) (b := 8 * (k % 4)) rfl rfl (by omega)) ?_
    refine zv_c1 (st' := [.int ((gA S 1597 (k / 4)) >>> ((Int32.ofNat (24 - (8 * (k % 4)))) &&& 31) : Int32), .int (Int32.ofNat k), .ref 1595]) (S' := S) ht rfl rfl ?_
    refine zv_c1 ht rfl rfl ?_
    refine zv_c1 (st' := [.int (((gA S 1597 (k / 4)) >>> ((Int32.ofNat (24 - (8 * (k % 4)))) &&& 31) : Int32) &&& (255 : Int32)), .int (Int32.ofNat k), .ref 1595]) (S' := S) ht rfl rfl ?_
    refine zv_is (j := k) (x := ((gA S 1597 (k / 4)) >>> ((Int32.ofNat (24 - (8 * (k % 4)))) &&& 31) : Int32) &&& (255 : Int32)) ht rfl rfl rfl rfl (zi_natE (a := k) rfl (by omega)) ⟨rfl, zi_inE (a := k) (n := 32) rfl (by omega) (by omega)⟩ ?_
    refine zv_iinc (L' := [.ref 1592, .int (Int32.ofNat (k + 1))]) (i := 1) (x := Int32.ofNat (k + 1)) ht rfl rfl (zi_addE (a := k) (b := 1) rfl rfl) rfl ?_
    refine zv_c1 ht rfl rfl ?_
    exact (h2 b1)

section H2b
variable {d : Nat} {post : Outcome × zS → Prop}
/-- the twin's SHA-256 -/
theorem m_sha {n : Nat} {f : Nat → Int32} {S : zS} (hF : zFin true S) (hd : 2 ≤ d) (hc : mC S) (hn : n ≤ 128) (hs : gI S 57 1592 = Int32.ofNat n) (hf : ∀ j, j < n → gA S 1594 j = f j)
    (h : ∀ S', zTK [57] mSd S S' → gI S' 57 1592 = 0 → (∀ j, j < 32 → gA S' 1595 j = hSha n f j) → post (.returned none, S')) : zCall d 105 [.ref 1592] S post := by
  have hA : hAll n = (n + 72) / 64 * 64 := rfl
  have hq : hAll n = 64 * (hAll n / 64) := by omega
  refine sh0 hF hd hs hn ?_
  have hp : ∀ j, j < hAll n → gA (sI (sAr S 1594 n (hAll n - n) (fun i => hPd true n (n + i))) 57 1592 (Int32.ofNat (hAll n))) 1594 j = hPad true n f j := by
    intro j hj
    show gA (sAr S 1594 n (hAll n - n) (fun i => hPd true n (n + i))) 1594 j = _
    unfold hPad
    by_cases e : j < n
    · rw [gA_sAr_out (by omega), if_pos e, hf j e]
    · rw [if_neg e]
      have := @gA_sAr_in S 1594 n (hAll n - n) (j - n) (fun i => hPd true n (n + i)) (by omega)
      rw [show n + (j - n) = j from by omega] at this
      exact this
  have k1 : zTK [57] mSd S (sI (sAr S 1594 n (hAll n - n) (fun i => hPd true n (n + i))) 57 1592 (Int32.ofNat (hAll n))) := (zTK_sAr (by decide)).tr (zTK_sI (by decide))
  have hF1 : zFin true (sI (sAr S 1594 n (hAll n - n) (fun i => hPd true n (n + i))) 57 1592 (Int32.ofNat (hAll n))) := hF
  have hs1 : gI (sI (sAr S 1594 n (hAll n - n) (fun i => hPd true n (n + i))) 57 1592 (Int32.ofNat (hAll n))) 57 1592 = Int32.ofNat (hAll n) := rfl
  generalize sI (sAr S 1594 n (hAll n - n) (fun i => hPd true n (n + i))) 57 1592 (Int32.ofNat (hAll n)) = S1 at hp k1 hF1 hs1 ⊢
  have hc1 : mC S1 := hc.k k1 (by decide)
  refine zFill0 (L := fun k => [.ref 1592, .int (Int32.ofNat k)]) 1597 8 (gA S1 1599) ?_ ?_
  · intro k hk ih
    exact sh1 (S := sAr S1 1597 0 k (gA S1 1599)) hF1 k (by omega) (fun b => by omega) (fun _ => ih)
  refine sh1 (S := sAr S1 1597 0 8 (gA S1 1599)) hF1 8 (by omega) (fun _ => ?_) (fun b => absurd (by omega) b)
  have key := zLoop (d := d) (post := post) (me := 105) (pc := 37) (hAll n / 64) (fun i S' => zTK [57] mSd S S' ∧ gI S' 57 1592 = Int32.ofNat (hAll n) ∧ (∀ j, j < hAll n → gA S' 1594 j = hPad true n f j) ∧ ∀ j, j < 8 → gA S' 1597 j = hIt hSblk (hPad true n f) hB0 i j) (fun i => [.ref 1592, .int (Int32.ofNat (64 * i))]) ?_ ?_ 0 (sAr S1 1597 0 8 (gA S1 1599)) (by omega) ⟨k1.tr (zTK_sAr (by decide)), hs1, fun j hj => hp j hj, fun j hj => (gA_sAr0 hj).trans (hc1.2.1 j hj)⟩
  · exact key
  · rintro i S' hi ⟨k2, s2, p2, w2⟩ ih
    refine sh2 (S := S') (n := hAll n) (k2.fin hF) hd (64 * i) s2 (by omega) (by omega) (fun b => by omega) (fun _ => ?_)
    have hc2 := hc.k k2 (by decide)
    refine ih _ ⟨k2.tr ((zTK_sAf (by decide)).tr (zTK_sAf (by decide))), s2, fun j hj => p2 j hj, fun j hj => ?_⟩
    show hBlk (gA S' 1598) (fun j => gA S' 1594 (64 * i + j)) (gA S' 1596) (gA S' 1597) j = hSblk (fun j => hPad true n f (64 * i + j)) (hIt hSblk (hPad true n f) hB0 i) j
    exact hBlk_congr (fun j hj => hc2.1 j hj) (fun j hj => p2 _ (by omega)) w2 j hj
  · rintro S' ⟨k2, s2, p2, w2⟩
    refine sh2 (S := S') (n := hAll n) (k2.fin hF) hd (64 * (hAll n / 64)) s2 (by omega) (by omega) (fun _ => ?_) (fun b => absurd (by omega) b)
    refine zFill0 (L := fun k => [.ref 1592, .int (Int32.ofNat k)]) 1595 32 (fun k => ((gA S' 1597 (k / 4)) >>> ((Int32.ofNat (24 - (8 * (k % 4)))) &&& 31) : Int32) &&& (255 : Int32)) ?_ ?_
    · intro k hk ih
      exact sh3 (S := sAr S' 1595 0 k (fun k => ((gA S' 1597 (k / 4)) >>> ((Int32.ofNat (24 - (8 * (k % 4)))) &&& 31) : Int32) &&& (255 : Int32))) (k2.fin hF) k (by omega) (fun b => by omega) (fun _ => ih)
    refine sh3 (S := sAr S' 1595 0 32 (fun k => ((gA S' 1597 (k / 4)) >>> ((Int32.ofNat (24 - (8 * (k % 4)))) &&& 31) : Int32) &&& (255 : Int32))) (k2.fin hF) 32 (by omega) (fun _ => ?_) (fun b => absurd (by omega) b)
    refine h _ (k2.tr ((zTK_sAr (by decide)).tr (zTK_sI (by decide)))) rfl (fun j hj => ?_)
    show gA (sAr S' 1595 0 32 (fun k => ((gA S' 1597 (k / 4)) >>> ((Int32.ofNat (24 - (8 * (k % 4)))) &&& 31) : Int32) &&& (255 : Int32))) 1595 j = _
    rw [gA_sAr0 hj, w2 (j / 4) (by omega)]
    rfl
end H2b

