set_option maxRecDepth 100000
/-! ===== the twin reads: kinds, numbers, nodes ===== -/
section Q4
variable {d : Nat} {post : Outcome × zS → Prop} {tp : Nat → Nat} {sz : Nat}
theorem m_kindOf {S : zS} (hF : zFin true S) (hd : 5 ≤ d) {at0 a e : Nat} (hV : mV tp sz S at0) (hL : zLits S) (ha : a ≤ e) (he : e ≤ sz) (h : post (.returned (some (.int (oI (pKind (pWl tp a e))))), S)) : zCall d 130 [.ref 1592, .int (Int32.ofNat a), .int (Int32.ofNat e)] S post := by
  refine ko_ (tp := tp) (sz := sz) (at0 := at0) hF (by omega) a e hL hV hV.2.2.2.2.1 ha he ?_
  generalize pWl tp a e = w at h ⊢
  by_cases h15 : w = ztn 15
  · subst h15; rw [zit_pos rfl]; exact h
  rw [zit_neg h15]
  by_cases h16 : w = ztn 16
  · subst h16; rw [zit_pos rfl]; exact h
  rw [zit_neg h16]
  by_cases h18 : w = ztn 18
  · subst h18; rw [zit_pos rfl]; exact h
  rw [zit_neg h18]
  by_cases h19 : w = ztn 19
  · subst h19; rw [zit_pos rfl]; exact h
  rw [zit_neg h19]
  by_cases h6 : w = ztn 6
  · subst h6; rw [zit_pos rfl]; exact h
  rw [zit_neg h6]
  by_cases h7 : w = ztn 7
  · subst h7; rw [zit_pos rfl]; exact h
  rw [zit_neg h7]
  by_cases h11 : w = ztn 11
  · subst h11; rw [zit_pos rfl]; exact h
  rw [zit_neg h11]
  by_cases h12 : w = ztn 12
  · subst h12; rw [zit_pos rfl]; exact h
  rw [zit_neg h12]
  by_cases h13 : w = ztn 13
  · subst h13; rw [zit_pos rfl]; exact h
  rw [zit_neg h13]
  by_cases h14 : w = ztn 14
  · subst h14; rw [zit_pos rfl]; exact h
  rw [zit_neg h14]
  by_cases h21 : w = ztn 21
  · subst h21; rw [zit_pos rfl]; exact h
  rw [zit_neg h21]
  by_cases h23 : w = ztn 23
  · subst h23; rw [zit_pos rfl]; exact h
  rw [zit_neg h23]
  by_cases h24 : w = ztn 24
  · subst h24; rw [zit_pos rfl]; exact h
  rw [zit_neg h24]
  by_cases h25 : w = ztn 25
  · subst h25; rw [zit_pos rfl]; exact h
  rw [zit_neg h25]
  by_cases h26 : w = ztn 26
  · subst h26; rw [zit_pos rfl]; exact h
  rw [zit_neg h26]
  by_cases h27 : w = ztn 27
  · subst h27; rw [zit_pos rfl]; exact h
  rw [zit_neg h27]
  by_cases h28 : w = ztn 28
  · subst h28; rw [zit_pos rfl]; exact h
  rw [zit_neg h28]
  by_cases h10 : w = ztn 10
  · subst h10; rw [zit_pos rfl]; exact h
  rw [zit_neg h10]
  by_cases h20 : w = ztn 20
  · subst h20; rw [zit_pos rfl]; exact h
  rw [zit_neg h20]
  by_cases h5 : w = ztn 5
  · subst h5; rw [zit_pos rfl]; exact h
  rw [zit_neg h5]
  by_cases h17 : w = ztn 17
  · subst h17; rw [zit_pos rfl]; exact h
  rw [zit_neg h17]
  by_cases h22 : w = ztn 22
  · subst h22; rw [zit_pos rfl]; exact h
  rw [zit_neg h22]
  have e : ∀ v, ¬ w = v → (w == v) = false := fun v h => beq_false_of_ne h
  have e1 : pKind w = none := by unfold pKind kwd; simp only [List.lookup, e _ h15, e _ h16, e _ h18, e _ h19, e _ h6, e _ h7, e _ h11, e _ h12, e _ h13, e _ h14, e _ h21, e _ h23, e _ h24, e _ h25, e _ h26, e _ h27, e _ h28, e _ h10, e _ h20, e _ h5, e _ h17, e _ h22]
  rw [e1] at h; exact h
end Q4
theorem nu0 {d : Nat} {S : zS} (hF : zFin true S) (hd : 2 ≤ d) (tp : Nat → Nat) (at0 sz c : Nat)  (h_at : gI S 89 1592 = Int32.ofNat at0) (h_fault : gI S 91 1592 = Int32.ofNat 0) (hP : mV tp sz S at0) (hs : sz ≤ 300) (hl : at0 ≤ sz) (hc1 : c < 256) (hc : pSee tp sz at0 = c) {post : Outcome × zS → Prop} (h1 : ((¬ (c < 49)) ∧ (¬ (57 < c))) → zEv d 155 34 [.ref 1592, .long 0, .retAddr 0] [] S post) (h2 : (¬ ((¬ (c < 49)) ∧ (¬ (57 < c)))) → zEv d 155 34 [.ref 1592, .long 0, .retAddr 0] [] (sI (sI S 91 1592 1) 92 1592 (Int32.ofNat at0)) post) : zCall d 155 [.ref 1592] S post := by
  have ht : ztab 155 = ztb155 := rfl
  show zEv d 155 0 [.ref 1592, .retAddr 0, .retAddr 0] [] S post
  refine zv_c1 ht rfl rfl ?_
  have C2 : ∀ (pst1 : Outcome × zS → Prop), (pst1 (.returned (some (.int 1)), S)) → zCall (d - 1) 125 [.ref 1592] S pst1 := by
    intro pst1 k4
    have ht3 : ztab 125 = ztb125 := rfl
    show zEv (d - 1) 125 0 [.ref 1592] [] S pst1
    refine zv_c1 ht3 rfl rfl ?_
    refine zv_e1 (x := 0) ht3 rfl rfl h_fault ?_
    refine zv_br ht3 rfl rfl rfl (fun h => absurd h (by decide)) (fun _ => ?_)
    refine zv_c1 ht3 rfl rfl (zv_c1 ht3 rfl rfl ?_)
    exact zv_rc ht3 rfl rfl rfl rfl (by decide) k4
  refine zv_cl ht rfl rfl rfl rfl (by omega) (Nat.le_of_ble_eq_true rfl) (C2 _ ?_)
  show zEv d 155 4 [.ref 1592, .retAddr 0, .retAddr 0] [.int 1] S post
  refine zv_br ht rfl rfl rfl (fun _ => ?_) (fun h => absurd (by decide) h)
  refine zv_c1 ht rfl rfl ?_
  refine zv_cl ht rfl rfl rfl rfl (by omega) (Nat.le_of_ble_eq_true rfl) (m_seeC (S := S) (tp := tp) (sz := sz) (at0 := at0) hF (by omega) hP hc ?_)
  show zEv d 155 13 [.ref 1592, .retAddr 0, .retAddr 0] [.int (Int32.ofNat c)] S post
  refine zv_c1 ht rfl rfl (zv_c1 ht rfl rfl ?_)
  have C6 : ∀ (pst5 : Outcome × zS → Prop), (pst5 (.returned (some (.int (zbo ((¬ (c < 49)) ∧ (¬ (57 < c)))))), S)) → zCall (d - 1) 102 [.int (Int32.ofNat c), .int 49, .int 57] S pst5 := by
    intro pst5 k14
    have ht7 : ztab 102 = ztb102 := rfl
    show zEv (d - 1) 102 0 [.int (Int32.ofNat c), .int 49, .int 57] [] S pst5
    refine zv_c1 ht7 rfl rfl (zv_c1 ht7 rfl rfl ?_)
    have J12 : zEv (d - 1) 102 15 [.retAddr 0, .retAddr 0, .retAddr 0] [.int (zbo ((¬ (c < 49)) ∧ (¬ (57 < c))))] S pst5 := by
      exact zv_rc ht7 rfl rfl rfl rfl zbo_rng k14
    have J10 : ((c < 49) ∨ (57 < c)) → zEv (d - 1) 102 14 [.retAddr 0, .retAddr 0, .retAddr 0] [] S pst5 := by
      intro b11
      refine zv_c1 ht7 rfl rfl ?_
      exact (zv_sub (zz := zbo ((¬ (c < 49)) ∧ (¬ (57 < c)))) (zy := 0) (p := fun zz => zEv (d - 1) 102 15 [.retAddr 0, .retAddr 0, .retAddr 0] [.int zz] S pst5) (zbo_neg (b11.elim (fun y1 => (fun h => (fun h => h y1) h.1)) (fun y1 => (fun h => (fun h => h y1) h.2)))) J12)
    refine zv_br ht7 rfl rfl rfl (fun b8 => ?_) (fun b8 => ?_)
    · replace b8 : c < 49 := (zi_ltE (a := c) (b := 49) rfl rfl (by omega) (by omega)).mp b8
      exact zEv.wk (L := [.retAddr 0, .retAddr 0, .retAddr 0]) (L' := [.int (Int32.ofNat c), .int 49, .int 57]) (And.intro (Or.inr rfl) (And.intro (Or.inr rfl) (And.intro (Or.inr rfl) trivial))) (J10 (Or.inl b8))
    · replace b8 : ¬ (c < 49) := fun h => b8 ((zi_ltE (a := c) (b := 49) rfl rfl (by omega) (by omega)).mpr h)
      refine zv_c1 ht7 rfl rfl (zv_c1 ht7 rfl rfl ?_)
      refine zv_br ht7 rfl rfl rfl (fun b9 => ?_) (fun b9 => ?_)
      · replace b9 : 57 < c := (zi_ltE (a := 57) (b := c) rfl rfl (by omega) (by omega)).mp b9
        exact zEv.wk (L := [.retAddr 0, .retAddr 0, .retAddr 0]) (L' := [.int (Int32.ofNat c), .int 49, .int 57]) (And.intro (Or.inr rfl) (And.intro (Or.inr rfl) (And.intro (Or.inr rfl) trivial))) (J10 (Or.inr b9))
      · replace b9 : ¬ (57 < c) := fun h => b9 ((zi_ltE (a := 57) (b := c) rfl rfl (by omega) (by omega)).mpr h)
        refine zv_c1 ht7 rfl rfl (zv_c1 ht7 rfl rfl ?_)
        exact zEv.wk (L := [.retAddr 0, .retAddr 0, .retAddr 0]) (L' := [.int (Int32.ofNat c), .int 49, .int 57]) (And.intro (Or.inr rfl) (And.intro (Or.inr rfl) (And.intro (Or.inr rfl) trivial))) (zv_sub (zz := zbo ((¬ (c < 49)) ∧ (¬ (57 < c)))) (zy := 1) (p := fun zz => zEv (d - 1) 102 15 [.retAddr 0, .retAddr 0, .retAddr 0] [.int zz] S pst5) (zbo_pos ⟨b8, b9⟩) J12)
  refine zv_cl ht rfl rfl rfl rfl (by omega) (Nat.le_of_ble_eq_true rfl) (C6 _ ?_)
  show zEv d 155 20 [.ref 1592, .retAddr 0, .retAddr 0] [.int (zbo ((¬ (c < 49)) ∧ (¬ (57 < c))))] S post
  refine zv_br ht rfl rfl rfl (fun b15 => ?_) (fun b15 => ?_)
  · replace b15 : (¬ (c < 49)) ∧ (¬ (57 < c)) := Classical.byContradiction (fun h => b15 ((zbo_eq0 : (zbo ((¬ (c < 49)) ∧ (¬ (57 < c)))) = 0 ↔ ¬ ((¬ (c < 49)) ∧ (¬ (57 < c)))).mpr h))
    refine zv_c1 ht rfl rfl ?_
    refine zv_c2 (L' := [.ref 1592, .long 0, .retAddr 0]) ht rfl rfl ?_
    exact (h1 b15)
  · replace b15 : ¬ ((¬ (c < 49)) ∧ (¬ (57 < c))) := (zbo_eq0 : (zbo ((¬ (c < 49)) ∧ (¬ (57 < c)))) = 0 ↔ ¬ ((¬ (c < 49)) ∧ (¬ (57 < c)))).mp (Classical.not_not.mp b15)
    refine zv_c1 ht rfl rfl (zv_c1 ht rfl rfl (zv_c1 ht rfl rfl ?_))
    refine zv_e1 (x := Int32.ofNat at0) ht rfl rfl h_at ?_
    have C17 : ∀ (pst16 : Outcome × zS → Prop), (pst16 (.returned none, sI (sI S 91 1592 1) 92 1592 (Int32.ofNat at0))) → zCall (d - 1) 128 [.ref 1592, .int 1, .int (Int32.ofNat at0)] S pst16 := by
      intro pst16 k19
      have ht18 : ztab 128 = ztb128 := rfl
      show zEv (d - 1) 128 0 [.ref 1592, .int 1, .int (Int32.ofNat at0)] [] S pst16
      refine zv_c1 ht18 rfl rfl ?_
      refine zv_e1 (x := 0) ht18 rfl rfl h_fault ?_
      refine zv_br ht18 rfl rfl rfl (fun _ => ?_) (fun h => absurd (by decide) h)
      refine zv_c1 ht18 rfl rfl (zv_c1 ht18 rfl rfl ?_)
      refine zv_c1 (S' := sI S 91 1592 1) ht18 rfl rfl ?_
      refine zv_c1 ht18 rfl rfl (zv_c1 ht18 rfl rfl ?_)
      refine zv_c1 (S' := sI (sI S 91 1592 1) 92 1592 (Int32.ofNat at0)) ht18 rfl rfl ?_
      exact zv_rt ht18 rfl rfl rfl rfl k19
    refine zv_cl ht rfl rfl rfl rfl (by omega) (Nat.le_of_ble_eq_true rfl) (C17 _ ?_)
    show zEv d 155 32 [.ref 1592, .retAddr 0, .retAddr 0] [] (sI (sI S 91 1592 1) 92 1592 (Int32.ofNat at0)) post
    refine zv_c1 ht rfl rfl ?_
    refine zv_c2 (L' := [.ref 1592, .long 0, .retAddr 0]) ht rfl rfl ?_
    exact (h2 b15)

theorem nuX {d : Nat} {S : zS} (hF : zFin true S) (hd : 1 ≤ d) (k : Nat)  (h_fault : gI S 91 1592 = Int32.ofNat k) (hk : 0 < k) (hk4 : k < 4) {post : Outcome × zS → Prop} (h1 : post (.returned (some (.int 0)), S)) : zCall d 155 [.ref 1592] S post := by
  have ht : ztab 155 = ztb155 := rfl
  show zEv d 155 0 [.ref 1592, .retAddr 0, .retAddr 0] [] S post
  refine zv_c1 ht rfl rfl ?_
  have C2 : ∀ (pst1 : Outcome × zS → Prop), (pst1 (.returned (some (.int 0)), S)) → zCall (d - 1) 125 [.ref 1592] S pst1 := by
    intro pst1 k5
    have ht3 : ztab 125 = ztb125 := rfl
    show zEv (d - 1) 125 0 [.ref 1592] [] S pst1
    refine zv_c1 ht3 rfl rfl ?_
    refine zv_e1 (x := Int32.ofNat k) ht3 rfl rfl h_fault ?_
    refine zv_br ht3 rfl rfl rfl (fun b4 => ?_) (fun b4 => (show False from by have hq := b4; have hz : k = 0 := (zi_eqE (a := k) (b := 0) rfl rfl (by omega) (by omega)).mp (Classical.not_not.mp hq); omega).elim)
    refine zv_c1 ht3 rfl rfl ?_
    exact zv_rc ht3 rfl rfl rfl rfl (by decide) k5
  refine zv_cl ht rfl rfl rfl rfl (by omega) (Nat.le_of_ble_eq_true rfl) (C2 _ ?_)
  show zEv d 155 4 [.ref 1592, .retAddr 0, .retAddr 0] [.int 0] S post
  refine zv_br ht rfl rfl rfl (fun h => absurd h (by decide)) (fun _ => ?_)
  refine zv_c1 ht rfl rfl ?_
  exact zv_rt ht rfl rfl rfl rfl h1

theorem nu1 {d : Nat} {S : zS} (hF : zFin true S) (hd : 2 ≤ d) (tp : Nat → Nat) (at0 sz c : Nat) (v : Nat)  (h_at : gI S 89 1592 = Int32.ofNat at0) (h_fault : gI S 91 1592 = Int32.ofNat 0) (hP : mV tp sz S at0) (hs : sz ≤ 300) (hl : at0 ≤ sz) (hc1 : c < 256) (hc : pSee tp sz at0 = c) (hv : v < 2147483648) {post : Outcome × zS → Prop} (h1 : (¬ ((¬ (c < 48)) ∧ (¬ (57 < c)))) → post (.returned (some (.int (Int64.toInt32 (Int64.ofNat v)))), S)) (h2 : ((¬ (c < 48)) ∧ (¬ (57 < c))) → ((lg_cmp ((((10 : Int64) * (Int64.ofNat v)) + (Int32.toInt64 (Int32.ofNat c))) - 48) 2147483647) ≤ 0) → zEv d 155 34 [.ref 1592, .long ((((10 : Int64) * (Int64.ofNat v)) + (Int32.toInt64 (Int32.ofNat c))) - 48), .retAddr 0] [] (sI S 89 1592 (Int32.ofNat (at0 + 1))) post) (h3 : ((¬ (c < 48)) ∧ (¬ (57 < c))) → (¬ ((lg_cmp ((((10 : Int64) * (Int64.ofNat v)) + (Int32.toInt64 (Int32.ofNat c))) - 48) 2147483647) ≤ 0)) → zEv d 155 34 [.ref 1592, .long ((((10 : Int64) * (Int64.ofNat v)) + (Int32.toInt64 (Int32.ofNat c))) - 48), .retAddr 0] [] (sI (sI S 91 1592 1) 92 1592 (Int32.ofNat at0)) post) : zEv d 155 34 [.ref 1592, .long (Int64.ofNat v), .retAddr 0] [] S post := by
  have ht : ztab 155 = ztb155 := rfl
  refine zv_c1 ht rfl rfl ?_
  have C2 : ∀ (pst1 : Outcome × zS → Prop), (pst1 (.returned (some (.int 1)), S)) → zCall (d - 1) 125 [.ref 1592] S pst1 := by
    intro pst1 k4
    have ht3 : ztab 125 = ztb125 := rfl
    show zEv (d - 1) 125 0 [.ref 1592] [] S pst1
    refine zv_c1 ht3 rfl rfl ?_
    refine zv_e1 (x := 0) ht3 rfl rfl h_fault ?_
    refine zv_br ht3 rfl rfl rfl (fun h => absurd h (by decide)) (fun _ => ?_)
    refine zv_c1 ht3 rfl rfl (zv_c1 ht3 rfl rfl ?_)
    exact zv_rc ht3 rfl rfl rfl rfl (by decide) k4
  refine zv_cl ht rfl rfl rfl rfl (by omega) (Nat.le_of_ble_eq_true rfl) (C2 _ ?_)
  show zEv d 155 38 [.ref 1592, .long (Int64.ofNat v), .retAddr 0] [.int 1] S post
  refine zv_br ht rfl rfl rfl (fun h => absurd h (by decide)) (fun _ => ?_)
  refine zv_c1 ht rfl rfl ?_
  refine zv_cl ht rfl rfl rfl rfl (by omega) (Nat.le_of_ble_eq_true rfl) (m_seeC (S := S) (tp := tp) (sz := sz) (at0 := at0) hF (by omega) hP hc ?_)
  show zEv d 155 45 [.ref 1592, .long (Int64.ofNat v), .retAddr 0] [.int (Int32.ofNat c)] S post
  refine zv_c1 ht rfl rfl (zv_c1 ht rfl rfl ?_)
  have C6 : ∀ (pst5 : Outcome × zS → Prop), (pst5 (.returned (some (.int (zbo ((¬ (c < 48)) ∧ (¬ (57 < c)))))), S)) → zCall (d - 1) 102 [.int (Int32.ofNat c), .int 48, .int 57] S pst5 := by
    intro pst5 k14
    have ht7 : ztab 102 = ztb102 := rfl
    show zEv (d - 1) 102 0 [.int (Int32.ofNat c), .int 48, .int 57] [] S pst5
    refine zv_c1 ht7 rfl rfl (zv_c1 ht7 rfl rfl ?_)
    have J12 : zEv (d - 1) 102 15 [.retAddr 0, .retAddr 0, .retAddr 0] [.int (zbo ((¬ (c < 48)) ∧ (¬ (57 < c))))] S pst5 := by
      exact zv_rc ht7 rfl rfl rfl rfl zbo_rng k14
    have J10 : ((c < 48) ∨ (57 < c)) → zEv (d - 1) 102 14 [.retAddr 0, .retAddr 0, .retAddr 0] [] S pst5 := by
      intro b11
      refine zv_c1 ht7 rfl rfl ?_
      exact (zv_sub (zz := zbo ((¬ (c < 48)) ∧ (¬ (57 < c)))) (zy := 0) (p := fun zz => zEv (d - 1) 102 15 [.retAddr 0, .retAddr 0, .retAddr 0] [.int zz] S pst5) (zbo_neg (b11.elim (fun y1 => (fun h => (fun h => h y1) h.1)) (fun y1 => (fun h => (fun h => h y1) h.2)))) J12)
    refine zv_br ht7 rfl rfl rfl (fun b8 => ?_) (fun b8 => ?_)
    · replace b8 : c < 48 := (zi_ltE (a := c) (b := 48) rfl rfl (by omega) (by omega)).mp b8
      exact zEv.wk (L := [.retAddr 0, .retAddr 0, .retAddr 0]) (L' := [.int (Int32.ofNat c), .int 48, .int 57]) (And.intro (Or.inr rfl) (And.intro (Or.inr rfl) (And.intro (Or.inr rfl) trivial))) (J10 (Or.inl b8))
    · replace b8 : ¬ (c < 48) := fun h => b8 ((zi_ltE (a := c) (b := 48) rfl rfl (by omega) (by omega)).mpr h)
      refine zv_c1 ht7 rfl rfl (zv_c1 ht7 rfl rfl ?_)
      refine zv_br ht7 rfl rfl rfl (fun b9 => ?_) (fun b9 => ?_)
      · replace b9 : 57 < c := (zi_ltE (a := 57) (b := c) rfl rfl (by omega) (by omega)).mp b9
        exact zEv.wk (L := [.retAddr 0, .retAddr 0, .retAddr 0]) (L' := [.int (Int32.ofNat c), .int 48, .int 57]) (And.intro (Or.inr rfl) (And.intro (Or.inr rfl) (And.intro (Or.inr rfl) trivial))) (J10 (Or.inr b9))
      · replace b9 : ¬ (57 < c) := fun h => b9 ((zi_ltE (a := 57) (b := c) rfl rfl (by omega) (by omega)).mpr h)
        refine zv_c1 ht7 rfl rfl (zv_c1 ht7 rfl rfl ?_)
        exact zEv.wk (L := [.retAddr 0, .retAddr 0, .retAddr 0]) (L' := [.int (Int32.ofNat c), .int 48, .int 57]) (And.intro (Or.inr rfl) (And.intro (Or.inr rfl) (And.intro (Or.inr rfl) trivial))) (zv_sub (zz := zbo ((¬ (c < 48)) ∧ (¬ (57 < c)))) (zy := 1) (p := fun zz => zEv (d - 1) 102 15 [.retAddr 0, .retAddr 0, .retAddr 0] [.int zz] S pst5) (zbo_pos ⟨b8, b9⟩) J12)
  refine zv_cl ht rfl rfl rfl rfl (by omega) (Nat.le_of_ble_eq_true rfl) (C6 _ ?_)
  show zEv d 155 52 [.ref 1592, .long (Int64.ofNat v), .retAddr 0] [.int (zbo ((¬ (c < 48)) ∧ (¬ (57 < c))))] S post
  refine zv_br ht rfl rfl rfl (fun b15 => ?_) (fun b15 => ?_)
  · replace b15 : ¬ ((¬ (c < 48)) ∧ (¬ (57 < c))) := (zbo_eq0 : (zbo ((¬ (c < 48)) ∧ (¬ (57 < c)))) = 0 ↔ ¬ ((¬ (c < 48)) ∧ (¬ (57 < c)))).mp b15
    refine zv_c1 ht rfl rfl ?_
    refine zv_c1 (st' := [.int (Int64.toInt32 (Int64.ofNat v))]) (S' := S) ht rfl rfl ?_
    exact zv_rt ht rfl rfl rfl rfl (h1 b15)
  · replace b15 : (¬ (c < 48)) ∧ (¬ (57 < c)) := Classical.byContradiction (fun h => b15 ((zbo_eq0 : (zbo ((¬ (c < 48)) ∧ (¬ (57 < c)))) = 0 ↔ ¬ ((¬ (c < 48)) ∧ (¬ (57 < c)))).mpr h))
    refine zv_c1 ht rfl rfl (zv_c1 ht rfl rfl ?_)
    refine zv_c1 (st' := [.long ((10 : Int64) * (Int64.ofNat v))]) (S' := S) ht rfl rfl ?_
    refine zv_c1 ht rfl rfl ?_
    refine zv_cl ht rfl rfl rfl rfl (by omega) (Nat.le_of_ble_eq_true rfl) (m_seeC (S := S) (tp := tp) (sz := sz) (at0 := at0) hF (by omega) hP hc ?_)
    show zEv d 155 64 [.ref 1592, .long (Int64.ofNat v), .retAddr 0] [.int (Int32.ofNat c), .long ((10 : Int64) * (Int64.ofNat v))] S post
    refine zv_c1 (st' := [.long (Int32.toInt64 (Int32.ofNat c)), .long ((10 : Int64) * (Int64.ofNat v))]) (S' := S) ht rfl rfl ?_
    refine zv_c1 (st' := [.long (((10 : Int64) * (Int64.ofNat v)) + (Int32.toInt64 (Int32.ofNat c)))]) (S' := S) ht rfl rfl ?_
    refine zv_c1 ht rfl rfl ?_
    refine zv_c1 (st' := [.long ((((10 : Int64) * (Int64.ofNat v)) + (Int32.toInt64 (Int32.ofNat c))) - 48)]) (S' := S) ht rfl rfl ?_
    refine zv_c2 (L' := [.ref 1592, .long ((((10 : Int64) * (Int64.ofNat v)) + (Int32.toInt64 (Int32.ofNat c))) - 48), .retAddr 0]) ht rfl rfl ?_
    refine zv_c1 ht rfl rfl (zv_c1 ht rfl rfl ?_)
    refine zv_c1 (st' := [.int (lg_cmp ((((10 : Int64) * (Int64.ofNat v)) + (Int32.toInt64 (Int32.ofNat c))) - 48) 2147483647)]) (S' := S) ht rfl rfl ?_
    refine zv_br ht rfl rfl rfl (fun b16 => ?_) (fun b16 => ?_)
    · refine zv_c1 ht rfl rfl (zv_c1 ht rfl rfl ?_)
      refine zv_e1 (x := Int32.ofNat at0) ht rfl rfl h_at ?_
      refine zv_c1 ht rfl rfl ?_
      refine zv_e1 (x := Int32.ofNat (at0 + 1)) ht rfl rfl (zi_addE (a := at0) (b := 1) rfl rfl) ?_
      refine zv_c1 (S' := sI S 89 1592 (Int32.ofNat (at0 + 1))) ht rfl rfl ?_
      refine zv_c1 ht rfl rfl ?_
      exact (h2 b15 b16)
    · refine zv_c1 ht rfl rfl (zv_c1 ht rfl rfl (zv_c1 ht rfl rfl ?_))
      refine zv_e1 (x := Int32.ofNat at0) ht rfl rfl h_at ?_
      have C18 : ∀ (pst17 : Outcome × zS → Prop), (pst17 (.returned none, sI (sI S 91 1592 1) 92 1592 (Int32.ofNat at0))) → zCall (d - 1) 128 [.ref 1592, .int 1, .int (Int32.ofNat at0)] S pst17 := by
        intro pst17 k20
        have ht19 : ztab 128 = ztb128 := rfl
        show zEv (d - 1) 128 0 [.ref 1592, .int 1, .int (Int32.ofNat at0)] [] S pst17
        refine zv_c1 ht19 rfl rfl ?_
        refine zv_e1 (x := 0) ht19 rfl rfl h_fault ?_
        refine zv_br ht19 rfl rfl rfl (fun _ => ?_) (fun h => absurd (by decide) h)
        refine zv_c1 ht19 rfl rfl (zv_c1 ht19 rfl rfl ?_)
        refine zv_c1 (S' := sI S 91 1592 1) ht19 rfl rfl ?_
        refine zv_c1 ht19 rfl rfl (zv_c1 ht19 rfl rfl ?_)
        refine zv_c1 (S' := sI (sI S 91 1592 1) 92 1592 (Int32.ofNat at0)) ht19 rfl rfl ?_
        exact zv_rt ht19 rfl rfl rfl rfl k20
      refine zv_cl ht rfl rfl rfl rfl (by omega) (Nat.le_of_ble_eq_true rfl) (C18 _ ?_)
      show zEv d 155 88 [.ref 1592, .long ((((10 : Int64) * (Int64.ofNat v)) + (Int32.toInt64 (Int32.ofNat c))) - 48), .retAddr 0] [] (sI (sI S 91 1592 1) 92 1592 (Int32.ofNat at0)) post
      refine zv_c1 ht rfl rfl ?_
      exact (h3 b15 b16)

theorem nu2 {d : Nat} {S : zS} (hF : zFin true S) (hd : 1 ≤ d) (k : Nat) (y : Int64)  (h_fault : gI S 91 1592 = Int32.ofNat k) (hk : 0 < k) (hk4 : k < 4) {post : Outcome × zS → Prop} (h1 : post (.returned (some (.int (Int64.toInt32 y))), S)) : zEv d 155 34 [.ref 1592, .long y, .retAddr 0] [] S post := by
  have ht : ztab 155 = ztb155 := rfl
  refine zv_c1 ht rfl rfl ?_
  have C2 : ∀ (pst1 : Outcome × zS → Prop), (pst1 (.returned (some (.int 0)), S)) → zCall (d - 1) 125 [.ref 1592] S pst1 := by
    intro pst1 k5
    have ht3 : ztab 125 = ztb125 := rfl
    show zEv (d - 1) 125 0 [.ref 1592] [] S pst1
    refine zv_c1 ht3 rfl rfl ?_
    refine zv_e1 (x := Int32.ofNat k) ht3 rfl rfl h_fault ?_
    refine zv_br ht3 rfl rfl rfl (fun b4 => ?_) (fun b4 => (show False from by have hq := b4; have hz : k = 0 := (zi_eqE (a := k) (b := 0) rfl rfl (by omega) (by omega)).mp (Classical.not_not.mp hq); omega).elim)
    refine zv_c1 ht3 rfl rfl ?_
    exact zv_rc ht3 rfl rfl rfl rfl (by decide) k5
  refine zv_cl ht rfl rfl rfl rfl (by omega) (Nat.le_of_ble_eq_true rfl) (C2 _ ?_)
  show zEv d 155 38 [.ref 1592, .long y, .retAddr 0] [.int 0] S post
  refine zv_br ht rfl rfl rfl (fun _ => ?_) (fun h => absurd (by decide) h)
  refine zv_c1 ht rfl rfl ?_
  refine zv_c1 (st' := [.int (Int64.toInt32 y)]) (S' := S) ht rfl rfl ?_
  exact zv_rt ht rfl rfl rfl rfl h1

theorem ad0 {d : Nat} {S : zS} (hF : zFin true S) (n c m : Nat)  (hn : n < 3000) (hc : c < 3000) (hm1 : m < 100) (hm : gA S 1614 n = Int32.ofNat m) (hf : gA S 1612 n = -1) {post : Outcome × zS → Prop} (h1 : post (.returned none, sA (sA (sA S 1614 n (Int32.ofNat (m + 1))) 1613 c (-1)) 1612 n (Int32.ofNat c))) : zCall d 154 [.ref 1592, .int (Int32.ofNat n), .int (Int32.ofNat c)] S post := by
  have ht : ztab 154 = ztb154 := rfl
  show zEv d 154 0 [.ref 1592, .int (Int32.ofNat n), .int (Int32.ofNat c), .retAddr 0] [] S post
  refine zv_c1 ht rfl rfl ?_
  refine zv_gl (st' := [.ref 1614]) ht rfl hF rfl rfl rfl ?_
  refine zv_c1 ht rfl rfl (zv_c1 ht rfl rfl ?_)
  refine zv_iaE (j := n) (x := Int32.ofNat m) ht rfl rfl rfl rfl (zi_natE (a := n) rfl (by omega)) ⟨(Or.inl rfl), zi_inE (a := n) (n := 3000) rfl (by omega) (by omega)⟩ hm ?_
  refine zv_c1 ht rfl rfl ?_
  refine zv_e1 (x := Int32.ofNat (m + 1)) ht rfl rfl (zi_addE (a := m) (b := 1) rfl rfl) ?_
  refine zv_is (j := n) (x := Int32.ofNat (m + 1)) ht rfl rfl rfl rfl (zi_natE (a := n) rfl (by omega)) ⟨rfl, zi_inE (a := n) (n := 3000) rfl (by omega) (by omega)⟩ ?_
  refine zv_c1 ht rfl rfl ?_
  refine zv_gl (st' := [.ref 1613]) ht rfl hF rfl rfl rfl ?_
  refine zv_c1 ht rfl rfl (zv_c1 ht rfl rfl ?_)
  refine zv_is (j := c) (x := (-1)) ht rfl rfl rfl rfl (zi_natE (a := c) rfl (by omega)) ⟨rfl, zi_inE (a := c) (n := 3000) rfl (by omega) (by omega)⟩ ?_
  refine zv_c1 ht rfl rfl ?_
  refine zv_gl (st' := [.ref 1612]) ht rfl hF rfl rfl rfl ?_
  refine zv_c1 ht rfl rfl ?_
  refine zv_iaE (j := n) (x := (-1)) ht rfl rfl rfl rfl (zi_natE (a := n) rfl (by omega)) ⟨(Or.inl rfl), zi_inE (a := n) (n := 3000) rfl (by omega) (by omega)⟩ hf ?_
  refine zv_c1 ht rfl rfl ?_
  refine zv_br ht rfl rfl rfl (fun h => absurd h (by decide)) (fun _ => ?_)
  refine zv_c1 ht rfl rfl ?_
  refine zv_gl (st' := [.ref 1612]) ht rfl hF rfl rfl rfl ?_
  refine zv_c1 ht rfl rfl (zv_c1 ht rfl rfl ?_)
  refine zv_is (j := n) (x := Int32.ofNat c) ht rfl rfl rfl rfl (zi_natE (a := n) rfl (by omega)) ⟨rfl, zi_inE (a := n) (n := 3000) rfl (by omega) (by omega)⟩ ?_
  exact zv_rt ht rfl rfl rfl rfl h1

theorem ad1 {d : Nat} {S : zS} (hF : zFin true S) (n c m f : Nat)  (hn : n < 3000) (hc : c < 3000) (hm1 : m < 100) (hf1 : f < 3000) (hm : gA S 1614 n = Int32.ofNat m) (hf : gA S 1612 n = Int32.ofNat f) {post : Outcome × zS → Prop} (h1 : zEv d 154 42 [.ref 1592, .retAddr 0, .int (Int32.ofNat c), .int (Int32.ofNat f)] [] (sA (sA S 1614 n (Int32.ofNat (m + 1))) 1613 c (-1)) post) : zCall d 154 [.ref 1592, .int (Int32.ofNat n), .int (Int32.ofNat c)] S post := by
  have ht : ztab 154 = ztb154 := rfl
  show zEv d 154 0 [.ref 1592, .int (Int32.ofNat n), .int (Int32.ofNat c), .retAddr 0] [] S post
  refine zv_c1 ht rfl rfl ?_
  refine zv_gl (st' := [.ref 1614]) ht rfl hF rfl rfl rfl ?_
  refine zv_c1 ht rfl rfl (zv_c1 ht rfl rfl ?_)
  refine zv_iaE (j := n) (x := Int32.ofNat m) ht rfl rfl rfl rfl (zi_natE (a := n) rfl (by omega)) ⟨(Or.inl rfl), zi_inE (a := n) (n := 3000) rfl (by omega) (by omega)⟩ hm ?_
  refine zv_c1 ht rfl rfl ?_
  refine zv_e1 (x := Int32.ofNat (m + 1)) ht rfl rfl (zi_addE (a := m) (b := 1) rfl rfl) ?_
  refine zv_is (j := n) (x := Int32.ofNat (m + 1)) ht rfl rfl rfl rfl (zi_natE (a := n) rfl (by omega)) ⟨rfl, zi_inE (a := n) (n := 3000) rfl (by omega) (by omega)⟩ ?_
  refine zv_c1 ht rfl rfl ?_
  refine zv_gl (st' := [.ref 1613]) ht rfl hF rfl rfl rfl ?_
  refine zv_c1 ht rfl rfl (zv_c1 ht rfl rfl ?_)
  refine zv_is (j := c) (x := (-1)) ht rfl rfl rfl rfl (zi_natE (a := c) rfl (by omega)) ⟨rfl, zi_inE (a := c) (n := 3000) rfl (by omega) (by omega)⟩ ?_
  refine zv_c1 ht rfl rfl ?_
  refine zv_gl (st' := [.ref 1612]) ht rfl hF rfl rfl rfl ?_
  refine zv_c1 ht rfl rfl ?_
  refine zv_iaE (j := n) (x := Int32.ofNat f) ht rfl rfl rfl rfl (zi_natE (a := n) rfl (by omega)) ⟨(Or.inl rfl), zi_inE (a := n) (n := 3000) rfl (by omega) (by omega)⟩ hf ?_
  refine zv_c1 ht rfl rfl ?_
  refine zv_br ht rfl rfl rfl (fun b1 => ?_) (fun b1 => (b1 (zi_nneg rfl (by omega) (by decide))).elim)
  refine zv_c1 ht rfl rfl ?_
  refine zv_gl (st' := [.ref 1612]) ht rfl hF rfl rfl rfl ?_
  refine zv_c1 ht rfl rfl ?_
  refine zv_iaE (j := n) (x := Int32.ofNat f) ht rfl rfl rfl rfl (zi_natE (a := n) rfl (by omega)) ⟨(Or.inl rfl), zi_inE (a := n) (n := 3000) rfl (by omega) (by omega)⟩ hf ?_
  refine zv_c2 (L' := [.ref 1592, .int (Int32.ofNat n), .int (Int32.ofNat c), .int (Int32.ofNat f)]) ht rfl rfl ?_
  exact zEv.wk (L := [.ref 1592, .retAddr 0, .int (Int32.ofNat c), .int (Int32.ofNat f)]) (L' := [.ref 1592, .int (Int32.ofNat n), .int (Int32.ofNat c), .int (Int32.ofNat f)]) (And.intro (Or.inl rfl) (And.intro (Or.inr rfl) (And.intro (Or.inl rfl) (And.intro (Or.inl rfl) trivial)))) h1

theorem ad2 {d : Nat} {S : zS} (hF : zFin true S) (c k y : Nat)  (hc : c < 3000) (hk : k < 3000) (hy : y < 3000) (hx : gA S 1613 k = Int32.ofNat y) {post : Outcome × zS → Prop} (h1 : zEv d 154 42 [.ref 1592, .retAddr 0, .int (Int32.ofNat c), .int (Int32.ofNat y)] [] S post) : zEv d 154 42 [.ref 1592, .retAddr 0, .int (Int32.ofNat c), .int (Int32.ofNat k)] [] S post := by
  have ht : ztab 154 = ztb154 := rfl
  refine zv_c1 ht rfl rfl ?_
  refine zv_gl (st' := [.ref 1613]) ht rfl hF rfl rfl rfl ?_
  refine zv_c1 ht rfl rfl ?_
  refine zv_iaE (j := k) (x := Int32.ofNat y) ht rfl rfl rfl rfl (zi_natE (a := k) rfl (by omega)) ⟨(Or.inl rfl), zi_inE (a := k) (n := 3000) rfl (by omega) (by omega)⟩ hx ?_
  refine zv_c1 ht rfl rfl ?_
  refine zv_br ht rfl rfl rfl (fun b1 => ((zi_nneg rfl (by omega) (by decide)) b1).elim) (fun b1 => ?_)
  refine zv_c1 ht rfl rfl ?_
  refine zv_gl (st' := [.ref 1613]) ht rfl hF rfl rfl rfl ?_
  refine zv_c1 ht rfl rfl ?_
  refine zv_iaE (j := k) (x := Int32.ofNat y) ht rfl rfl rfl rfl (zi_natE (a := k) rfl (by omega)) ⟨(Or.inl rfl), zi_inE (a := k) (n := 3000) rfl (by omega) (by omega)⟩ hx ?_
  refine zv_c2 (L' := [.ref 1592, .retAddr 0, .int (Int32.ofNat c), .int (Int32.ofNat y)]) ht rfl rfl ?_
  refine zv_c1 ht rfl rfl ?_
  exact h1

theorem ad3 {d : Nat} {S : zS} (hF : zFin true S) (c k : Nat)  (hc : c < 3000) (hk : k < 3000) (hx : gA S 1613 k = -1) {post : Outcome × zS → Prop} (h1 : post (.returned none, sA S 1613 k (Int32.ofNat c))) : zEv d 154 42 [.ref 1592, .retAddr 0, .int (Int32.ofNat c), .int (Int32.ofNat k)] [] S post := by
  have ht : ztab 154 = ztb154 := rfl
  refine zv_c1 ht rfl rfl ?_
  refine zv_gl (st' := [.ref 1613]) ht rfl hF rfl rfl rfl ?_
  refine zv_c1 ht rfl rfl ?_
  refine zv_iaE (j := k) (x := (-1)) ht rfl rfl rfl rfl (zi_natE (a := k) rfl (by omega)) ⟨(Or.inl rfl), zi_inE (a := k) (n := 3000) rfl (by omega) (by omega)⟩ hx ?_
  refine zv_c1 ht rfl rfl ?_
  refine zv_br ht rfl rfl rfl (fun _ => ?_) (fun h => absurd (by decide) h)
  refine zv_c1 ht rfl rfl ?_
  refine zv_gl (st' := [.ref 1613]) ht rfl hF rfl rfl rfl ?_
  refine zv_c1 ht rfl rfl (zv_c1 ht rfl rfl ?_)
  refine zv_is (j := k) (x := Int32.ofNat c) ht rfl rfl rfl rfl (zi_natE (a := k) rfl (by omega)) ⟨rfl, zi_inE (a := k) (n := 3000) rfl (by omega) (by omega)⟩ ?_
  exact zv_rt ht rfl rfl rfl rfl h1

theorem ju0 {d : Nat} {S : zS} (hF : zFin true S) (hd : 1 ≤ d) (n : Nat)  (h_fault : gI S 91 1592 = Int32.ofNat 0) (hn : n < 3000) {post : Outcome × zS → Prop} (h1 : zCall (d - 1) 135 [.ref 1592, .int (Int32.ofNat n)] S (zAf d 134 9 [.ref 1592, .int (Int32.ofNat n)] [] post)) : zCall d 134 [.ref 1592, .int (Int32.ofNat n)] S post := by
  have ht : ztab 134 = ztb134 := rfl
  show zEv d 134 0 [.ref 1592, .int (Int32.ofNat n)] [] S post
  refine zv_c1 ht rfl rfl ?_
  have C2 : ∀ (pst1 : Outcome × zS → Prop), (pst1 (.returned (some (.int 1)), S)) → zCall (d - 1) 125 [.ref 1592] S pst1 := by
    intro pst1 k4
    have ht3 : ztab 125 = ztb125 := rfl
    show zEv (d - 1) 125 0 [.ref 1592] [] S pst1
    refine zv_c1 ht3 rfl rfl ?_
    refine zv_e1 (x := 0) ht3 rfl rfl h_fault ?_
    refine zv_br ht3 rfl rfl rfl (fun h => absurd h (by decide)) (fun _ => ?_)
    refine zv_c1 ht3 rfl rfl (zv_c1 ht3 rfl rfl ?_)
    exact zv_rc ht3 rfl rfl rfl rfl (by decide) k4
  refine zv_cl ht rfl rfl rfl rfl (by omega) (Nat.le_of_ble_eq_true rfl) (C2 _ ?_)
  show zEv d 134 4 [.ref 1592, .int (Int32.ofNat n)] [.int 1] S post
  refine zv_br ht rfl rfl rfl (fun h => absurd h (by decide)) (fun _ => ?_)
  refine zv_c1 ht rfl rfl (zv_c1 ht rfl rfl ?_)
  refine zv_cl ht rfl rfl rfl rfl (by omega) (Nat.le_of_ble_eq_true rfl) h1

theorem juX {d : Nat} {S : zS} (hF : zFin true S) (hd : 1 ≤ d) (n k : Nat)  (h_fault : gI S 91 1592 = Int32.ofNat k) (hn : n < 3000) (hk : 0 < k) (hk4 : k < 4) {post : Outcome × zS → Prop} (h1 : post (.returned (some (.int (Int32.ofNat n))), S)) : zCall d 134 [.ref 1592, .int (Int32.ofNat n)] S post := by
  have ht : ztab 134 = ztb134 := rfl
  show zEv d 134 0 [.ref 1592, .int (Int32.ofNat n)] [] S post
  refine zv_c1 ht rfl rfl ?_
  have C2 : ∀ (pst1 : Outcome × zS → Prop), (pst1 (.returned (some (.int 0)), S)) → zCall (d - 1) 125 [.ref 1592] S pst1 := by
    intro pst1 k5
    have ht3 : ztab 125 = ztb125 := rfl
    show zEv (d - 1) 125 0 [.ref 1592] [] S pst1
    refine zv_c1 ht3 rfl rfl ?_
    refine zv_e1 (x := Int32.ofNat k) ht3 rfl rfl h_fault ?_
    refine zv_br ht3 rfl rfl rfl (fun b4 => ?_) (fun b4 => (show False from by have hq := b4; have hz : k = 0 := (zi_eqE (a := k) (b := 0) rfl rfl (by omega) (by omega)).mp (Classical.not_not.mp hq); omega).elim)
    refine zv_c1 ht3 rfl rfl ?_
    exact zv_rc ht3 rfl rfl rfl rfl (by decide) k5
  refine zv_cl ht rfl rfl rfl rfl (by omega) (Nat.le_of_ble_eq_true rfl) (C2 _ ?_)
  show zEv d 134 4 [.ref 1592, .int (Int32.ofNat n)] [.int 0] S post
  refine zv_br ht rfl rfl rfl (fun _ => ?_) (fun h => absurd (by decide) h)
  refine zv_c1 ht rfl rfl ?_
  exact zv_rt ht rfl rfl rfl rfl h1

section Q4b
variable {d : Nat} {post : Outcome × zS → Prop} {tp : Nat → Nat} {sz : Nat}
theorem zl_toInt {v : Nat} (h : v < 9223372036854775808) : (Int64.ofNat v).toInt = (v : Int) := Int64.toInt_ofNat_of_lt h
theorem zl_i2l {c : Nat} (h : c < 2147483648) : Int32.toInt64 (Int32.ofNat c) = Int64.ofNat c := by
  apply Int64.toInt_inj.mp
  rw [Int32.toInt_toInt64, zl_toInt (by omega)]; exact zi_toInt h
theorem zl_l2i {v : Nat} : (Int64.ofNat v).toInt32 = Int32.ofNat v := by simp
theorem zl_dig {v c : Nat} (hc : c < 256) (h : 48 ≤ c) : ((((10 : Int64) * (Int64.ofNat v)) + (Int32.toInt64 (Int32.ofNat c))) - 48) = Int64.ofNat (10 * v + (c - 48)) := by
  rw [zl_i2l (by omega)]
  have e : (10 : Int64) * Int64.ofNat v + Int64.ofNat c = Int64.ofNat (10 * v + (c - 48)) + 48 := by
    show Int64.ofNat 10 * Int64.ofNat v + Int64.ofNat c = Int64.ofNat (10 * v + (c - 48)) + Int64.ofNat 48
    rw [← Int64.ofNat_mul, ← Int64.ofNat_add, ← Int64.ofNat_add]
    congr 1; omega
  rw [e, Int64.add_sub_cancel]
theorem zl_big {n : Nat} (h : n < 9223372036854775808) : lg_cmp (Int64.ofNat n) 2147483647 ≤ 0 ↔ ¬ 2147483647 < n := by
  have e3 : (2147483647 : Int64).toInt = 2147483647 := by decide +kernel
  rw [← Int32.not_lt, lgc_gt, e3, zl_toInt h]; omega
theorem m_number {S : zS} (hF : zFin true S) (hd : 2 ≤ d) {at0 rd nx wt B : Nat} (hP : mP tp sz S at0 rd nx wt)
    (h1 : ∀ S' v at1, zFin true S' → pNum tp sz at0 = .ok (v, at1) → 1 ≤ v → v < 2147483648 → at0 ≤ at1 → at1 ≤ sz → mFr B nx wt S S' → mP tp sz S' at1 rd nx wt → post (.returned (some (.int (Int32.ofNat v))), S'))
    (h2 : ∀ S' v p, zFin true S' → pNum tp sz at0 = .error (1, p) → p ≤ sz → mFr B nx wt S S' → mX S' 1 p → post (.returned (some (.int v)), S')) : zCall d 155 [.ref 1592] S post := by
  have hX : ∀ (S : zS) p, mX (sI (sI S 91 1592 1) 92 1592 (Int32.ofNat p)) 1 p := fun S p => ⟨by show gI (sI S 91 1592 1) 91 1592 = _; exact gI_sI_at, gI_sI_at, by omega, by omega⟩
  have key : ∀ n v at0 S, zFin true S → mP tp sz S at0 rd nx wt → at0 + n = sz → v < 2147483648 → (1 ≤ v ∨ (49 ≤ pSee tp sz at0 ∧ pSee tp sz at0 ≤ 57)) →
      (∀ S' v1 at1, zFin true S' → pNumL tp sz n v at0 = .ok (v1, at1) → 1 ≤ v1 → v1 < 2147483648 → at0 ≤ at1 → at1 ≤ sz → mFr B nx wt S S' → mP tp sz S' at1 rd nx wt → post (.returned (some (.int (Int32.ofNat v1))), S')) →
      (∀ S' v1 p, zFin true S' → pNumL tp sz n v at0 = .error (1, p) → p ≤ sz → mFr B nx wt S S' → mX S' 1 p → post (.returned (some (.int v1)), S')) →
      zEv d 155 34 [.ref 1592, .long (Int64.ofNat v), .retAddr 0] [] S post := by
    intro n
    induction n with
    | zero =>
      intro v at0 S hF hP he hv hv1 h1 h2
      have hq := hP
      obtain ⟨⟨g1, g2, g3, g4, g5, g6⟩, g7, g8, g9, g10⟩ := hP
      have e0 : pSee tp sz at0 = 0 := if_neg (by omega)
      refine nu1 hF (by omega) tp at0 sz (pSee tp sz at0) v g1 g3 hq.v g9 g10 (pSee_lt g8) rfl hv (fun _ => ?_) (fun c => absurd c (by omega)) (fun c => absurd c (by omega))
      rw [zl_l2i]
      exact h1 S v at0 hF rfl (by omega) hv (Nat.le_refl _) g10 mFr.rf hq
    | succ n ih =>
      intro v at0 S hF hP he hv hv1 h1 h2
      have hq := hP
      obtain ⟨⟨g1, g2, g3, g4, g5, g6⟩, g7, g8, g9, g10⟩ := hP
      have hc := pSee_lt (sz := sz) (at0 := at0) g8
      by_cases hg : pDig tp sz at0
      · have hg' := hg; unfold pDig at hg'
        have e1 : pNumL tp sz (n + 1) v at0 = (if 2147483647 < 10 * v + (pSee tp sz at0 - 48) then .error (1, at0) else pNumL tp sz n (10 * v + (pSee tp sz at0 - 48)) (at0 + 1)) := by
          show @ite _ (pDig tp sz at0) (Classical.propDecidable _) _ _ = _
          rw [if_pos hg]
        refine nu1 hF (by omega) tp at0 sz (pSee tp sz at0) v g1 g3 hq.v g9 g10 hc rfl hv (fun c => absurd c (by omega)) (fun _ c => ?_) (fun _ c => ?_)
        · rw [zl_dig hc (by omega)] at c ⊢
          have c' := (zl_big (by omega)).mp c
          rw [if_neg c'] at e1
          refine ih _ (at0 + 1) _ hF ⟨⟨gI_sI_at, g2, g3, g4, g5, g6⟩, g7, g8, g9, by omega⟩ (by omega) (by omega) (Or.inl (by omega)) ?_ ?_
          · intro S' v1 at1 f1 f2 f3 f4 f5 f6 f7 f8
            exact h1 S' v1 at1 f1 (e1.trans f2) f3 f4 (by omega) f6 ((mFr_sI (by decide)).tr f7) f8
          · intro S' v1 p f1 f2 f3 f4 f5
            exact h2 S' v1 p f1 (e1.trans f2) f3 ((mFr_sI (by decide)).tr f4) f5
        · rw [zl_dig hc (by omega)] at c ⊢
          have c' : 2147483647 < 10 * v + (pSee tp sz at0 - 48) := Classical.byContradiction fun x => c ((zl_big (by omega)).mpr x)
          rw [if_pos c'] at e1
          refine nu2 (S := sI (sI S 91 1592 1) 92 1592 (Int32.ofNat at0)) hF (by omega) 1 _ (hX _ at0).1 (by omega) (by omega) ?_
          exact h2 _ _ at0 hF e1 g10 ((mFr_sI (by decide)).tr (mFr_sI (by decide))) (hX _ _)
      · have e1 : pNumL tp sz (n + 1) v at0 = .ok (v, at0) := by
          show @ite _ (pDig tp sz at0) (Classical.propDecidable _) _ _ = _
          rw [if_neg hg]
        unfold pDig at hg
        refine nu1 hF (by omega) tp at0 sz (pSee tp sz at0) v g1 g3 hq.v g9 g10 hc rfl hv (fun _ => ?_) (fun c => absurd c (by omega)) (fun c => absurd c (by omega))
        rw [zl_l2i]
        exact h1 S v at0 hF e1 (by omega) hv (Nat.le_refl _) g10 mFr.rf hq
  have hq := hP
  obtain ⟨⟨g1, g2, g3, g4, g5, g6⟩, g7, g8, g9, g10⟩ := hP
  refine nu0 hF (by omega) tp at0 sz (pSee tp sz at0) g1 g3 hq.v g9 g10 (pSee_lt g8) rfl (fun c => ?_) (fun c => ?_)
  · have e : pNum tp sz at0 = pNumL tp sz (sz - at0) 0 at0 := if_pos (by omega)
    exact key (sz - at0) 0 at0 S hF hq (by omega) (by omega) (Or.inr (by omega)) (fun S' v1 at1 f1 f2 => h1 S' v1 at1 f1 (e.trans f2)) (fun S' v1 p f1 f2 => h2 S' v1 p f1 (e.trans f2))
  · have e : pNum tp sz at0 = .error (1, at0) := if_neg (by omega)
    refine nu2 (S := sI (sI S 91 1592 1) 92 1592 (Int32.ofNat at0)) hF (by omega) 1 _ (hX _ at0).1 (by omega) (by omega) ?_
    exact h2 _ _ at0 hF e g10 ((mFr_sI (by decide)).tr (mFr_sI (by decide))) (hX _ _)
theorem m_numberX {S : zS} (hF : zFin true S) (hd : 2 ≤ d) {k p : Nat} (hX : mX S k p) (h1 : post (.returned (some (.int 0)), S)) : zCall d 155 [.ref 1592] S post := nuX hF (by omega) k hX.1 hX.2.2.1 hX.2.2.2 h1
end Q4b

