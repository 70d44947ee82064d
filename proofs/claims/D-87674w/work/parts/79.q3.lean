set_option maxRecDepth 100000
/-! ===== the twin reads words ===== -/
theorem zLits.tk {fs as : List Nat} {S S' : zS} (h : zLits S) (k : zTK fs as S S') (ha : ∀ a ∈ as, a < zLB) : zLits S' := by
  intro i hi
  have ke : zKE 0 (1592 :: as) [] S S' := k.keep 0 (fun a h => List.mem_cons_of_mem _ h) List.mem_cons_self
  have nm : ∀ a, zLB ≤ a → a ∉ 1592 :: as := by
    intro a h1 h2
    rcases List.mem_cons.mp h2 with e | e
    · rw [e] at h1; exact absurd h1 (by decide)
    · have := ha a e; omega
  obtain ⟨h1, h2⟩ := h i hi
  refine ⟨h1.k ke (Or.inr (by omega)) (fun v hv => ?_) (nm _ (by omega)) ⟨by simp, by simp⟩, ?_⟩
  · have e : v = zLB + 2 * i + 1 := Option.some.inj (hv.symm.trans h2)
    subst e
    exact ⟨Or.inr (by omega), nm _ (by omega)⟩
  · rw [ke.P (Or.inr (by omega)) (nm _ (by omega)) (by simp)]; exact h2
theorem we0 {d : Nat} {S : zS} (hF : zFin true S) (at0 : Nat)  (h_at : gI S 89 1592 = Int32.ofNat at0)  {post : Outcome × zS → Prop} (h1 : zEv d 126 5 [.ref 1592, .int (Int32.ofNat at0)] [] S post) : zCall d 126 [.ref 1592] S post := by
  have ht : ztab 126 = ztb126 := rfl
  show zEv d 126 0 [.ref 1592, .retAddr 0] [] S post
  refine zv_c1 ht rfl rfl ?_
  refine zv_e1 (x := Int32.ofNat at0) ht rfl rfl h_at ?_
  refine zv_c2 (L' := [.ref 1592, .int (Int32.ofNat at0)]) ht rfl rfl ?_
  exact h1

theorem we1 {d : Nat} {S : zS} (hF : zFin true S) (hd : 2 ≤ d) (e sz c : Nat)  (h_size : gI S 90 1592 = Int32.ofNat sz) (hs : sz ≤ 300) (he : e < sz) (hc1 : c < 256) (hc : gA S 1593 e = Int32.ofNat c) {post : Outcome × zS → Prop} (h1 : (¬ (sz ≤ e)) → (((¬ (c < 97)) ∧ (¬ (122 < c))) ∨ ((¬ (c < 48)) ∧ (¬ (57 < c))) ∨ (c = 95)) → zEv d 126 5 [.ref 1592, .int (Int32.ofNat (e + 1))] [] S post) (h2 : ((sz ≤ e) ∨ (¬ (((¬ (c < 97)) ∧ (¬ (122 < c))) ∨ ((¬ (c < 48)) ∧ (¬ (57 < c))) ∨ (c = 95)))) → post (.returned (some (.int (Int32.ofNat e))), S)) : zEv d 126 5 [.ref 1592, .int (Int32.ofNat e)] [] S post := by
  have ht : ztab 126 = ztb126 := rfl
  refine zv_c1 ht rfl rfl (zv_c1 ht rfl rfl ?_)
  refine zv_e1 (x := Int32.ofNat sz) ht rfl rfl h_size ?_
  have J34 : ((sz ≤ e) ∨ (¬ (((¬ (c < 97)) ∧ (¬ (122 < c))) ∨ ((¬ (c < 48)) ∧ (¬ (57 < c))) ∨ (c = 95)))) → zEv d 126 31 [.retAddr 0, .int (Int32.ofNat e)] [] S post := by
    intro b35
    refine zv_c1 ht rfl rfl ?_
    exact zv_rt ht rfl rfl rfl rfl (h2 b35)
  refine zv_br ht rfl rfl rfl (fun b1 => ?_) (fun b1 => ?_)
  · replace b1 : sz ≤ e := (zi_leE (a := sz) (b := e) rfl rfl (by omega) (by omega)).mp b1
    exact zEv.wk (L := [.retAddr 0, .int (Int32.ofNat e)]) (L' := [.ref 1592, .int (Int32.ofNat e)]) (And.intro (Or.inr rfl) (And.intro (Or.inl rfl) trivial)) (J34 (Or.inl b1))
  · replace b1 : ¬ (sz ≤ e) := fun h => b1 ((zi_leE (a := sz) (b := e) rfl rfl (by omega) (by omega)).mpr h)
    refine zv_c1 ht rfl rfl ?_
    refine zv_gl (st' := [.ref 1593]) ht rfl hF rfl rfl rfl ?_
    refine zv_c1 ht rfl rfl ?_
    refine zv_iaE (j := e) (x := Int32.ofNat c) ht rfl rfl rfl rfl (zi_natE (a := e) rfl (by omega)) ⟨(Or.inl rfl), zi_inE (a := e) (n := 300) rfl (by omega) (by omega)⟩ hc ?_
    have C3 : ∀ (pst2 : Outcome × zS → Prop), (pst2 (.returned (some (.int (zbo (((¬ (c < 97)) ∧ (¬ (122 < c))) ∨ ((¬ (c < 48)) ∧ (¬ (57 < c))) ∨ (c = 95))))), S)) → zCall (d - 1) 127 [.int (Int32.ofNat c)] S pst2 := by
      intro pst2 k32
      have ht4 : ztab 127 = ztb127 := rfl
      show zEv (d - 1) 127 0 [.int (Int32.ofNat c)] [] S pst2
      refine zv_c1 ht4 rfl rfl (zv_c1 ht4 rfl rfl (zv_c1 ht4 rfl rfl ?_))
      have C6 : ∀ (pst5 : Outcome × zS → Prop), (pst5 (.returned (some (.int (zbo ((¬ (c < 97)) ∧ (¬ (122 < c)))))), S)) → zCall ((d - 1) - 1) 102 [.int (Int32.ofNat c), .int 97, .int 122] S pst5 := by
        intro pst5 k14
        have ht7 : ztab 102 = ztb102 := rfl
        show zEv ((d - 1) - 1) 102 0 [.int (Int32.ofNat c), .int 97, .int 122] [] S pst5
        refine zv_c1 ht7 rfl rfl (zv_c1 ht7 rfl rfl ?_)
        have J12 : zEv ((d - 1) - 1) 102 15 [.retAddr 0, .retAddr 0, .retAddr 0] [.int (zbo ((¬ (c < 97)) ∧ (¬ (122 < c))))] S pst5 := by
          exact zv_rc ht7 rfl rfl rfl rfl zbo_rng k14
        have J10 : ((c < 97) ∨ (122 < c)) → zEv ((d - 1) - 1) 102 14 [.retAddr 0, .retAddr 0, .retAddr 0] [] S pst5 := by
          intro b11
          refine zv_c1 ht7 rfl rfl ?_
          exact (zv_sub (zz := zbo ((¬ (c < 97)) ∧ (¬ (122 < c)))) (zy := 0) (p := fun zz => zEv ((d - 1) - 1) 102 15 [.retAddr 0, .retAddr 0, .retAddr 0] [.int zz] S pst5) (zbo_neg (b11.elim (fun y1 => (fun h => (fun h => h y1) h.1)) (fun y1 => (fun h => (fun h => h y1) h.2)))) J12)
        refine zv_br ht7 rfl rfl rfl (fun b8 => ?_) (fun b8 => ?_)
        · replace b8 : c < 97 := (zi_ltE (a := c) (b := 97) rfl rfl (by omega) (by omega)).mp b8
          exact zEv.wk (L := [.retAddr 0, .retAddr 0, .retAddr 0]) (L' := [.int (Int32.ofNat c), .int 97, .int 122]) (And.intro (Or.inr rfl) (And.intro (Or.inr rfl) (And.intro (Or.inr rfl) trivial))) (J10 (Or.inl b8))
        · replace b8 : ¬ (c < 97) := fun h => b8 ((zi_ltE (a := c) (b := 97) rfl rfl (by omega) (by omega)).mpr h)
          refine zv_c1 ht7 rfl rfl (zv_c1 ht7 rfl rfl ?_)
          refine zv_br ht7 rfl rfl rfl (fun b9 => ?_) (fun b9 => ?_)
          · replace b9 : 122 < c := (zi_ltE (a := 122) (b := c) rfl rfl (by omega) (by omega)).mp b9
            exact zEv.wk (L := [.retAddr 0, .retAddr 0, .retAddr 0]) (L' := [.int (Int32.ofNat c), .int 97, .int 122]) (And.intro (Or.inr rfl) (And.intro (Or.inr rfl) (And.intro (Or.inr rfl) trivial))) (J10 (Or.inr b9))
          · replace b9 : ¬ (122 < c) := fun h => b9 ((zi_ltE (a := 122) (b := c) rfl rfl (by omega) (by omega)).mpr h)
            refine zv_c1 ht7 rfl rfl (zv_c1 ht7 rfl rfl ?_)
            exact zEv.wk (L := [.retAddr 0, .retAddr 0, .retAddr 0]) (L' := [.int (Int32.ofNat c), .int 97, .int 122]) (And.intro (Or.inr rfl) (And.intro (Or.inr rfl) (And.intro (Or.inr rfl) trivial))) (zv_sub (zz := zbo ((¬ (c < 97)) ∧ (¬ (122 < c)))) (zy := 1) (p := fun zz => zEv ((d - 1) - 1) 102 15 [.retAddr 0, .retAddr 0, .retAddr 0] [.int zz] S pst5) (zbo_pos ⟨b8, b9⟩) J12)
      refine zv_cl ht4 rfl rfl rfl rfl (by omega) (Nat.le_of_ble_eq_true rfl) (C6 _ ?_)
      show zEv (d - 1) 127 8 [.int (Int32.ofNat c)] [.int (zbo ((¬ (c < 97)) ∧ (¬ (122 < c))))] S pst2
      have J30 : zEv (d - 1) 127 33 [.retAddr 0] [.int (zbo (((¬ (c < 97)) ∧ (¬ (122 < c))) ∨ ((¬ (c < 48)) ∧ (¬ (57 < c))) ∨ (c = 95)))] S pst2 := by
        exact zv_rc ht4 rfl rfl rfl rfl zbo_rng k32
      have J28 : (((¬ (c < 97)) ∧ (¬ (122 < c))) ∨ ((¬ (c < 48)) ∧ (¬ (57 < c))) ∨ (c = 95)) → zEv (d - 1) 127 28 [.retAddr 0] [] S pst2 := by
        intro b29
        refine zv_c1 ht4 rfl rfl (zv_c1 ht4 rfl rfl ?_)
        exact (zv_sub (zz := zbo (((¬ (c < 97)) ∧ (¬ (122 < c))) ∨ ((¬ (c < 48)) ∧ (¬ (57 < c))) ∨ (c = 95))) (zy := 1) (p := fun zz => zEv (d - 1) 127 33 [.retAddr 0] [.int zz] S pst2) (zbo_pos b29) J30)
      refine zv_br ht4 rfl rfl rfl (fun b15 => ?_) (fun b15 => ?_)
      · replace b15 : (¬ (c < 97)) ∧ (¬ (122 < c)) := Classical.byContradiction (fun h => b15 ((zbo_eq0 : (zbo ((¬ (c < 97)) ∧ (¬ (122 < c)))) = 0 ↔ ¬ ((¬ (c < 97)) ∧ (¬ (122 < c)))).mpr h))
        exact zEv.wk (L := [.retAddr 0]) (L' := [.int (Int32.ofNat c)]) (And.intro (Or.inr rfl) trivial) (J28 (Or.inl b15))
      · replace b15 : ¬ ((¬ (c < 97)) ∧ (¬ (122 < c))) := (zbo_eq0 : (zbo ((¬ (c < 97)) ∧ (¬ (122 < c)))) = 0 ↔ ¬ ((¬ (c < 97)) ∧ (¬ (122 < c)))).mp (Classical.not_not.mp b15)
        refine zv_c1 ht4 rfl rfl (zv_c1 ht4 rfl rfl (zv_c1 ht4 rfl rfl ?_))
        have C17 : ∀ (pst16 : Outcome × zS → Prop), (pst16 (.returned (some (.int (zbo ((¬ (c < 48)) ∧ (¬ (57 < c)))))), S)) → zCall ((d - 1) - 1) 102 [.int (Int32.ofNat c), .int 48, .int 57] S pst16 := by
          intro pst16 k25
          have ht18 : ztab 102 = ztb102 := rfl
          show zEv ((d - 1) - 1) 102 0 [.int (Int32.ofNat c), .int 48, .int 57] [] S pst16
          refine zv_c1 ht18 rfl rfl (zv_c1 ht18 rfl rfl ?_)
          have J23 : zEv ((d - 1) - 1) 102 15 [.retAddr 0, .retAddr 0, .retAddr 0] [.int (zbo ((¬ (c < 48)) ∧ (¬ (57 < c))))] S pst16 := by
            exact zv_rc ht18 rfl rfl rfl rfl zbo_rng k25
          have J21 : ((c < 48) ∨ (57 < c)) → zEv ((d - 1) - 1) 102 14 [.retAddr 0, .retAddr 0, .retAddr 0] [] S pst16 := by
            intro b22
            refine zv_c1 ht18 rfl rfl ?_
            exact (zv_sub (zz := zbo ((¬ (c < 48)) ∧ (¬ (57 < c)))) (zy := 0) (p := fun zz => zEv ((d - 1) - 1) 102 15 [.retAddr 0, .retAddr 0, .retAddr 0] [.int zz] S pst16) (zbo_neg (b22.elim (fun y1 => (fun h => (fun h => h y1) h.1)) (fun y1 => (fun h => (fun h => h y1) h.2)))) J23)
          refine zv_br ht18 rfl rfl rfl (fun b19 => ?_) (fun b19 => ?_)
          · replace b19 : c < 48 := (zi_ltE (a := c) (b := 48) rfl rfl (by omega) (by omega)).mp b19
            exact zEv.wk (L := [.retAddr 0, .retAddr 0, .retAddr 0]) (L' := [.int (Int32.ofNat c), .int 48, .int 57]) (And.intro (Or.inr rfl) (And.intro (Or.inr rfl) (And.intro (Or.inr rfl) trivial))) (J21 (Or.inl b19))
          · replace b19 : ¬ (c < 48) := fun h => b19 ((zi_ltE (a := c) (b := 48) rfl rfl (by omega) (by omega)).mpr h)
            refine zv_c1 ht18 rfl rfl (zv_c1 ht18 rfl rfl ?_)
            refine zv_br ht18 rfl rfl rfl (fun b20 => ?_) (fun b20 => ?_)
            · replace b20 : 57 < c := (zi_ltE (a := 57) (b := c) rfl rfl (by omega) (by omega)).mp b20
              exact zEv.wk (L := [.retAddr 0, .retAddr 0, .retAddr 0]) (L' := [.int (Int32.ofNat c), .int 48, .int 57]) (And.intro (Or.inr rfl) (And.intro (Or.inr rfl) (And.intro (Or.inr rfl) trivial))) (J21 (Or.inr b20))
            · replace b20 : ¬ (57 < c) := fun h => b20 ((zi_ltE (a := 57) (b := c) rfl rfl (by omega) (by omega)).mpr h)
              refine zv_c1 ht18 rfl rfl (zv_c1 ht18 rfl rfl ?_)
              exact zEv.wk (L := [.retAddr 0, .retAddr 0, .retAddr 0]) (L' := [.int (Int32.ofNat c), .int 48, .int 57]) (And.intro (Or.inr rfl) (And.intro (Or.inr rfl) (And.intro (Or.inr rfl) trivial))) (zv_sub (zz := zbo ((¬ (c < 48)) ∧ (¬ (57 < c)))) (zy := 1) (p := fun zz => zEv ((d - 1) - 1) 102 15 [.retAddr 0, .retAddr 0, .retAddr 0] [.int zz] S pst16) (zbo_pos ⟨b19, b20⟩) J23)
        refine zv_cl ht4 rfl rfl rfl rfl (by omega) (Nat.le_of_ble_eq_true rfl) (C17 _ ?_)
        show zEv (d - 1) 127 19 [.int (Int32.ofNat c)] [.int (zbo ((¬ (c < 48)) ∧ (¬ (57 < c))))] S pst2
        refine zv_br ht4 rfl rfl rfl (fun b26 => ?_) (fun b26 => ?_)
        · replace b26 : (¬ (c < 48)) ∧ (¬ (57 < c)) := Classical.byContradiction (fun h => b26 ((zbo_eq0 : (zbo ((¬ (c < 48)) ∧ (¬ (57 < c)))) = 0 ↔ ¬ ((¬ (c < 48)) ∧ (¬ (57 < c)))).mpr h))
          exact zEv.wk (L := [.retAddr 0]) (L' := [.int (Int32.ofNat c)]) (And.intro (Or.inr rfl) trivial) (J28 (Or.inr (Or.inl b26)))
        · replace b26 : ¬ ((¬ (c < 48)) ∧ (¬ (57 < c))) := (zbo_eq0 : (zbo ((¬ (c < 48)) ∧ (¬ (57 < c)))) = 0 ↔ ¬ ((¬ (c < 48)) ∧ (¬ (57 < c)))).mp (Classical.not_not.mp b26)
          refine zv_c1 ht4 rfl rfl (zv_c1 ht4 rfl rfl ?_)
          refine zv_br ht4 rfl rfl rfl (fun b27 => ?_) (fun b27 => ?_)
          · replace b27 : ¬ (c = 95) := fun h => b27 ((zi_eqE (a := c) (b := 95) rfl rfl (by omega) (by omega)).mpr h)
            refine zv_c1 ht4 rfl rfl ?_
            exact zEv.wk (L := [.retAddr 0]) (L' := [.int (Int32.ofNat c)]) (And.intro (Or.inr rfl) trivial) (zv_sub (zz := zbo (((¬ (c < 97)) ∧ (¬ (122 < c))) ∨ ((¬ (c < 48)) ∧ (¬ (57 < c))) ∨ (c = 95))) (zy := 0) (p := fun zz => zEv (d - 1) 127 33 [.retAddr 0] [.int zz] S pst2) (zbo_neg (fun h => h.elim b15 (fun h => h.elim b26 b27))) J30)
          · replace b27 : c = 95 := (zi_eqE (a := c) (b := 95) rfl rfl (by omega) (by omega)).mp (Classical.not_not.mp b27)
            exact zEv.wk (L := [.retAddr 0]) (L' := [.int (Int32.ofNat c)]) (And.intro (Or.inr rfl) trivial) (J28 (Or.inr (Or.inr b27)))
    refine zv_cl ht rfl rfl rfl rfl (by omega) (Nat.le_of_ble_eq_true rfl) (C3 _ ?_)
    show zEv d 126 22 [.ref 1592, .int (Int32.ofNat e)] [.int (zbo (((¬ (c < 97)) ∧ (¬ (122 < c))) ∨ ((¬ (c < 48)) ∧ (¬ (57 < c))) ∨ (c = 95)))] S post
    refine zv_br ht rfl rfl rfl (fun b33 => ?_) (fun b33 => ?_)
    · replace b33 : ¬ (((¬ (c < 97)) ∧ (¬ (122 < c))) ∨ ((¬ (c < 48)) ∧ (¬ (57 < c))) ∨ (c = 95)) := (zbo_eq0 : (zbo (((¬ (c < 97)) ∧ (¬ (122 < c))) ∨ ((¬ (c < 48)) ∧ (¬ (57 < c))) ∨ (c = 95))) = 0 ↔ ¬ (((¬ (c < 97)) ∧ (¬ (122 < c))) ∨ ((¬ (c < 48)) ∧ (¬ (57 < c))) ∨ (c = 95))).mp b33
      exact zEv.wk (L := [.retAddr 0, .int (Int32.ofNat e)]) (L' := [.ref 1592, .int (Int32.ofNat e)]) (And.intro (Or.inr rfl) (And.intro (Or.inl rfl) trivial)) (J34 (Or.inr b33))
    · replace b33 : ((¬ (c < 97)) ∧ (¬ (122 < c))) ∨ ((¬ (c < 48)) ∧ (¬ (57 < c))) ∨ (c = 95) := Classical.byContradiction (fun h => b33 ((zbo_eq0 : (zbo (((¬ (c < 97)) ∧ (¬ (122 < c))) ∨ ((¬ (c < 48)) ∧ (¬ (57 < c))) ∨ (c = 95))) = 0 ↔ ¬ (((¬ (c < 97)) ∧ (¬ (122 < c))) ∨ ((¬ (c < 48)) ∧ (¬ (57 < c))) ∨ (c = 95))).mpr h))
      refine zv_iinc (L' := [.ref 1592, .int (Int32.ofNat (e + 1))]) (i := 1) (x := Int32.ofNat (e + 1)) ht rfl rfl (zi_addE (a := e) (b := 1) rfl rfl) rfl ?_
      refine zv_c1 ht rfl rfl ?_
      exact (h1 b1 b33)

theorem we2 {d : Nat} {S : zS} (hF : zFin true S) (hd : 2 ≤ d) (e sz : Nat)  (h_size : gI S 90 1592 = Int32.ofNat sz) (hs : sz ≤ 300) (he : e = sz) {post : Outcome × zS → Prop} (h1 : (¬ (sz ≤ e)) → (((¬ ((gA S 1593 e) < 97)) ∧ (¬ ((122 : Int32) < (gA S 1593 e)))) ∨ ((¬ ((gA S 1593 e) < 48)) ∧ (¬ ((57 : Int32) < (gA S 1593 e)))) ∨ ((gA S 1593 e) = 95)) → zEv d 126 5 [.ref 1592, .int (Int32.ofNat (e + 1))] [] S post) (h2 : ((sz ≤ e) ∨ (¬ (((¬ ((gA S 1593 e) < 97)) ∧ (¬ ((122 : Int32) < (gA S 1593 e)))) ∨ ((¬ ((gA S 1593 e) < 48)) ∧ (¬ ((57 : Int32) < (gA S 1593 e)))) ∨ ((gA S 1593 e) = 95)))) → post (.returned (some (.int (Int32.ofNat e))), S)) : zEv d 126 5 [.ref 1592, .int (Int32.ofNat e)] [] S post := by
  have ht : ztab 126 = ztb126 := rfl
  refine zv_c1 ht rfl rfl (zv_c1 ht rfl rfl ?_)
  refine zv_e1 (x := Int32.ofNat sz) ht rfl rfl h_size ?_
  have J34 : ((sz ≤ e) ∨ (¬ (((¬ ((gA S 1593 e) < 97)) ∧ (¬ ((122 : Int32) < (gA S 1593 e)))) ∨ ((¬ ((gA S 1593 e) < 48)) ∧ (¬ ((57 : Int32) < (gA S 1593 e)))) ∨ ((gA S 1593 e) = 95)))) → zEv d 126 31 [.retAddr 0, .int (Int32.ofNat e)] [] S post := by
    intro b35
    refine zv_c1 ht rfl rfl ?_
    exact zv_rt ht rfl rfl rfl rfl (h2 b35)
  refine zv_br ht rfl rfl rfl (fun b1 => ?_) (fun b1 => ?_)
  · replace b1 : sz ≤ e := (zi_leE (a := sz) (b := e) rfl rfl (by omega) (by omega)).mp b1
    exact zEv.wk (L := [.retAddr 0, .int (Int32.ofNat e)]) (L' := [.ref 1592, .int (Int32.ofNat e)]) (And.intro (Or.inr rfl) (And.intro (Or.inl rfl) trivial)) (J34 (Or.inl b1))
  · replace b1 : ¬ (sz ≤ e) := fun h => b1 ((zi_leE (a := sz) (b := e) rfl rfl (by omega) (by omega)).mpr h)
    refine zv_c1 ht rfl rfl ?_
    refine zv_gl (st' := [.ref 1593]) ht rfl hF rfl rfl rfl ?_
    refine zv_c1 ht rfl rfl ?_
    refine zv_iaE (j := e) (x := gA S 1593 e) ht rfl rfl rfl rfl (zi_natE (a := e) rfl (by omega)) ⟨(Or.inl rfl), zi_inE (a := e) (n := 300) rfl (by omega) (by omega)⟩ rfl ?_
    have C3 : ∀ (pst2 : Outcome × zS → Prop), (pst2 (.returned (some (.int (zbo (((¬ ((gA S 1593 e) < 97)) ∧ (¬ ((122 : Int32) < (gA S 1593 e)))) ∨ ((¬ ((gA S 1593 e) < 48)) ∧ (¬ ((57 : Int32) < (gA S 1593 e)))) ∨ ((gA S 1593 e) = 95))))), S)) → zCall (d - 1) 127 [.int (gA S 1593 e)] S pst2 := by
      intro pst2 k32
      have ht4 : ztab 127 = ztb127 := rfl
      show zEv (d - 1) 127 0 [.int (gA S 1593 e)] [] S pst2
      refine zv_c1 ht4 rfl rfl (zv_c1 ht4 rfl rfl (zv_c1 ht4 rfl rfl ?_))
      have C6 : ∀ (pst5 : Outcome × zS → Prop), (pst5 (.returned (some (.int (zbo ((¬ ((gA S 1593 e) < 97)) ∧ (¬ ((122 : Int32) < (gA S 1593 e))))))), S)) → zCall ((d - 1) - 1) 102 [.int (gA S 1593 e), .int 97, .int 122] S pst5 := by
        intro pst5 k14
        have ht7 : ztab 102 = ztb102 := rfl
        show zEv ((d - 1) - 1) 102 0 [.int (gA S 1593 e), .int 97, .int 122] [] S pst5
        refine zv_c1 ht7 rfl rfl (zv_c1 ht7 rfl rfl ?_)
        have J12 : zEv ((d - 1) - 1) 102 15 [.retAddr 0, .retAddr 0, .retAddr 0] [.int (zbo ((¬ ((gA S 1593 e) < 97)) ∧ (¬ ((122 : Int32) < (gA S 1593 e)))))] S pst5 := by
          exact zv_rc ht7 rfl rfl rfl rfl zbo_rng k14
        have J10 : (((gA S 1593 e) < 97) ∨ ((122 : Int32) < (gA S 1593 e))) → zEv ((d - 1) - 1) 102 14 [.retAddr 0, .retAddr 0, .retAddr 0] [] S pst5 := by
          intro b11
          refine zv_c1 ht7 rfl rfl ?_
          exact (zv_sub (zz := zbo ((¬ ((gA S 1593 e) < 97)) ∧ (¬ ((122 : Int32) < (gA S 1593 e))))) (zy := 0) (p := fun zz => zEv ((d - 1) - 1) 102 15 [.retAddr 0, .retAddr 0, .retAddr 0] [.int zz] S pst5) (zbo_neg (b11.elim (fun y1 => (fun h => (fun h => h y1) h.1)) (fun y1 => (fun h => (fun h => h y1) h.2)))) J12)
        refine zv_br ht7 rfl rfl rfl (fun b8 => ?_) (fun b8 => ?_)
        · exact zEv.wk (L := [.retAddr 0, .retAddr 0, .retAddr 0]) (L' := [.int (gA S 1593 e), .int 97, .int 122]) (And.intro (Or.inr rfl) (And.intro (Or.inr rfl) (And.intro (Or.inr rfl) trivial))) (J10 (Or.inl b8))
        · refine zv_c1 ht7 rfl rfl (zv_c1 ht7 rfl rfl ?_)
          refine zv_br ht7 rfl rfl rfl (fun b9 => ?_) (fun b9 => ?_)
          · exact zEv.wk (L := [.retAddr 0, .retAddr 0, .retAddr 0]) (L' := [.int (gA S 1593 e), .int 97, .int 122]) (And.intro (Or.inr rfl) (And.intro (Or.inr rfl) (And.intro (Or.inr rfl) trivial))) (J10 (Or.inr b9))
          · refine zv_c1 ht7 rfl rfl (zv_c1 ht7 rfl rfl ?_)
            exact zEv.wk (L := [.retAddr 0, .retAddr 0, .retAddr 0]) (L' := [.int (gA S 1593 e), .int 97, .int 122]) (And.intro (Or.inr rfl) (And.intro (Or.inr rfl) (And.intro (Or.inr rfl) trivial))) (zv_sub (zz := zbo ((¬ ((gA S 1593 e) < 97)) ∧ (¬ ((122 : Int32) < (gA S 1593 e))))) (zy := 1) (p := fun zz => zEv ((d - 1) - 1) 102 15 [.retAddr 0, .retAddr 0, .retAddr 0] [.int zz] S pst5) (zbo_pos ⟨b8, b9⟩) J12)
      refine zv_cl ht4 rfl rfl rfl rfl (by omega) (Nat.le_of_ble_eq_true rfl) (C6 _ ?_)
      show zEv (d - 1) 127 8 [.int (gA S 1593 e)] [.int (zbo ((¬ ((gA S 1593 e) < 97)) ∧ (¬ ((122 : Int32) < (gA S 1593 e)))))] S pst2
      have J30 : zEv (d - 1) 127 33 [.retAddr 0] [.int (zbo (((¬ ((gA S 1593 e) < 97)) ∧ (¬ ((122 : Int32) < (gA S 1593 e)))) ∨ ((¬ ((gA S 1593 e) < 48)) ∧ (¬ ((57 : Int32) < (gA S 1593 e)))) ∨ ((gA S 1593 e) = 95)))] S pst2 := by
        exact zv_rc ht4 rfl rfl rfl rfl zbo_rng k32
      have J28 : (((¬ ((gA S 1593 e) < 97)) ∧ (¬ ((122 : Int32) < (gA S 1593 e)))) ∨ ((¬ ((gA S 1593 e) < 48)) ∧ (¬ ((57 : Int32) < (gA S 1593 e)))) ∨ ((gA S 1593 e) = 95)) → zEv (d - 1) 127 28 [.retAddr 0] [] S pst2 := by
        intro b29
        refine zv_c1 ht4 rfl rfl (zv_c1 ht4 rfl rfl ?_)
        exact (zv_sub (zz := zbo (((¬ ((gA S 1593 e) < 97)) ∧ (¬ ((122 : Int32) < (gA S 1593 e)))) ∨ ((¬ ((gA S 1593 e) < 48)) ∧ (¬ ((57 : Int32) < (gA S 1593 e)))) ∨ ((gA S 1593 e) = 95))) (zy := 1) (p := fun zz => zEv (d - 1) 127 33 [.retAddr 0] [.int zz] S pst2) (zbo_pos b29) J30)
      refine zv_br ht4 rfl rfl rfl (fun b15 => ?_) (fun b15 => ?_)
      · replace b15 : (¬ ((gA S 1593 e) < 97)) ∧ (¬ ((122 : Int32) < (gA S 1593 e))) := Classical.byContradiction (fun h => b15 ((zbo_eq0 : (zbo ((¬ ((gA S 1593 e) < 97)) ∧ (¬ ((122 : Int32) < (gA S 1593 e))))) = 0 ↔ ¬ ((¬ ((gA S 1593 e) < 97)) ∧ (¬ ((122 : Int32) < (gA S 1593 e))))).mpr h))
        exact zEv.wk (L := [.retAddr 0]) (L' := [.int (gA S 1593 e)]) (And.intro (Or.inr rfl) trivial) (J28 (Or.inl b15))
      · replace b15 : ¬ ((¬ ((gA S 1593 e) < 97)) ∧ (¬ ((122 : Int32) < (gA S 1593 e)))) := (zbo_eq0 : (zbo ((¬ ((gA S 1593 e) < 97)) ∧ (¬ ((122 : Int32) < (gA S 1593 e))))) = 0 ↔ ¬ ((¬ ((gA S 1593 e) < 97)) ∧ (¬ ((122 : Int32) < (gA S 1593 e))))).mp (Classical.not_not.mp b15)
        refine zv_c1 ht4 rfl rfl (zv_c1 ht4 rfl rfl (zv_c1 ht4 rfl rfl ?_))
        have C17 : ∀ (pst16 : Outcome × zS → Prop), (pst16 (.returned (some (.int (zbo ((¬ ((gA S 1593 e) < 48)) ∧ (¬ ((57 : Int32) < (gA S 1593 e))))))), S)) → zCall ((d - 1) - 1) 102 [.int (gA S 1593 e), .int 48, .int 57] S pst16 := by
          intro pst16 k25
          have ht18 : ztab 102 = ztb102 := rfl
          show zEv ((d - 1) - 1) 102 0 [.int (gA S 1593 e), .int 48, .int 57] [] S pst16
          refine zv_c1 ht18 rfl rfl (zv_c1 ht18 rfl rfl ?_)
          have J23 : zEv ((d - 1) - 1) 102 15 [.retAddr 0, .retAddr 0, .retAddr 0] [.int (zbo ((¬ ((gA S 1593 e) < 48)) ∧ (¬ ((57 : Int32) < (gA S 1593 e)))))] S pst16 := by
            exact zv_rc ht18 rfl rfl rfl rfl zbo_rng k25
          have J21 : (((gA S 1593 e) < 48) ∨ ((57 : Int32) < (gA S 1593 e))) → zEv ((d - 1) - 1) 102 14 [.retAddr 0, .retAddr 0, .retAddr 0] [] S pst16 := by
            intro b22
            refine zv_c1 ht18 rfl rfl ?_
            exact (zv_sub (zz := zbo ((¬ ((gA S 1593 e) < 48)) ∧ (¬ ((57 : Int32) < (gA S 1593 e))))) (zy := 0) (p := fun zz => zEv ((d - 1) - 1) 102 15 [.retAddr 0, .retAddr 0, .retAddr 0] [.int zz] S pst16) (zbo_neg (b22.elim (fun y1 => (fun h => (fun h => h y1) h.1)) (fun y1 => (fun h => (fun h => h y1) h.2)))) J23)
          refine zv_br ht18 rfl rfl rfl (fun b19 => ?_) (fun b19 => ?_)
          · exact zEv.wk (L := [.retAddr 0, .retAddr 0, .retAddr 0]) (L' := [.int (gA S 1593 e), .int 48, .int 57]) (And.intro (Or.inr rfl) (And.intro (Or.inr rfl) (And.intro (Or.inr rfl) trivial))) (J21 (Or.inl b19))
          · refine zv_c1 ht18 rfl rfl (zv_c1 ht18 rfl rfl ?_)
            refine zv_br ht18 rfl rfl rfl (fun b20 => ?_) (fun b20 => ?_)
            · exact zEv.wk (L := [.retAddr 0, .retAddr 0, .retAddr 0]) (L' := [.int (gA S 1593 e), .int 48, .int 57]) (And.intro (Or.inr rfl) (And.intro (Or.inr rfl) (And.intro (Or.inr rfl) trivial))) (J21 (Or.inr b20))
            · refine zv_c1 ht18 rfl rfl (zv_c1 ht18 rfl rfl ?_)
              exact zEv.wk (L := [.retAddr 0, .retAddr 0, .retAddr 0]) (L' := [.int (gA S 1593 e), .int 48, .int 57]) (And.intro (Or.inr rfl) (And.intro (Or.inr rfl) (And.intro (Or.inr rfl) trivial))) (zv_sub (zz := zbo ((¬ ((gA S 1593 e) < 48)) ∧ (¬ ((57 : Int32) < (gA S 1593 e))))) (zy := 1) (p := fun zz => zEv ((d - 1) - 1) 102 15 [.retAddr 0, .retAddr 0, .retAddr 0] [.int zz] S pst16) (zbo_pos ⟨b19, b20⟩) J23)
        refine zv_cl ht4 rfl rfl rfl rfl (by omega) (Nat.le_of_ble_eq_true rfl) (C17 _ ?_)
        show zEv (d - 1) 127 19 [.int (gA S 1593 e)] [.int (zbo ((¬ ((gA S 1593 e) < 48)) ∧ (¬ ((57 : Int32) < (gA S 1593 e)))))] S pst2
        refine zv_br ht4 rfl rfl rfl (fun b26 => ?_) (fun b26 => ?_)
        · replace b26 : (¬ ((gA S 1593 e) < 48)) ∧ (¬ ((57 : Int32) < (gA S 1593 e))) := Classical.byContradiction (fun h => b26 ((zbo_eq0 : (zbo ((¬ ((gA S 1593 e) < 48)) ∧ (¬ ((57 : Int32) < (gA S 1593 e))))) = 0 ↔ ¬ ((¬ ((gA S 1593 e) < 48)) ∧ (¬ ((57 : Int32) < (gA S 1593 e))))).mpr h))
          exact zEv.wk (L := [.retAddr 0]) (L' := [.int (gA S 1593 e)]) (And.intro (Or.inr rfl) trivial) (J28 (Or.inr (Or.inl b26)))
        · replace b26 : ¬ ((¬ ((gA S 1593 e) < 48)) ∧ (¬ ((57 : Int32) < (gA S 1593 e)))) := (zbo_eq0 : (zbo ((¬ ((gA S 1593 e) < 48)) ∧ (¬ ((57 : Int32) < (gA S 1593 e))))) = 0 ↔ ¬ ((¬ ((gA S 1593 e) < 48)) ∧ (¬ ((57 : Int32) < (gA S 1593 e))))).mp (Classical.not_not.mp b26)
          refine zv_c1 ht4 rfl rfl (zv_c1 ht4 rfl rfl ?_)
          refine zv_br ht4 rfl rfl rfl (fun b27 => ?_) (fun b27 => ?_)
          · refine zv_c1 ht4 rfl rfl ?_
            exact zEv.wk (L := [.retAddr 0]) (L' := [.int (gA S 1593 e)]) (And.intro (Or.inr rfl) trivial) (zv_sub (zz := zbo (((¬ ((gA S 1593 e) < 97)) ∧ (¬ ((122 : Int32) < (gA S 1593 e)))) ∨ ((¬ ((gA S 1593 e) < 48)) ∧ (¬ ((57 : Int32) < (gA S 1593 e)))) ∨ ((gA S 1593 e) = 95))) (zy := 0) (p := fun zz => zEv (d - 1) 127 33 [.retAddr 0] [.int zz] S pst2) (zbo_neg (fun h => h.elim b15 (fun h => h.elim b26 b27))) J30)
          · replace b27 : (gA S 1593 e) = 95 := Classical.not_not.mp b27
            exact zEv.wk (L := [.retAddr 0]) (L' := [.int (gA S 1593 e)]) (And.intro (Or.inr rfl) trivial) (J28 (Or.inr (Or.inr b27)))
    refine zv_cl ht rfl rfl rfl rfl (by omega) (Nat.le_of_ble_eq_true rfl) (C3 _ ?_)
    show zEv d 126 22 [.ref 1592, .int (Int32.ofNat e)] [.int (zbo (((¬ ((gA S 1593 e) < 97)) ∧ (¬ ((122 : Int32) < (gA S 1593 e)))) ∨ ((¬ ((gA S 1593 e) < 48)) ∧ (¬ ((57 : Int32) < (gA S 1593 e)))) ∨ ((gA S 1593 e) = 95)))] S post
    refine zv_br ht rfl rfl rfl (fun b33 => ?_) (fun b33 => ?_)
    · replace b33 : ¬ (((¬ ((gA S 1593 e) < 97)) ∧ (¬ ((122 : Int32) < (gA S 1593 e)))) ∨ ((¬ ((gA S 1593 e) < 48)) ∧ (¬ ((57 : Int32) < (gA S 1593 e)))) ∨ ((gA S 1593 e) = 95)) := (zbo_eq0 : (zbo (((¬ ((gA S 1593 e) < 97)) ∧ (¬ ((122 : Int32) < (gA S 1593 e)))) ∨ ((¬ ((gA S 1593 e) < 48)) ∧ (¬ ((57 : Int32) < (gA S 1593 e)))) ∨ ((gA S 1593 e) = 95))) = 0 ↔ ¬ (((¬ ((gA S 1593 e) < 97)) ∧ (¬ ((122 : Int32) < (gA S 1593 e)))) ∨ ((¬ ((gA S 1593 e) < 48)) ∧ (¬ ((57 : Int32) < (gA S 1593 e)))) ∨ ((gA S 1593 e) = 95))).mp b33
      exact zEv.wk (L := [.retAddr 0, .int (Int32.ofNat e)]) (L' := [.ref 1592, .int (Int32.ofNat e)]) (And.intro (Or.inr rfl) (And.intro (Or.inl rfl) trivial)) (J34 (Or.inr b33))
    · replace b33 : ((¬ ((gA S 1593 e) < 97)) ∧ (¬ ((122 : Int32) < (gA S 1593 e)))) ∨ ((¬ ((gA S 1593 e) < 48)) ∧ (¬ ((57 : Int32) < (gA S 1593 e)))) ∨ ((gA S 1593 e) = 95) := Classical.byContradiction (fun h => b33 ((zbo_eq0 : (zbo (((¬ ((gA S 1593 e) < 97)) ∧ (¬ ((122 : Int32) < (gA S 1593 e)))) ∨ ((¬ ((gA S 1593 e) < 48)) ∧ (¬ ((57 : Int32) < (gA S 1593 e)))) ∨ ((gA S 1593 e) = 95))) = 0 ↔ ¬ (((¬ ((gA S 1593 e) < 97)) ∧ (¬ ((122 : Int32) < (gA S 1593 e)))) ∨ ((¬ ((gA S 1593 e) < 48)) ∧ (¬ ((57 : Int32) < (gA S 1593 e)))) ∨ ((gA S 1593 e) = 95))).mpr h))
      refine zv_iinc (L' := [.ref 1592, .int (Int32.ofNat (e + 1))]) (i := 1) (x := Int32.ofNat (e + 1)) ht rfl rfl (zi_addE (a := e) (b := 1) rfl rfl) rfl ?_
      refine zv_c1 ht rfl rfl ?_
      exact (h1 b1 b33)

theorem iw0 {d : Nat} {S : zS} (hF : zFin true S) (hd : 2 ≤ d) {s v : Nat} {cs : List Nat} (a e : Nat)  (ha : a ≤ 300) (hl1 : cs.length < 100000) (h22 : ztyp S s = 22) (hv : gP S 199 s = some v) (hc0 : gI S 200 s = 0) (hvt : ztyp S v = 101 ∨ ztyp S v = 121) (hln : zlen S v = cs.length) (hs : zStr S s cs) (he : e ≤ 300) (hae : a ≤ e) {post : Outcome × zS → Prop} (h1 : zEv d 131 20 [.ref 1592, .ref s, .int (Int32.ofNat a), .retAddr 0, .int (zbo (e - a = cs.length)), .int (Int32.ofNat 0)] [] S post) : zCall d 131 [.ref 1592, .ref s, .int (Int32.ofNat a), .int (Int32.ofNat e)] S post := by
  have ht : ztab 131 = ztb131 := rfl
  show zEv d 131 0 [.ref 1592, .ref s, .int (Int32.ofNat a), .int (Int32.ofNat e), .retAddr 0, .retAddr 0] [] S post
  refine zv_c1 ht rfl rfl (zv_c1 ht rfl rfl ?_)
  refine zv_e1 (x := Int32.ofNat (e - a)) ht rfl rfl (zi_subE (a := e) (b := a) rfl rfl (by omega)) ?_
  refine zv_c1 ht rfl rfl ?_
  have C2 : ∀ (pst1 : Outcome × zS → Prop), (pst1 (.returned (some (.int (Int32.ofNat cs.length))), S)) → zCall (d - 1) 392 [.ref s] S pst1 := by
    intro pst1 k8
    have ht3 : ztab 392 = ztb392 := rfl
    show zEv (d - 1) 392 0 [.ref s] [] S pst1
    refine zv_c1 ht3 rfl rfl ?_
    refine zv_g3 (q := v) ht3 rfl hF rfl rfl (zhas_of (h22) rfl) hv ?_
    refine zv_ei (x := Int32.ofNat cs.length) ht3 rfl rfl (zv_l2 (hvt)) (congrArg Int32.ofNat (hln)) ?_
    refine zv_c1 ht3 rfl rfl ?_
    have C5 : ∀ (pst4 : Outcome × zS → Prop), (pst4 (.returned (some (.int 0)), S)) → zCall ((d - 1) - 1) 393 [.ref s] S pst4 := by
      intro pst4 k7
      have ht6 : ztab 393 = ztb393 := rfl
      show zEv ((d - 1) - 1) 393 0 [.ref s] [] S pst4
      refine zv_c1 ht6 rfl rfl ?_
      refine zv_br ht6 rfl rfl rfl (fun h => absurd h (by decide)) (fun _ => ?_)
      refine zv_c1 ht6 rfl rfl ?_
      refine zv_ei (x := 0) ht6 rfl rfl (zhas_of (h22) rfl) hc0 ?_
      refine zv_c1 ht6 rfl rfl ?_
      exact zv_rc ht6 rfl rfl rfl rfl (by decide) k7
    refine zv_cl ht3 rfl rfl rfl (zv_tgv (h22) rfl) (by omega) (Nat.le_of_ble_eq_true rfl) (C5 _ ?_)
    show zEv (d - 1) 392 9 [.ref s] [.int 0, .int (Int32.ofNat cs.length)] S pst1
    refine zv_e1 (x := Int32.ofNat cs.length) ht3 rfl rfl (zi_shr0 rfl) ?_
    exact zv_rt ht3 rfl rfl rfl rfl k8
  refine zv_cl ht rfl rfl rfl (zv_tgv (h22) rfl) (by omega) (Nat.le_of_ble_eq_true rfl) (C2 _ ?_)
  show zEv d 131 7 [.ref 1592, .ref s, .int (Int32.ofNat a), .int (Int32.ofNat e), .retAddr 0, .retAddr 0] [.int (Int32.ofNat cs.length), .int (Int32.ofNat (e - a))] S post
  have J10 : zEv d 131 15 [.ref 1592, .ref s, .int (Int32.ofNat a), .retAddr 0, .retAddr 0, .retAddr 0] [.int (zbo (e - a = cs.length))] S post := by
    refine zv_c2 (L' := [.ref 1592, .ref s, .int (Int32.ofNat a), .retAddr 0, .int (zbo (e - a = cs.length)), .retAddr 0]) ht rfl rfl ?_
    refine zv_c1 ht rfl rfl ?_
    refine zv_c2 (L' := [.ref 1592, .ref s, .int (Int32.ofNat a), .retAddr 0, .int (zbo (e - a = cs.length)), .int 0]) ht rfl rfl ?_
    exact h1
  refine zv_br ht rfl rfl rfl (fun b9 => ?_) (fun b9 => ?_)
  · replace b9 : ¬ (e - a = cs.length) := fun h => b9 ((zi_eqE (a := (e - a)) (b := cs.length) rfl rfl (by omega) (by omega)).mpr h)
    refine zv_c1 ht rfl rfl ?_
    exact zEv.wk (L := [.ref 1592, .ref s, .int (Int32.ofNat a), .retAddr 0, .retAddr 0, .retAddr 0]) (L' := [.ref 1592, .ref s, .int (Int32.ofNat a), .int (Int32.ofNat e), .retAddr 0, .retAddr 0]) (And.intro (Or.inl rfl) (And.intro (Or.inl rfl) (And.intro (Or.inl rfl) (And.intro (Or.inr rfl) (And.intro (Or.inl rfl) (And.intro (Or.inl rfl) trivial)))))) (zv_sub (zz := zbo (e - a = cs.length)) (zy := 0) (p := fun zz => zEv d 131 15 [.ref 1592, .ref s, .int (Int32.ofNat a), .retAddr 0, .retAddr 0, .retAddr 0] [.int zz] S post) (zbo_neg b9) J10)
  · replace b9 : e - a = cs.length := (zi_eqE (a := (e - a)) (b := cs.length) rfl rfl (by omega) (by omega)).mp (Classical.not_not.mp b9)
    refine zv_c1 ht rfl rfl (zv_c1 ht rfl rfl ?_)
    exact zEv.wk (L := [.ref 1592, .ref s, .int (Int32.ofNat a), .retAddr 0, .retAddr 0, .retAddr 0]) (L' := [.ref 1592, .ref s, .int (Int32.ofNat a), .int (Int32.ofNat e), .retAddr 0, .retAddr 0]) (And.intro (Or.inl rfl) (And.intro (Or.inl rfl) (And.intro (Or.inl rfl) (And.intro (Or.inr rfl) (And.intro (Or.inl rfl) (And.intro (Or.inl rfl) trivial)))))) (zv_sub (zz := zbo (e - a = cs.length)) (zy := 1) (p := fun zz => zEv d 131 15 [.ref 1592, .ref s, .int (Int32.ofNat a), .retAddr 0, .retAddr 0, .retAddr 0] [.int zz] S post) (zbo_pos b9) J10)

theorem iw1 {d : Nat} {S : zS} (hF : zFin true S) (hd : 4 ≤ d) {s v : Nat} {cs : List Nat} (a k c : Nat)  (ha : a ≤ 300) (hl1 : cs.length < 100000) (h22 : ztyp S s = 22) (hv : gP S 199 s = some v) (hc0 : gI S 200 s = 0) (hvt : ztyp S v = 101 ∨ ztyp S v = 121) (hln : zlen S v = cs.length) (hs : zStr S s cs) (hk : k < cs.length) (hka : a + k < 300) (hc1 : c < 256) (hcd : cs.getD k 0 < 128) (hc : gA S 1593 (a + k) = Int32.ofNat c) {post : Outcome × zS → Prop} (h1 : (¬ (cs.length ≤ k)) → zEv d 131 20 [.ref 1592, .ref s, .int (Int32.ofNat a), .retAddr 0, .int (zbo (c = cs.getD k 0)), .int (Int32.ofNat (k + 1))] [] S post) (h2 : (cs.length ≤ k) → post (.returned (some (.int 1)), S)) : zEv d 131 20 [.ref 1592, .ref s, .int (Int32.ofNat a), .retAddr 0, .int 1, .int (Int32.ofNat k)] [] S post := by
  have ht : ztab 131 = ztb131 := rfl
  refine zv_c1 ht rfl rfl (zv_c1 ht rfl rfl ?_)
  have C2 : ∀ (pst1 : Outcome × zS → Prop), (pst1 (.returned (some (.int (Int32.ofNat cs.length))), S)) → zCall (d - 1) 392 [.ref s] S pst1 := by
    intro pst1 k8
    have ht3 : ztab 392 = ztb392 := rfl
    show zEv (d - 1) 392 0 [.ref s] [] S pst1
    refine zv_c1 ht3 rfl rfl ?_
    refine zv_g3 (q := v) ht3 rfl hF rfl rfl (zhas_of (h22) rfl) hv ?_
    refine zv_ei (x := Int32.ofNat cs.length) ht3 rfl rfl (zv_l2 (hvt)) (congrArg Int32.ofNat (hln)) ?_
    refine zv_c1 ht3 rfl rfl ?_
    have C5 : ∀ (pst4 : Outcome × zS → Prop), (pst4 (.returned (some (.int 0)), S)) → zCall ((d - 1) - 1) 393 [.ref s] S pst4 := by
      intro pst4 k7
      have ht6 : ztab 393 = ztb393 := rfl
      show zEv ((d - 1) - 1) 393 0 [.ref s] [] S pst4
      refine zv_c1 ht6 rfl rfl ?_
      refine zv_br ht6 rfl rfl rfl (fun h => absurd h (by decide)) (fun _ => ?_)
      refine zv_c1 ht6 rfl rfl ?_
      refine zv_ei (x := 0) ht6 rfl rfl (zhas_of (h22) rfl) hc0 ?_
      refine zv_c1 ht6 rfl rfl ?_
      exact zv_rc ht6 rfl rfl rfl rfl (by decide) k7
    refine zv_cl ht3 rfl rfl rfl (zv_tgv (h22) rfl) (by omega) (Nat.le_of_ble_eq_true rfl) (C5 _ ?_)
    show zEv (d - 1) 392 9 [.ref s] [.int 0, .int (Int32.ofNat cs.length)] S pst1
    refine zv_e1 (x := Int32.ofNat cs.length) ht3 rfl rfl (zi_shr0 rfl) ?_
    exact zv_rt ht3 rfl rfl rfl rfl k8
  refine zv_cl ht rfl rfl rfl (zv_tgv (h22) rfl) (by omega) (Nat.le_of_ble_eq_true rfl) (C2 _ ?_)
  show zEv d 131 26 [.ref 1592, .ref s, .int (Int32.ofNat a), .retAddr 0, .int 1, .int (Int32.ofNat k)] [.int (Int32.ofNat cs.length), .int (Int32.ofNat k)] S post
  refine zv_br ht rfl rfl rfl (fun b9 => ?_) (fun b9 => ?_)
  · replace b9 : cs.length ≤ k := (zi_leE (a := cs.length) (b := k) rfl rfl (by omega) (by omega)).mp b9
    refine zv_c1 ht rfl rfl ?_
    exact zv_rc ht rfl rfl rfl rfl (by decide) (h2 b9)
  · replace b9 : ¬ (cs.length ≤ k) := fun h => b9 ((zi_leE (a := cs.length) (b := k) rfl rfl (by omega) (by omega)).mpr h)
    refine zv_c1 ht rfl rfl ?_
    refine zv_br ht rfl rfl rfl (fun h => absurd h (by decide)) (fun _ => ?_)
    refine zv_c1 ht rfl rfl ?_
    refine zv_gl (st' := [.ref 1593]) ht rfl hF rfl rfl rfl ?_
    refine zv_c1 ht rfl rfl (zv_c1 ht rfl rfl ?_)
    refine zv_e1 (x := Int32.ofNat (a + k)) ht rfl rfl (zi_addE (a := a) (b := k) rfl rfl) ?_
    refine zv_iaE (j := a + k) (x := Int32.ofNat c) ht rfl rfl rfl rfl (zi_natE (a := a + k) rfl (by omega)) ⟨(Or.inl rfl), zi_inE (a := a + k) (n := 300) rfl (by omega) (by omega)⟩ hc ?_
    refine zv_c1 ht rfl rfl (zv_c1 ht rfl rfl ?_)
    refine zv_cl ht rfl rfl rfl (zv_tgv (h22) rfl) (by omega) (Nat.le_of_ble_eq_true rfl) (j_charAt (S := S) hF (by omega) hs (by omega) ?_)
    show zEv d 131 49 [.ref 1592, .ref s, .int (Int32.ofNat a), .retAddr 0, .int 1, .int (Int32.ofNat k)] [.int (Int32.ofNat (cs.getD k 0)), .int (Int32.ofNat c)] S post
    have J11 : zEv d 131 57 [.ref 1592, .ref s, .int (Int32.ofNat a), .retAddr 0, .retAddr 0, .int (Int32.ofNat k)] [.int (zbo (c = cs.getD k 0))] S post := by
      refine zv_c2 (L' := [.ref 1592, .ref s, .int (Int32.ofNat a), .retAddr 0, .int (zbo (c = cs.getD k 0)), .int (Int32.ofNat k)]) ht rfl rfl ?_
      refine zv_iinc (L' := [.ref 1592, .ref s, .int (Int32.ofNat a), .retAddr 0, .int (zbo (c = cs.getD k 0)), .int (Int32.ofNat (k + 1))]) (i := 5) (x := Int32.ofNat (k + 1)) ht rfl rfl (zi_addE (a := k) (b := 1) rfl rfl) rfl ?_
      refine zv_c1 ht rfl rfl ?_
      exact (h1 b9)
    refine zv_br ht rfl rfl rfl (fun b10 => ?_) (fun b10 => ?_)
    · replace b10 : ¬ (c = cs.getD k 0) := fun h => b10 ((zi_eqE (a := c) (b := (cs.getD k 0)) rfl rfl (by omega) (by omega)).mpr h)
      refine zv_c1 ht rfl rfl ?_
      exact zEv.wk (L := [.ref 1592, .ref s, .int (Int32.ofNat a), .retAddr 0, .retAddr 0, .int (Int32.ofNat k)]) (L' := [.ref 1592, .ref s, .int (Int32.ofNat a), .retAddr 0, .int 1, .int (Int32.ofNat k)]) (And.intro (Or.inl rfl) (And.intro (Or.inl rfl) (And.intro (Or.inl rfl) (And.intro (Or.inl rfl) (And.intro (Or.inr rfl) (And.intro (Or.inl rfl) trivial)))))) (zv_sub (zz := zbo (c = cs.getD k 0)) (zy := 0) (p := fun zz => zEv d 131 57 [.ref 1592, .ref s, .int (Int32.ofNat a), .retAddr 0, .retAddr 0, .int (Int32.ofNat k)] [.int zz] S post) (zbo_neg b10) J11)
    · replace b10 : c = cs.getD k 0 := (zi_eqE (a := c) (b := (cs.getD k 0)) rfl rfl (by omega) (by omega)).mp (Classical.not_not.mp b10)
      refine zv_c1 ht rfl rfl (zv_c1 ht rfl rfl ?_)
      exact zEv.wk (L := [.ref 1592, .ref s, .int (Int32.ofNat a), .retAddr 0, .retAddr 0, .int (Int32.ofNat k)]) (L' := [.ref 1592, .ref s, .int (Int32.ofNat a), .retAddr 0, .int 1, .int (Int32.ofNat k)]) (And.intro (Or.inl rfl) (And.intro (Or.inl rfl) (And.intro (Or.inl rfl) (And.intro (Or.inl rfl) (And.intro (Or.inr rfl) (And.intro (Or.inl rfl) trivial)))))) (zv_sub (zz := zbo (c = cs.getD k 0)) (zy := 1) (p := fun zz => zEv d 131 57 [.ref 1592, .ref s, .int (Int32.ofNat a), .retAddr 0, .retAddr 0, .int (Int32.ofNat k)] [.int zz] S post) (zbo_pos b10) J11)

theorem iw2 {d : Nat} {S : zS} (hF : zFin true S) (hd : 2 ≤ d) {s v : Nat} {cs : List Nat} (a k : Nat)  (ha : a ≤ 300) (hl1 : cs.length < 100000) (h22 : ztyp S s = 22) (hv : gP S 199 s = some v) (hc0 : gI S 200 s = 0) (hvt : ztyp S v = 101 ∨ ztyp S v = 121) (hln : zlen S v = cs.length) (hs : zStr S s cs) (hk : k ≤ cs.length) {post : Outcome × zS → Prop} (h1 : post (.returned (some (.int 0)), S)) : zEv d 131 20 [.ref 1592, .ref s, .int (Int32.ofNat a), .retAddr 0, .int 0, .int (Int32.ofNat k)] [] S post := by
  have ht : ztab 131 = ztb131 := rfl
  refine zv_c1 ht rfl rfl (zv_c1 ht rfl rfl ?_)
  have C2 : ∀ (pst1 : Outcome × zS → Prop), (pst1 (.returned (some (.int (Int32.ofNat cs.length))), S)) → zCall (d - 1) 392 [.ref s] S pst1 := by
    intro pst1 k8
    have ht3 : ztab 392 = ztb392 := rfl
    show zEv (d - 1) 392 0 [.ref s] [] S pst1
    refine zv_c1 ht3 rfl rfl ?_
    refine zv_g3 (q := v) ht3 rfl hF rfl rfl (zhas_of (h22) rfl) hv ?_
    refine zv_ei (x := Int32.ofNat cs.length) ht3 rfl rfl (zv_l2 (hvt)) (congrArg Int32.ofNat (hln)) ?_
    refine zv_c1 ht3 rfl rfl ?_
    have C5 : ∀ (pst4 : Outcome × zS → Prop), (pst4 (.returned (some (.int 0)), S)) → zCall ((d - 1) - 1) 393 [.ref s] S pst4 := by
      intro pst4 k7
      have ht6 : ztab 393 = ztb393 := rfl
      show zEv ((d - 1) - 1) 393 0 [.ref s] [] S pst4
      refine zv_c1 ht6 rfl rfl ?_
      refine zv_br ht6 rfl rfl rfl (fun h => absurd h (by decide)) (fun _ => ?_)
      refine zv_c1 ht6 rfl rfl ?_
      refine zv_ei (x := 0) ht6 rfl rfl (zhas_of (h22) rfl) hc0 ?_
      refine zv_c1 ht6 rfl rfl ?_
      exact zv_rc ht6 rfl rfl rfl rfl (by decide) k7
    refine zv_cl ht3 rfl rfl rfl (zv_tgv (h22) rfl) (by omega) (Nat.le_of_ble_eq_true rfl) (C5 _ ?_)
    show zEv (d - 1) 392 9 [.ref s] [.int 0, .int (Int32.ofNat cs.length)] S pst1
    refine zv_e1 (x := Int32.ofNat cs.length) ht3 rfl rfl (zi_shr0 rfl) ?_
    exact zv_rt ht3 rfl rfl rfl rfl k8
  refine zv_cl ht rfl rfl rfl (zv_tgv (h22) rfl) (by omega) (Nat.le_of_ble_eq_true rfl) (C2 _ ?_)
  show zEv d 131 26 [.ref 1592, .ref s, .int (Int32.ofNat a), .retAddr 0, .int 0, .int (Int32.ofNat k)] [.int (Int32.ofNat cs.length), .int (Int32.ofNat k)] S post
  have J10 : zEv d 131 65 [.retAddr 0, .retAddr 0, .retAddr 0, .retAddr 0, .int 0, .retAddr 0] [] S post := by
    refine zv_c1 ht rfl rfl ?_
    exact zv_rc ht rfl rfl rfl rfl (by decide) h1
  refine zv_br ht rfl rfl rfl (fun b9 => ?_) (fun b9 => ?_)
  · replace b9 : cs.length ≤ k := (zi_leE (a := cs.length) (b := k) rfl rfl (by omega) (by omega)).mp b9
    exact zEv.wk (L := [.retAddr 0, .retAddr 0, .retAddr 0, .retAddr 0, .int 0, .retAddr 0]) (L' := [.ref 1592, .ref s, .int (Int32.ofNat a), .retAddr 0, .int 0, .int (Int32.ofNat k)]) (And.intro (Or.inr rfl) (And.intro (Or.inr rfl) (And.intro (Or.inr rfl) (And.intro (Or.inl rfl) (And.intro (Or.inl rfl) (And.intro (Or.inr rfl) trivial)))))) J10
  · replace b9 : ¬ (cs.length ≤ k) := fun h => b9 ((zi_leE (a := cs.length) (b := k) rfl rfl (by omega) (by omega)).mpr h)
    refine zv_c1 ht rfl rfl ?_
    refine zv_br ht rfl rfl rfl (fun _ => ?_) (fun h => absurd (by decide) h)
    exact zEv.wk (L := [.retAddr 0, .retAddr 0, .retAddr 0, .retAddr 0, .int 0, .retAddr 0]) (L' := [.ref 1592, .ref s, .int (Int32.ofNat a), .retAddr 0, .int 0, .int (Int32.ofNat k)]) (And.intro (Or.inr rfl) (And.intro (Or.inr rfl) (And.intro (Or.inr rfl) (And.intro (Or.inl rfl) (And.intro (Or.inl rfl) (And.intro (Or.inr rfl) trivial)))))) J10

theorem iw3 {d : Nat} {S : zS} (hF : zFin true S) (hd : 4 ≤ d) {s v : Nat} {cs : List Nat} (a k : Nat)  (ha : a ≤ 300) (hl1 : cs.length < 100000) (h22 : ztyp S s = 22) (hv : gP S 199 s = some v) (hc0 : gI S 200 s = 0) (hvt : ztyp S v = 101 ∨ ztyp S v = 121) (hln : zlen S v = cs.length) (hs : zStr S s cs) (hk : k = cs.length) {post : Outcome × zS → Prop} (h1 : (¬ (cs.length ≤ k)) → zEv d 131 20 [.ref 1592, .ref s, .int (Int32.ofNat a), .retAddr 0, .int (zbo ((gA S 1593 (a + k)) = (Int32.ofNat (cs.getD k 0)))), .int (Int32.ofNat (k + 1))] [] S post) (h2 : (cs.length ≤ k) → post (.returned (some (.int 1)), S)) : zEv d 131 20 [.ref 1592, .ref s, .int (Int32.ofNat a), .retAddr 0, .int 1, .int (Int32.ofNat k)] [] S post := by
  have ht : ztab 131 = ztb131 := rfl
  refine zv_c1 ht rfl rfl (zv_c1 ht rfl rfl ?_)
  have C2 : ∀ (pst1 : Outcome × zS → Prop), (pst1 (.returned (some (.int (Int32.ofNat cs.length))), S)) → zCall (d - 1) 392 [.ref s] S pst1 := by
    intro pst1 k8
    have ht3 : ztab 392 = ztb392 := rfl
    show zEv (d - 1) 392 0 [.ref s] [] S pst1
    refine zv_c1 ht3 rfl rfl ?_
    refine zv_g3 (q := v) ht3 rfl hF rfl rfl (zhas_of (h22) rfl) hv ?_
    refine zv_ei (x := Int32.ofNat cs.length) ht3 rfl rfl (zv_l2 (hvt)) (congrArg Int32.ofNat (hln)) ?_
    refine zv_c1 ht3 rfl rfl ?_
    have C5 : ∀ (pst4 : Outcome × zS → Prop), (pst4 (.returned (some (.int 0)), S)) → zCall ((d - 1) - 1) 393 [.ref s] S pst4 := by
      intro pst4 k7
      have ht6 : ztab 393 = ztb393 := rfl
      show zEv ((d - 1) - 1) 393 0 [.ref s] [] S pst4
      refine zv_c1 ht6 rfl rfl ?_
      refine zv_br ht6 rfl rfl rfl (fun h => absurd h (by decide)) (fun _ => ?_)
      refine zv_c1 ht6 rfl rfl ?_
      refine zv_ei (x := 0) ht6 rfl rfl (zhas_of (h22) rfl) hc0 ?_
      refine zv_c1 ht6 rfl rfl ?_
      exact zv_rc ht6 rfl rfl rfl rfl (by decide) k7
    refine zv_cl ht3 rfl rfl rfl (zv_tgv (h22) rfl) (by omega) (Nat.le_of_ble_eq_true rfl) (C5 _ ?_)
    show zEv (d - 1) 392 9 [.ref s] [.int 0, .int (Int32.ofNat cs.length)] S pst1
    refine zv_e1 (x := Int32.ofNat cs.length) ht3 rfl rfl (zi_shr0 rfl) ?_
    exact zv_rt ht3 rfl rfl rfl rfl k8
  refine zv_cl ht rfl rfl rfl (zv_tgv (h22) rfl) (by omega) (Nat.le_of_ble_eq_true rfl) (C2 _ ?_)
  show zEv d 131 26 [.ref 1592, .ref s, .int (Int32.ofNat a), .retAddr 0, .int 1, .int (Int32.ofNat k)] [.int (Int32.ofNat cs.length), .int (Int32.ofNat k)] S post
  refine zv_br ht rfl rfl rfl (fun b9 => ?_) (fun b9 => ?_)
  · replace b9 : cs.length ≤ k := (zi_leE (a := cs.length) (b := k) rfl rfl (by omega) (by omega)).mp b9
    refine zv_c1 ht rfl rfl ?_
    exact zv_rc ht rfl rfl rfl rfl (by decide) (h2 b9)
  · replace b9 : ¬ (cs.length ≤ k) := fun h => b9 ((zi_leE (a := cs.length) (b := k) rfl rfl (by omega) (by omega)).mpr h)
    refine zv_c1 ht rfl rfl ?_
    refine zv_br ht rfl rfl rfl (fun h => absurd h (by decide)) (fun _ => ?_)
    refine zv_c1 ht rfl rfl ?_
    refine zv_gl (st' := [.ref 1593]) ht rfl hF rfl rfl rfl ?_
    refine zv_c1 ht rfl rfl (zv_c1 ht rfl rfl ?_)
    refine zv_e1 (x := Int32.ofNat (a + k)) ht rfl rfl (zi_addE (a := a) (b := k) rfl rfl) ?_
    refine zv_iaE (j := a + k) (x := gA S 1593 (a + k)) ht rfl rfl rfl rfl (zi_natE (a := a + k) rfl (by omega)) ⟨(Or.inl rfl), zi_inE (a := a + k) (n := 300) rfl (by omega) (by omega)⟩ rfl ?_
    refine zv_c1 ht rfl rfl (zv_c1 ht rfl rfl ?_)
    refine zv_cl ht rfl rfl rfl (zv_tgv (h22) rfl) (by omega) (Nat.le_of_ble_eq_true rfl) (j_charAt (S := S) hF (by omega) hs (by omega) ?_)
    show zEv d 131 49 [.ref 1592, .ref s, .int (Int32.ofNat a), .retAddr 0, .int 1, .int (Int32.ofNat k)] [.int (Int32.ofNat (cs.getD k 0)), .int (gA S 1593 (a + k))] S post
    have J11 : zEv d 131 57 [.ref 1592, .ref s, .int (Int32.ofNat a), .retAddr 0, .retAddr 0, .int (Int32.ofNat k)] [.int (zbo ((gA S 1593 (a + k)) = (Int32.ofNat (cs.getD k 0))))] S post := by
      refine zv_c2 (L' := [.ref 1592, .ref s, .int (Int32.ofNat a), .retAddr 0, .int (zbo ((gA S 1593 (a + k)) = (Int32.ofNat (cs.getD k 0)))), .int (Int32.ofNat k)]) ht rfl rfl ?_
      refine zv_iinc (L' := [.ref 1592, .ref s, .int (Int32.ofNat a), .retAddr 0, .int (zbo ((gA S 1593 (a + k)) = (Int32.ofNat (cs.getD k 0)))), .int (Int32.ofNat (k + 1))]) (i := 5) (x := Int32.ofNat (k + 1)) ht rfl rfl (zi_addE (a := k) (b := 1) rfl rfl) rfl ?_
      refine zv_c1 ht rfl rfl ?_
      exact (h1 b9)
    refine zv_br ht rfl rfl rfl (fun b10 => ?_) (fun b10 => ?_)
    · refine zv_c1 ht rfl rfl ?_
      exact zEv.wk (L := [.ref 1592, .ref s, .int (Int32.ofNat a), .retAddr 0, .retAddr 0, .int (Int32.ofNat k)]) (L' := [.ref 1592, .ref s, .int (Int32.ofNat a), .retAddr 0, .int 1, .int (Int32.ofNat k)]) (And.intro (Or.inl rfl) (And.intro (Or.inl rfl) (And.intro (Or.inl rfl) (And.intro (Or.inl rfl) (And.intro (Or.inr rfl) (And.intro (Or.inl rfl) trivial)))))) (zv_sub (zz := zbo ((gA S 1593 (a + k)) = (Int32.ofNat (cs.getD k 0)))) (zy := 0) (p := fun zz => zEv d 131 57 [.ref 1592, .ref s, .int (Int32.ofNat a), .retAddr 0, .retAddr 0, .int (Int32.ofNat k)] [.int zz] S post) (zbo_neg b10) J11)
    · replace b10 : (gA S 1593 (a + k)) = (Int32.ofNat (cs.getD k 0)) := Classical.not_not.mp b10
      refine zv_c1 ht rfl rfl (zv_c1 ht rfl rfl ?_)
      exact zEv.wk (L := [.ref 1592, .ref s, .int (Int32.ofNat a), .retAddr 0, .retAddr 0, .int (Int32.ofNat k)]) (L' := [.ref 1592, .ref s, .int (Int32.ofNat a), .retAddr 0, .int 1, .int (Int32.ofNat k)]) (And.intro (Or.inl rfl) (And.intro (Or.inl rfl) (And.intro (Or.inl rfl) (And.intro (Or.inl rfl) (And.intro (Or.inr rfl) (And.intro (Or.inl rfl) trivial)))))) (zv_sub (zz := zbo ((gA S 1593 (a + k)) = (Int32.ofNat (cs.getD k 0)))) (zy := 1) (p := fun zz => zEv d 131 57 [.ref 1592, .ref s, .int (Int32.ofNat a), .retAddr 0, .retAddr 0, .int (Int32.ofNat k)] [.int zz] S post) (zbo_pos b10) J11)

theorem wo_ {d : Nat} {S : zS} (hF : zFin true S) (c : Nat) (hc : c < 256) {post : Outcome × zS → Prop} (h1 : post (.returned (some (.int (zit (c = 97) 19 (zit (c = 99) 21 (zit (c = 100) 22 (zit (c = 106) 24 (zit (c = 108) 104 (zit (c = 110) 25 (zit (c = 115) 20 (zit (c = 116) 103 (zit (c = 117) 105 (zit (c = 118) 23 (-1))))))))))))), S)) : zCall d 158 [.int (Int32.ofNat c)] S post := by
  have ht : ztab 158 = ztb158 := rfl
  show zEv d 158 0 [.int (Int32.ofNat c)] [] S post
  refine zv_c1 ht rfl rfl ?_
  refine zv_sw ht rfl rfl rfl rfl rfl ?_
  refine And.intro (fun b1 => ?_) (fun b1 => ?_)
  · replace b1 : c = 97 := (zi_eqE (a := c) (b := 97) rfl rfl (by omega) (by omega)).mp b1
    refine zv_c1 ht rfl rfl ?_
    exact zv_rt ht rfl rfl rfl rfl (zv_sub (zz := zit (c = 97) 19 (zit (c = 99) 21 (zit (c = 100) 22 (zit (c = 106) 24 (zit (c = 108) 104 (zit (c = 110) 25 (zit (c = 115) 20 (zit (c = 116) 103 (zit (c = 117) 105 (zit (c = 118) 23 (-1))))))))))) (zy := 19) (p := fun zz => post (.returned (some (.int zz)), S)) (zit_pos b1) h1)
  replace b1 : ¬ (c = 97) := fun h => b1 ((zi_eqE (a := c) (b := 97) rfl rfl (by omega) (by omega)).mpr h)
  refine And.intro (fun b2 => ?_) (fun b2 => ?_)
  · replace b2 : c = 99 := (zi_eqE (a := c) (b := 99) rfl rfl (by omega) (by omega)).mp b2
    refine zv_c1 ht rfl rfl ?_
    exact zv_rt ht rfl rfl rfl rfl (zv_sub (zz := zit (c = 97) 19 (zit (c = 99) 21 (zit (c = 100) 22 (zit (c = 106) 24 (zit (c = 108) 104 (zit (c = 110) 25 (zit (c = 115) 20 (zit (c = 116) 103 (zit (c = 117) 105 (zit (c = 118) 23 (-1))))))))))) (zy := 21) (p := fun zz => post (.returned (some (.int zz)), S)) (Eq.trans (zit_neg b1) (zit_pos b2)) h1)
  replace b2 : ¬ (c = 99) := fun h => b2 ((zi_eqE (a := c) (b := 99) rfl rfl (by omega) (by omega)).mpr h)
  refine And.intro (fun b3 => ?_) (fun b3 => ?_)
  · replace b3 : c = 100 := (zi_eqE (a := c) (b := 100) rfl rfl (by omega) (by omega)).mp b3
    refine zv_c1 ht rfl rfl ?_
    exact zv_rt ht rfl rfl rfl rfl (zv_sub (zz := zit (c = 97) 19 (zit (c = 99) 21 (zit (c = 100) 22 (zit (c = 106) 24 (zit (c = 108) 104 (zit (c = 110) 25 (zit (c = 115) 20 (zit (c = 116) 103 (zit (c = 117) 105 (zit (c = 118) 23 (-1))))))))))) (zy := 22) (p := fun zz => post (.returned (some (.int zz)), S)) (Eq.trans (zit_neg b1) (Eq.trans (zit_neg b2) (zit_pos b3))) h1)
  replace b3 : ¬ (c = 100) := fun h => b3 ((zi_eqE (a := c) (b := 100) rfl rfl (by omega) (by omega)).mpr h)
  refine And.intro (fun b4 => ?_) (fun b4 => ?_)
  · replace b4 : c = 106 := (zi_eqE (a := c) (b := 106) rfl rfl (by omega) (by omega)).mp b4
    refine zv_c1 ht rfl rfl ?_
    exact zv_rt ht rfl rfl rfl rfl (zv_sub (zz := zit (c = 97) 19 (zit (c = 99) 21 (zit (c = 100) 22 (zit (c = 106) 24 (zit (c = 108) 104 (zit (c = 110) 25 (zit (c = 115) 20 (zit (c = 116) 103 (zit (c = 117) 105 (zit (c = 118) 23 (-1))))))))))) (zy := 24) (p := fun zz => post (.returned (some (.int zz)), S)) (Eq.trans (zit_neg b1) (Eq.trans (zit_neg b2) (Eq.trans (zit_neg b3) (zit_pos b4)))) h1)
  replace b4 : ¬ (c = 106) := fun h => b4 ((zi_eqE (a := c) (b := 106) rfl rfl (by omega) (by omega)).mpr h)
  refine And.intro (fun b5 => ?_) (fun b5 => ?_)
  · replace b5 : c = 108 := (zi_eqE (a := c) (b := 108) rfl rfl (by omega) (by omega)).mp b5
    refine zv_c1 ht rfl rfl ?_
    exact zv_rt ht rfl rfl rfl rfl (zv_sub (zz := zit (c = 97) 19 (zit (c = 99) 21 (zit (c = 100) 22 (zit (c = 106) 24 (zit (c = 108) 104 (zit (c = 110) 25 (zit (c = 115) 20 (zit (c = 116) 103 (zit (c = 117) 105 (zit (c = 118) 23 (-1))))))))))) (zy := 104) (p := fun zz => post (.returned (some (.int zz)), S)) (Eq.trans (zit_neg b1) (Eq.trans (zit_neg b2) (Eq.trans (zit_neg b3) (Eq.trans (zit_neg b4) (zit_pos b5))))) h1)
  replace b5 : ¬ (c = 108) := fun h => b5 ((zi_eqE (a := c) (b := 108) rfl rfl (by omega) (by omega)).mpr h)
  refine And.intro (fun b6 => ?_) (fun b6 => ?_)
  · replace b6 : c = 110 := (zi_eqE (a := c) (b := 110) rfl rfl (by omega) (by omega)).mp b6
    refine zv_c1 ht rfl rfl ?_
    exact zv_rt ht rfl rfl rfl rfl (zv_sub (zz := zit (c = 97) 19 (zit (c = 99) 21 (zit (c = 100) 22 (zit (c = 106) 24 (zit (c = 108) 104 (zit (c = 110) 25 (zit (c = 115) 20 (zit (c = 116) 103 (zit (c = 117) 105 (zit (c = 118) 23 (-1))))))))))) (zy := 25) (p := fun zz => post (.returned (some (.int zz)), S)) (Eq.trans (zit_neg b1) (Eq.trans (zit_neg b2) (Eq.trans (zit_neg b3) (Eq.trans (zit_neg b4) (Eq.trans (zit_neg b5) (zit_pos b6)))))) h1)
  replace b6 : ¬ (c = 110) := fun h => b6 ((zi_eqE (a := c) (b := 110) rfl rfl (by omega) (by omega)).mpr h)
  refine And.intro (fun b7 => ?_) (fun b7 => ?_)
  · replace b7 : c = 115 := (zi_eqE (a := c) (b := 115) rfl rfl (by omega) (by omega)).mp b7
    refine zv_c1 ht rfl rfl ?_
    exact zv_rt ht rfl rfl rfl rfl (zv_sub (zz := zit (c = 97) 19 (zit (c = 99) 21 (zit (c = 100) 22 (zit (c = 106) 24 (zit (c = 108) 104 (zit (c = 110) 25 (zit (c = 115) 20 (zit (c = 116) 103 (zit (c = 117) 105 (zit (c = 118) 23 (-1))))))))))) (zy := 20) (p := fun zz => post (.returned (some (.int zz)), S)) (Eq.trans (zit_neg b1) (Eq.trans (zit_neg b2) (Eq.trans (zit_neg b3) (Eq.trans (zit_neg b4) (Eq.trans (zit_neg b5) (Eq.trans (zit_neg b6) (zit_pos b7))))))) h1)
  replace b7 : ¬ (c = 115) := fun h => b7 ((zi_eqE (a := c) (b := 115) rfl rfl (by omega) (by omega)).mpr h)
  refine And.intro (fun b8 => ?_) (fun b8 => ?_)
  · replace b8 : c = 116 := (zi_eqE (a := c) (b := 116) rfl rfl (by omega) (by omega)).mp b8
    refine zv_c1 ht rfl rfl ?_
    exact zv_rt ht rfl rfl rfl rfl (zv_sub (zz := zit (c = 97) 19 (zit (c = 99) 21 (zit (c = 100) 22 (zit (c = 106) 24 (zit (c = 108) 104 (zit (c = 110) 25 (zit (c = 115) 20 (zit (c = 116) 103 (zit (c = 117) 105 (zit (c = 118) 23 (-1))))))))))) (zy := 103) (p := fun zz => post (.returned (some (.int zz)), S)) (Eq.trans (zit_neg b1) (Eq.trans (zit_neg b2) (Eq.trans (zit_neg b3) (Eq.trans (zit_neg b4) (Eq.trans (zit_neg b5) (Eq.trans (zit_neg b6) (Eq.trans (zit_neg b7) (zit_pos b8)))))))) h1)
  replace b8 : ¬ (c = 116) := fun h => b8 ((zi_eqE (a := c) (b := 116) rfl rfl (by omega) (by omega)).mpr h)
  refine And.intro (fun b9 => ?_) (fun b9 => ?_)
  · replace b9 : c = 117 := (zi_eqE (a := c) (b := 117) rfl rfl (by omega) (by omega)).mp b9
    refine zv_c1 ht rfl rfl ?_
    exact zv_rt ht rfl rfl rfl rfl (zv_sub (zz := zit (c = 97) 19 (zit (c = 99) 21 (zit (c = 100) 22 (zit (c = 106) 24 (zit (c = 108) 104 (zit (c = 110) 25 (zit (c = 115) 20 (zit (c = 116) 103 (zit (c = 117) 105 (zit (c = 118) 23 (-1))))))))))) (zy := 105) (p := fun zz => post (.returned (some (.int zz)), S)) (Eq.trans (zit_neg b1) (Eq.trans (zit_neg b2) (Eq.trans (zit_neg b3) (Eq.trans (zit_neg b4) (Eq.trans (zit_neg b5) (Eq.trans (zit_neg b6) (Eq.trans (zit_neg b7) (Eq.trans (zit_neg b8) (zit_pos b9))))))))) h1)
  replace b9 : ¬ (c = 117) := fun h => b9 ((zi_eqE (a := c) (b := 117) rfl rfl (by omega) (by omega)).mpr h)
  refine And.intro (fun b10 => ?_) (fun b10 => ?_)
  · replace b10 : c = 118 := (zi_eqE (a := c) (b := 118) rfl rfl (by omega) (by omega)).mp b10
    refine zv_c1 ht rfl rfl ?_
    exact zv_rt ht rfl rfl rfl rfl (zv_sub (zz := zit (c = 97) 19 (zit (c = 99) 21 (zit (c = 100) 22 (zit (c = 106) 24 (zit (c = 108) 104 (zit (c = 110) 25 (zit (c = 115) 20 (zit (c = 116) 103 (zit (c = 117) 105 (zit (c = 118) 23 (-1))))))))))) (zy := 23) (p := fun zz => post (.returned (some (.int zz)), S)) (Eq.trans (zit_neg b1) (Eq.trans (zit_neg b2) (Eq.trans (zit_neg b3) (Eq.trans (zit_neg b4) (Eq.trans (zit_neg b5) (Eq.trans (zit_neg b6) (Eq.trans (zit_neg b7) (Eq.trans (zit_neg b8) (Eq.trans (zit_neg b9) (zit_pos b10)))))))))) h1)
  replace b10 : ¬ (c = 118) := fun h => b10 ((zi_eqE (a := c) (b := 118) rfl rfl (by omega) (by omega)).mpr h)
  refine zv_c1 ht rfl rfl ?_
  exact zv_rt ht rfl rfl rfl rfl (zv_sub (zz := zit (c = 97) 19 (zit (c = 99) 21 (zit (c = 100) 22 (zit (c = 106) 24 (zit (c = 108) 104 (zit (c = 110) 25 (zit (c = 115) 20 (zit (c = 116) 103 (zit (c = 117) 105 (zit (c = 118) 23 (-1))))))))))) (zy := (-1)) (p := fun zz => post (.returned (some (.int zz)), S)) (Eq.trans (zit_neg b1) (Eq.trans (zit_neg b2) (Eq.trans (zit_neg b3) (Eq.trans (zit_neg b4) (Eq.trans (zit_neg b5) (Eq.trans (zit_neg b6) (Eq.trans (zit_neg b7) (Eq.trans (zit_neg b8) (Eq.trans (zit_neg b9) (zit_neg b10)))))))))) h1)

section Q3
variable {d : Nat} {post : Outcome × zS → Prop} {tp : Nat → Nat} {sz : Nat}
def oI (o : Option Nat) : Int32 := match o with
  | none => -1
  | some k => Int32.ofNat k
theorem m_wordEnd {S : zS} (hF : zFin true S) (hd : 2 ≤ d) {at0 : Nat} (hV : mV tp sz S at0) (h : at0 ≤ pWE tp sz at0 → pWE tp sz at0 ≤ sz → post (.returned (some (.int (Int32.ofNat (pWE tp sz at0)))), S)) : zCall d 126 [.ref 1592] S post := by
  obtain ⟨g1, g2, g7, g8, g9, g10⟩ := hV
  refine we0 hF at0 g1 ?_
  have key : ∀ n e, e + n = sz → (e ≤ pWEn tp sz n e → pWEn tp sz n e ≤ sz → post (.returned (some (.int (Int32.ofNat (pWEn tp sz n e)))), S)) → zEv d 126 5 [.ref 1592, .int (Int32.ofNat e)] [] S post := by
    intro n
    induction n with
    | zero =>
      intro e he h
      exact we2 hF (by omega) e sz g2 g9 (by omega) (fun c => absurd (by omega) c) (fun _ => h (Nat.le_refl _) (by show e ≤ sz; omega))
    | succ n ih =>
      intro e he h
      by_cases hw : e < sz ∧ pWb (tp e)
      · have e1 : pWEn tp sz (n + 1) e = pWEn tp sz n (e + 1) := by
          show @ite _ (e < sz ∧ pWb (tp e)) (Classical.propDecidable _) _ _ = _
          rw [if_pos hw]
        rw [e1] at h
        have hw2 := hw.2; unfold pWb at hw2
        exact we1 hF (by omega) e sz (tp e) g2 g9 (by omega) (g8 _) (g7 _ (by omega)) (fun _ _ => ih (e + 1) (by omega) (fun a b => h (by omega) b)) (fun c => absurd c (by omega))
      · have e1 : pWEn tp sz (n + 1) e = e := by
          show @ite _ (e < sz ∧ pWb (tp e)) (Classical.propDecidable _) _ _ = _
          rw [if_neg hw]
        rw [e1] at h
        have hw2 : ¬ pWb (tp e) := fun x => hw ⟨by omega, x⟩
        unfold pWb at hw2
        exact we1 hF (by omega) e sz (tp e) g2 g9 (by omega) (g8 _) (g7 _ (by omega)) (fun _ c => absurd c (by omega)) (fun _ => h (Nat.le_refl _) (by omega))
  exact key (sz - at0) at0 (by omega) h
theorem pWl_len {a e : Nat} : (pWl tp a e).length = e - a := by unfold pWl; simp
theorem pWl_get {a e k : Nat} (h : k < e - a) : (pWl tp a e).getD k 0 = tp (a + k) := by
  unfold pWl
  rw [List.getD_eq_getElem?_getD, List.getElem?_map, List.getElem?_range h]; rfl
theorem m_isWord {S : zS} (hF : zFin true S) (hd : 4 ≤ d) {at0 a e s : Nat} {cs : List Nat} (hV : mV tp sz S at0) (ha : a ≤ e) (he : e ≤ sz) (hs : zStr S s cs) (h : post (.returned (some (.int (zbo (pWl tp a e = cs)))), S)) : zCall d 131 [.ref 1592, .ref s, .int (Int32.ofNat a), .int (Int32.ofNat e)] S post := by
  obtain ⟨g1, g2, g7, g8, g9, g10⟩ := hV
  have hs' := hs
  obtain ⟨v, h22, hv, hc0, hvt, hln, hb, h128, hl1⟩ := hs
  refine iw0 hF (by omega) a e (by omega) hl1 h22 hv hc0 hvt hln hs' (by omega) ha ?_
  by_cases hl : e - a = cs.length
  · rw [zbo_pos hl]
    have key : ∀ n k, k + n = cs.length → (∀ i, i < k → tp (a + i) = cs.getD i 0) → zEv d 131 20 [.ref 1592, .ref s, .int (Int32.ofNat a), .retAddr 0, .int 1, .int (Int32.ofNat k)] [] S post := by
      intro n
      induction n with
      | zero =>
        intro k hk hp
        refine iw3 hF (by omega) a k (by omega) hl1 h22 hv hc0 hvt hln hs' (by omega) (fun c => absurd (by omega) c) (fun _ => ?_)
        rw [zbo_pos (getD_ext (by rw [pWl_len]; exact hl) (fun i hi => by rw [pWl_len] at hi; rw [pWl_get hi]; exact hp i (by omega)))] at h
        exact h
      | succ n ih =>
        intro k hk hp
        refine iw1 hF (by omega) a k (tp (a + k)) (by omega) hl1 h22 hv hc0 hvt hln hs' (by omega) (by omega) (g8 _) (h128 _ (getD_mem (by omega))) (g7 _ (by omega)) (fun _ => ?_) (fun c => absurd c (by omega))
        by_cases hq : tp (a + k) = cs.getD k 0
        · rw [zbo_pos hq]
          refine ih (k + 1) (by omega) (fun i hi => ?_)
          by_cases e1 : i = k
          · subst e1; exact hq
          · exact hp i (by omega)
        · rw [zbo_neg hq]
          refine iw2 hF (by omega) a (k + 1) (by omega) hl1 h22 hv hc0 hvt hln hs' (by omega) ?_
          rw [zbo_neg (fun x => hq (by rw [← x]; exact (pWl_get (by omega)).symm))] at h
          exact h
    exact key cs.length 0 (by omega) (fun i hi => by omega)
  · rw [zbo_neg hl]
    refine iw2 hF (by omega) a 0 (by omega) hl1 h22 hv hc0 hvt hln hs' (by omega) ?_
    rw [zbo_neg (fun x => hl (by rw [← x, pWl_len]))] at h
    exact h
theorem m_wrapOf {S : zS} (hF : zFin true S) {c : Nat} (hc : c < 256) (h : post (.returned (some (.int (oI (pWr c)))), S)) : zCall d 158 [.int (Int32.ofNat c)] S post := by
  refine wo_ hF c hc ?_
  by_cases h97 : c = 97
  · subst h97; rw [zit_pos rfl]; exact h
  rw [zit_neg h97]
  by_cases h99 : c = 99
  · subst h99; rw [zit_pos rfl]; exact h
  rw [zit_neg h99]
  by_cases h100 : c = 100
  · subst h100; rw [zit_pos rfl]; exact h
  rw [zit_neg h100]
  by_cases h106 : c = 106
  · subst h106; rw [zit_pos rfl]; exact h
  rw [zit_neg h106]
  by_cases h108 : c = 108
  · subst h108; rw [zit_pos rfl]; exact h
  rw [zit_neg h108]
  by_cases h110 : c = 110
  · subst h110; rw [zit_pos rfl]; exact h
  rw [zit_neg h110]
  by_cases h115 : c = 115
  · subst h115; rw [zit_pos rfl]; exact h
  rw [zit_neg h115]
  by_cases h116 : c = 116
  · subst h116; rw [zit_pos rfl]; exact h
  rw [zit_neg h116]
  by_cases h117 : c = 117
  · subst h117; rw [zit_pos rfl]; exact h
  rw [zit_neg h117]
  by_cases h118 : c = 118
  · subst h118; rw [zit_pos rfl]; exact h
  rw [zit_neg h118]
  have e : ∀ v, ¬ c = v → (c == v) = false := fun v h => beq_false_of_ne h
  have e1 : pWr c = none := by unfold pWr; simp only [List.lookup, e _ h97, e _ h99, e _ h100, e _ h106, e _ h108, e _ h110, e _ h115, e _ h116, e _ h117, e _ h118]
  rw [e1] at h; exact h
end Q3
theorem ko_ {d : Nat} {S : zS} (hF : zFin true S) (hd : 5 ≤ d) {tp : Nat → Nat} {sz at0 : Nat} (a e : Nat)  (hL : zLits S) (hV : mV tp sz S at0) (hs : sz ≤ 300) (hae : a ≤ e) (he : e ≤ sz) {post : Outcome × zS → Prop} (h1 : post (.returned (some (.int (zit (pWl tp a e = ztn 15) 0 (zit (pWl tp a e = ztn 16) 1 (zit (pWl tp a e = ztn 18) 2 (zit (pWl tp a e = ztn 19) 3 (zit (pWl tp a e = ztn 6) 4 (zit (pWl tp a e = ztn 7) 5 (zit (pWl tp a e = ztn 11) 6 (zit (pWl tp a e = ztn 12) 7 (zit (pWl tp a e = ztn 13) 8 (zit (pWl tp a e = ztn 14) 9 (zit (pWl tp a e = ztn 21) 10 (zit (pWl tp a e = ztn 23) 11 (zit (pWl tp a e = ztn 24) 12 (zit (pWl tp a e = ztn 25) 13 (zit (pWl tp a e = ztn 26) 14 (zit (pWl tp a e = ztn 27) 15 (zit (pWl tp a e = ztn 28) 16 (zit (pWl tp a e = ztn 10) 17 (zit (pWl tp a e = ztn 20) 18 (zit (pWl tp a e = ztn 5) 100 (zit (pWl tp a e = ztn 17) 101 (zit (pWl tp a e = ztn 22) 102 (-1))))))))))))))))))))))))), S)) : zCall d 130 [.ref 1592, .int (Int32.ofNat a), .int (Int32.ofNat e)] S post := by
  have ht : ztab 130 = ztb130 := rfl
  show zEv d 130 0 [.ref 1592, .int (Int32.ofNat a), .int (Int32.ofNat e)] [] S post
  refine zv_c1 ht rfl rfl (zv_c1 ht rfl rfl (zv_c1 ht rfl rfl (zv_c1 ht rfl rfl ?_)))
  refine zv_cl ht rfl rfl rfl rfl (by omega) (Nat.le_of_ble_eq_true rfl) (m_isWord (S := S) (tp := tp) (sz := sz) (at0 := at0) (cs := ztn 15) hF (by omega) hV (by omega) (by omega) (hL 15 (by omega)).1 ?_)
  show zEv d 130 9 [.ref 1592, .int (Int32.ofNat a), .int (Int32.ofNat e)] [.int (zbo (pWl tp a e = ztn 15))] S post
  refine zv_br ht rfl rfl rfl (fun b1 => ?_) (fun b1 => ?_)
  · replace b1 : ¬ (pWl tp a e = ztn 15) := (zbo_eq0 : (zbo (pWl tp a e = ztn 15)) = 0 ↔ ¬ (pWl tp a e = ztn 15)).mp b1
    refine zv_c1 ht rfl rfl (zv_c1 ht rfl rfl (zv_c1 ht rfl rfl (zv_c1 ht rfl rfl ?_)))
    refine zv_cl ht rfl rfl rfl rfl (by omega) (Nat.le_of_ble_eq_true rfl) (m_isWord (S := S) (tp := tp) (sz := sz) (at0 := at0) (cs := ztn 16) hF (by omega) hV (by omega) (by omega) (hL 16 (by omega)).1 ?_)
    show zEv d 130 23 [.ref 1592, .int (Int32.ofNat a), .int (Int32.ofNat e)] [.int (zbo (pWl tp a e = ztn 16))] S post
    refine zv_br ht rfl rfl rfl (fun b2 => ?_) (fun b2 => ?_)
    · replace b2 : ¬ (pWl tp a e = ztn 16) := (zbo_eq0 : (zbo (pWl tp a e = ztn 16)) = 0 ↔ ¬ (pWl tp a e = ztn 16)).mp b2
      refine zv_c1 ht rfl rfl (zv_c1 ht rfl rfl (zv_c1 ht rfl rfl (zv_c1 ht rfl rfl ?_)))
      refine zv_cl ht rfl rfl rfl rfl (by omega) (Nat.le_of_ble_eq_true rfl) (m_isWord (S := S) (tp := tp) (sz := sz) (at0 := at0) (cs := ztn 18) hF (by omega) hV (by omega) (by omega) (hL 18 (by omega)).1 ?_)
      show zEv d 130 37 [.ref 1592, .int (Int32.ofNat a), .int (Int32.ofNat e)] [.int (zbo (pWl tp a e = ztn 18))] S post
      refine zv_br ht rfl rfl rfl (fun b3 => ?_) (fun b3 => ?_)
      · replace b3 : ¬ (pWl tp a e = ztn 18) := (zbo_eq0 : (zbo (pWl tp a e = ztn 18)) = 0 ↔ ¬ (pWl tp a e = ztn 18)).mp b3
        refine zv_c1 ht rfl rfl (zv_c1 ht rfl rfl (zv_c1 ht rfl rfl (zv_c1 ht rfl rfl ?_)))
        refine zv_cl ht rfl rfl rfl rfl (by omega) (Nat.le_of_ble_eq_true rfl) (m_isWord (S := S) (tp := tp) (sz := sz) (at0 := at0) (cs := ztn 19) hF (by omega) hV (by omega) (by omega) (hL 19 (by omega)).1 ?_)
        show zEv d 130 51 [.ref 1592, .int (Int32.ofNat a), .int (Int32.ofNat e)] [.int (zbo (pWl tp a e = ztn 19))] S post
        refine zv_br ht rfl rfl rfl (fun b4 => ?_) (fun b4 => ?_)
        · replace b4 : ¬ (pWl tp a e = ztn 19) := (zbo_eq0 : (zbo (pWl tp a e = ztn 19)) = 0 ↔ ¬ (pWl tp a e = ztn 19)).mp b4
          refine zv_c1 ht rfl rfl (zv_c1 ht rfl rfl (zv_c1 ht rfl rfl (zv_c1 ht rfl rfl ?_)))
          refine zv_cl ht rfl rfl rfl rfl (by omega) (Nat.le_of_ble_eq_true rfl) (m_isWord (S := S) (tp := tp) (sz := sz) (at0 := at0) (cs := ztn 6) hF (by omega) hV (by omega) (by omega) (hL 6 (by omega)).1 ?_)
          show zEv d 130 65 [.ref 1592, .int (Int32.ofNat a), .int (Int32.ofNat e)] [.int (zbo (pWl tp a e = ztn 6))] S post
          refine zv_br ht rfl rfl rfl (fun b5 => ?_) (fun b5 => ?_)
          · replace b5 : ¬ (pWl tp a e = ztn 6) := (zbo_eq0 : (zbo (pWl tp a e = ztn 6)) = 0 ↔ ¬ (pWl tp a e = ztn 6)).mp b5
            refine zv_c1 ht rfl rfl (zv_c1 ht rfl rfl (zv_c1 ht rfl rfl (zv_c1 ht rfl rfl ?_)))
            refine zv_cl ht rfl rfl rfl rfl (by omega) (Nat.le_of_ble_eq_true rfl) (m_isWord (S := S) (tp := tp) (sz := sz) (at0 := at0) (cs := ztn 7) hF (by omega) hV (by omega) (by omega) (hL 7 (by omega)).1 ?_)
            show zEv d 130 79 [.ref 1592, .int (Int32.ofNat a), .int (Int32.ofNat e)] [.int (zbo (pWl tp a e = ztn 7))] S post
            refine zv_br ht rfl rfl rfl (fun b6 => ?_) (fun b6 => ?_)
            · replace b6 : ¬ (pWl tp a e = ztn 7) := (zbo_eq0 : (zbo (pWl tp a e = ztn 7)) = 0 ↔ ¬ (pWl tp a e = ztn 7)).mp b6
              refine zv_c1 ht rfl rfl (zv_c1 ht rfl rfl (zv_c1 ht rfl rfl (zv_c1 ht rfl rfl ?_)))
              refine zv_cl ht rfl rfl rfl rfl (by omega) (Nat.le_of_ble_eq_true rfl) (m_isWord (S := S) (tp := tp) (sz := sz) (at0 := at0) (cs := ztn 11) hF (by omega) hV (by omega) (by omega) (hL 11 (by omega)).1 ?_)
              show zEv d 130 93 [.ref 1592, .int (Int32.ofNat a), .int (Int32.ofNat e)] [.int (zbo (pWl tp a e = ztn 11))] S post
              refine zv_br ht rfl rfl rfl (fun b7 => ?_) (fun b7 => ?_)
              · replace b7 : ¬ (pWl tp a e = ztn 11) := (zbo_eq0 : (zbo (pWl tp a e = ztn 11)) = 0 ↔ ¬ (pWl tp a e = ztn 11)).mp b7
                refine zv_c1 ht rfl rfl (zv_c1 ht rfl rfl (zv_c1 ht rfl rfl (zv_c1 ht rfl rfl ?_)))
                refine zv_cl ht rfl rfl rfl rfl (by omega) (Nat.le_of_ble_eq_true rfl) (m_isWord (S := S) (tp := tp) (sz := sz) (at0 := at0) (cs := ztn 12) hF (by omega) hV (by omega) (by omega) (hL 12 (by omega)).1 ?_)
                show zEv d 130 108 [.ref 1592, .int (Int32.ofNat a), .int (Int32.ofNat e)] [.int (zbo (pWl tp a e = ztn 12))] S post
                refine zv_br ht rfl rfl rfl (fun b8 => ?_) (fun b8 => ?_)
                · replace b8 : ¬ (pWl tp a e = ztn 12) := (zbo_eq0 : (zbo (pWl tp a e = ztn 12)) = 0 ↔ ¬ (pWl tp a e = ztn 12)).mp b8
                  refine zv_c1 ht rfl rfl (zv_c1 ht rfl rfl (zv_c1 ht rfl rfl (zv_c1 ht rfl rfl ?_)))
                  refine zv_cl ht rfl rfl rfl rfl (by omega) (Nat.le_of_ble_eq_true rfl) (m_isWord (S := S) (tp := tp) (sz := sz) (at0 := at0) (cs := ztn 13) hF (by omega) hV (by omega) (by omega) (hL 13 (by omega)).1 ?_)
                  show zEv d 130 123 [.ref 1592, .int (Int32.ofNat a), .int (Int32.ofNat e)] [.int (zbo (pWl tp a e = ztn 13))] S post
                  refine zv_br ht rfl rfl rfl (fun b9 => ?_) (fun b9 => ?_)
                  · replace b9 : ¬ (pWl tp a e = ztn 13) := (zbo_eq0 : (zbo (pWl tp a e = ztn 13)) = 0 ↔ ¬ (pWl tp a e = ztn 13)).mp b9
                    refine zv_c1 ht rfl rfl (zv_c1 ht rfl rfl (zv_c1 ht rfl rfl (zv_c1 ht rfl rfl ?_)))
                    refine zv_cl ht rfl rfl rfl rfl (by omega) (Nat.le_of_ble_eq_true rfl) (m_isWord (S := S) (tp := tp) (sz := sz) (at0 := at0) (cs := ztn 14) hF (by omega) hV (by omega) (by omega) (hL 14 (by omega)).1 ?_)
                    show zEv d 130 138 [.ref 1592, .int (Int32.ofNat a), .int (Int32.ofNat e)] [.int (zbo (pWl tp a e = ztn 14))] S post
                    refine zv_br ht rfl rfl rfl (fun b10 => ?_) (fun b10 => ?_)
                    · replace b10 : ¬ (pWl tp a e = ztn 14) := (zbo_eq0 : (zbo (pWl tp a e = ztn 14)) = 0 ↔ ¬ (pWl tp a e = ztn 14)).mp b10
                      refine zv_c1 ht rfl rfl (zv_c1 ht rfl rfl (zv_c1 ht rfl rfl (zv_c1 ht rfl rfl ?_)))
                      refine zv_cl ht rfl rfl rfl rfl (by omega) (Nat.le_of_ble_eq_true rfl) (m_isWord (S := S) (tp := tp) (sz := sz) (at0 := at0) (cs := ztn 21) hF (by omega) hV (by omega) (by omega) (hL 21 (by omega)).1 ?_)
                      show zEv d 130 153 [.ref 1592, .int (Int32.ofNat a), .int (Int32.ofNat e)] [.int (zbo (pWl tp a e = ztn 21))] S post
                      refine zv_br ht rfl rfl rfl (fun b11 => ?_) (fun b11 => ?_)
                      · replace b11 : ¬ (pWl tp a e = ztn 21) := (zbo_eq0 : (zbo (pWl tp a e = ztn 21)) = 0 ↔ ¬ (pWl tp a e = ztn 21)).mp b11
                        refine zv_c1 ht rfl rfl (zv_c1 ht rfl rfl (zv_c1 ht rfl rfl (zv_c1 ht rfl rfl ?_)))
                        refine zv_cl ht rfl rfl rfl rfl (by omega) (Nat.le_of_ble_eq_true rfl) (m_isWord (S := S) (tp := tp) (sz := sz) (at0 := at0) (cs := ztn 23) hF (by omega) hV (by omega) (by omega) (hL 23 (by omega)).1 ?_)
                        show zEv d 130 168 [.ref 1592, .int (Int32.ofNat a), .int (Int32.ofNat e)] [.int (zbo (pWl tp a e = ztn 23))] S post
                        refine zv_br ht rfl rfl rfl (fun b12 => ?_) (fun b12 => ?_)
                        · replace b12 : ¬ (pWl tp a e = ztn 23) := (zbo_eq0 : (zbo (pWl tp a e = ztn 23)) = 0 ↔ ¬ (pWl tp a e = ztn 23)).mp b12
                          refine zv_c1 ht rfl rfl (zv_c1 ht rfl rfl (zv_c1 ht rfl rfl (zv_c1 ht rfl rfl ?_)))
                          refine zv_cl ht rfl rfl rfl rfl (by omega) (Nat.le_of_ble_eq_true rfl) (m_isWord (S := S) (tp := tp) (sz := sz) (at0 := at0) (cs := ztn 24) hF (by omega) hV (by omega) (by omega) (hL 24 (by omega)).1 ?_)
                          show zEv d 130 183 [.ref 1592, .int (Int32.ofNat a), .int (Int32.ofNat e)] [.int (zbo (pWl tp a e = ztn 24))] S post
                          refine zv_br ht rfl rfl rfl (fun b13 => ?_) (fun b13 => ?_)
                          · replace b13 : ¬ (pWl tp a e = ztn 24) := (zbo_eq0 : (zbo (pWl tp a e = ztn 24)) = 0 ↔ ¬ (pWl tp a e = ztn 24)).mp b13
                            refine zv_c1 ht rfl rfl (zv_c1 ht rfl rfl (zv_c1 ht rfl rfl (zv_c1 ht rfl rfl ?_)))
                            refine zv_cl ht rfl rfl rfl rfl (by omega) (Nat.le_of_ble_eq_true rfl) (m_isWord (S := S) (tp := tp) (sz := sz) (at0 := at0) (cs := ztn 25) hF (by omega) hV (by omega) (by omega) (hL 25 (by omega)).1 ?_)
                            show zEv d 130 198 [.ref 1592, .int (Int32.ofNat a), .int (Int32.ofNat e)] [.int (zbo (pWl tp a e = ztn 25))] S post
                            refine zv_br ht rfl rfl rfl (fun b14 => ?_) (fun b14 => ?_)
                            · replace b14 : ¬ (pWl tp a e = ztn 25) := (zbo_eq0 : (zbo (pWl tp a e = ztn 25)) = 0 ↔ ¬ (pWl tp a e = ztn 25)).mp b14
                              refine zv_c1 ht rfl rfl (zv_c1 ht rfl rfl (zv_c1 ht rfl rfl (zv_c1 ht rfl rfl ?_)))
                              refine zv_cl ht rfl rfl rfl rfl (by omega) (Nat.le_of_ble_eq_true rfl) (m_isWord (S := S) (tp := tp) (sz := sz) (at0 := at0) (cs := ztn 26) hF (by omega) hV (by omega) (by omega) (hL 26 (by omega)).1 ?_)
                              show zEv d 130 213 [.ref 1592, .int (Int32.ofNat a), .int (Int32.ofNat e)] [.int (zbo (pWl tp a e = ztn 26))] S post
                              refine zv_br ht rfl rfl rfl (fun b15 => ?_) (fun b15 => ?_)
                              · replace b15 : ¬ (pWl tp a e = ztn 26) := (zbo_eq0 : (zbo (pWl tp a e = ztn 26)) = 0 ↔ ¬ (pWl tp a e = ztn 26)).mp b15
                                refine zv_c1 ht rfl rfl (zv_c1 ht rfl rfl (zv_c1 ht rfl rfl (zv_c1 ht rfl rfl ?_)))
                                refine zv_cl ht rfl rfl rfl rfl (by omega) (Nat.le_of_ble_eq_true rfl) (m_isWord (S := S) (tp := tp) (sz := sz) (at0 := at0) (cs := ztn 27) hF (by omega) hV (by omega) (by omega) (hL 27 (by omega)).1 ?_)
                                show zEv d 130 228 [.ref 1592, .int (Int32.ofNat a), .int (Int32.ofNat e)] [.int (zbo (pWl tp a e = ztn 27))] S post
                                refine zv_br ht rfl rfl rfl (fun b16 => ?_) (fun b16 => ?_)
                                · replace b16 : ¬ (pWl tp a e = ztn 27) := (zbo_eq0 : (zbo (pWl tp a e = ztn 27)) = 0 ↔ ¬ (pWl tp a e = ztn 27)).mp b16
                                  refine zv_c1 ht rfl rfl (zv_c1 ht rfl rfl (zv_c1 ht rfl rfl (zv_c1 ht rfl rfl ?_)))
                                  refine zv_cl ht rfl rfl rfl rfl (by omega) (Nat.le_of_ble_eq_true rfl) (m_isWord (S := S) (tp := tp) (sz := sz) (at0 := at0) (cs := ztn 28) hF (by omega) hV (by omega) (by omega) (hL 28 (by omega)).1 ?_)
                                  show zEv d 130 243 [.ref 1592, .int (Int32.ofNat a), .int (Int32.ofNat e)] [.int (zbo (pWl tp a e = ztn 28))] S post
                                  refine zv_br ht rfl rfl rfl (fun b17 => ?_) (fun b17 => ?_)
                                  · replace b17 : ¬ (pWl tp a e = ztn 28) := (zbo_eq0 : (zbo (pWl tp a e = ztn 28)) = 0 ↔ ¬ (pWl tp a e = ztn 28)).mp b17
                                    refine zv_c1 ht rfl rfl (zv_c1 ht rfl rfl (zv_c1 ht rfl rfl (zv_c1 ht rfl rfl ?_)))
                                    refine zv_cl ht rfl rfl rfl rfl (by omega) (Nat.le_of_ble_eq_true rfl) (m_isWord (S := S) (tp := tp) (sz := sz) (at0 := at0) (cs := ztn 10) hF (by omega) hV (by omega) (by omega) (hL 10 (by omega)).1 ?_)
                                    show zEv d 130 258 [.ref 1592, .int (Int32.ofNat a), .int (Int32.ofNat e)] [.int (zbo (pWl tp a e = ztn 10))] S post
                                    refine zv_br ht rfl rfl rfl (fun b18 => ?_) (fun b18 => ?_)
                                    · replace b18 : ¬ (pWl tp a e = ztn 10) := (zbo_eq0 : (zbo (pWl tp a e = ztn 10)) = 0 ↔ ¬ (pWl tp a e = ztn 10)).mp b18
                                      refine zv_c1 ht rfl rfl (zv_c1 ht rfl rfl (zv_c1 ht rfl rfl (zv_c1 ht rfl rfl ?_)))
                                      refine zv_cl ht rfl rfl rfl rfl (by omega) (Nat.le_of_ble_eq_true rfl) (m_isWord (S := S) (tp := tp) (sz := sz) (at0 := at0) (cs := ztn 20) hF (by omega) hV (by omega) (by omega) (hL 20 (by omega)).1 ?_)
                                      show zEv d 130 273 [.ref 1592, .int (Int32.ofNat a), .int (Int32.ofNat e)] [.int (zbo (pWl tp a e = ztn 20))] S post
                                      refine zv_br ht rfl rfl rfl (fun b19 => ?_) (fun b19 => ?_)
                                      · replace b19 : ¬ (pWl tp a e = ztn 20) := (zbo_eq0 : (zbo (pWl tp a e = ztn 20)) = 0 ↔ ¬ (pWl tp a e = ztn 20)).mp b19
                                        refine zv_c1 ht rfl rfl (zv_c1 ht rfl rfl (zv_c1 ht rfl rfl (zv_c1 ht rfl rfl ?_)))
                                        refine zv_cl ht rfl rfl rfl rfl (by omega) (Nat.le_of_ble_eq_true rfl) (m_isWord (S := S) (tp := tp) (sz := sz) (at0 := at0) (cs := ztn 5) hF (by omega) hV (by omega) (by omega) (hL 5 (by omega)).1 ?_)
                                        show zEv d 130 288 [.ref 1592, .int (Int32.ofNat a), .int (Int32.ofNat e)] [.int (zbo (pWl tp a e = ztn 5))] S post
                                        refine zv_br ht rfl rfl rfl (fun b20 => ?_) (fun b20 => ?_)
                                        · replace b20 : ¬ (pWl tp a e = ztn 5) := (zbo_eq0 : (zbo (pWl tp a e = ztn 5)) = 0 ↔ ¬ (pWl tp a e = ztn 5)).mp b20
                                          refine zv_c1 ht rfl rfl (zv_c1 ht rfl rfl (zv_c1 ht rfl rfl (zv_c1 ht rfl rfl ?_)))
                                          refine zv_cl ht rfl rfl rfl rfl (by omega) (Nat.le_of_ble_eq_true rfl) (m_isWord (S := S) (tp := tp) (sz := sz) (at0 := at0) (cs := ztn 17) hF (by omega) hV (by omega) (by omega) (hL 17 (by omega)).1 ?_)
                                          show zEv d 130 303 [.ref 1592, .int (Int32.ofNat a), .int (Int32.ofNat e)] [.int (zbo (pWl tp a e = ztn 17))] S post
                                          refine zv_br ht rfl rfl rfl (fun b21 => ?_) (fun b21 => ?_)
                                          · replace b21 : ¬ (pWl tp a e = ztn 17) := (zbo_eq0 : (zbo (pWl tp a e = ztn 17)) = 0 ↔ ¬ (pWl tp a e = ztn 17)).mp b21
                                            refine zv_c1 ht rfl rfl (zv_c1 ht rfl rfl (zv_c1 ht rfl rfl (zv_c1 ht rfl rfl ?_)))
                                            refine zv_cl ht rfl rfl rfl rfl (by omega) (Nat.le_of_ble_eq_true rfl) (m_isWord (S := S) (tp := tp) (sz := sz) (at0 := at0) (cs := ztn 22) hF (by omega) hV (by omega) (by omega) (hL 22 (by omega)).1 ?_)
                                            show zEv d 130 318 [.ref 1592, .int (Int32.ofNat a), .int (Int32.ofNat e)] [.int (zbo (pWl tp a e = ztn 22))] S post
                                            have J23 : zEv d 130 327 [.retAddr 0, .retAddr 0, .retAddr 0] [.int (zit (pWl tp a e = ztn 22) 102 (-1))] S post := by
                                              exact zv_rt ht rfl rfl rfl rfl (zv_sub (zz := zit (pWl tp a e = ztn 15) 0 (zit (pWl tp a e = ztn 16) 1 (zit (pWl tp a e = ztn 18) 2 (zit (pWl tp a e = ztn 19) 3 (zit (pWl tp a e = ztn 6) 4 (zit (pWl tp a e = ztn 7) 5 (zit (pWl tp a e = ztn 11) 6 (zit (pWl tp a e = ztn 12) 7 (zit (pWl tp a e = ztn 13) 8 (zit (pWl tp a e = ztn 14) 9 (zit (pWl tp a e = ztn 21) 10 (zit (pWl tp a e = ztn 23) 11 (zit (pWl tp a e = ztn 24) 12 (zit (pWl tp a e = ztn 25) 13 (zit (pWl tp a e = ztn 26) 14 (zit (pWl tp a e = ztn 27) 15 (zit (pWl tp a e = ztn 28) 16 (zit (pWl tp a e = ztn 10) 17 (zit (pWl tp a e = ztn 20) 18 (zit (pWl tp a e = ztn 5) 100 (zit (pWl tp a e = ztn 17) 101 (zit (pWl tp a e = ztn 22) 102 (-1))))))))))))))))))))))) (zy := zit (pWl tp a e = ztn 22) 102 (-1)) (p := fun zz => post (.returned (some (.int zz)), S)) (Eq.trans (zit_neg b1) (Eq.trans (zit_neg b2) (Eq.trans (zit_neg b3) (Eq.trans (zit_neg b4) (Eq.trans (zit_neg b5) (Eq.trans (zit_neg b6) (Eq.trans (zit_neg b7) (Eq.trans (zit_neg b8) (Eq.trans (zit_neg b9) (Eq.trans (zit_neg b10) (Eq.trans (zit_neg b11) (Eq.trans (zit_neg b12) (Eq.trans (zit_neg b13) (Eq.trans (zit_neg b14) (Eq.trans (zit_neg b15) (Eq.trans (zit_neg b16) (Eq.trans (zit_neg b17) (Eq.trans (zit_neg b18) (Eq.trans (zit_neg b19) (Eq.trans (zit_neg b20) (zit_neg b21))))))))))))))))))))) h1)
                                            refine zv_br ht rfl rfl rfl (fun b22 => ?_) (fun b22 => ?_)
                                            · replace b22 : ¬ (pWl tp a e = ztn 22) := (zbo_eq0 : (zbo (pWl tp a e = ztn 22)) = 0 ↔ ¬ (pWl tp a e = ztn 22)).mp b22
                                              refine zv_c1 ht rfl rfl ?_
                                              exact zEv.wk (L := [.retAddr 0, .retAddr 0, .retAddr 0]) (L' := [.ref 1592, .int (Int32.ofNat a), .int (Int32.ofNat e)]) (And.intro (Or.inr rfl) (And.intro (Or.inr rfl) (And.intro (Or.inr rfl) trivial))) (zv_sub (zz := zit (pWl tp a e = ztn 22) 102 (-1)) (zy := (-1)) (p := fun zz => zEv d 130 327 [.retAddr 0, .retAddr 0, .retAddr 0] [.int zz] S post) (zit_neg b22) J23)
                                            · replace b22 : pWl tp a e = ztn 22 := Classical.byContradiction (fun h => b22 ((zbo_eq0 : (zbo (pWl tp a e = ztn 22)) = 0 ↔ ¬ (pWl tp a e = ztn 22)).mpr h))
                                              refine zv_c1 ht rfl rfl (zv_c1 ht rfl rfl ?_)
                                              exact zEv.wk (L := [.retAddr 0, .retAddr 0, .retAddr 0]) (L' := [.ref 1592, .int (Int32.ofNat a), .int (Int32.ofNat e)]) (And.intro (Or.inr rfl) (And.intro (Or.inr rfl) (And.intro (Or.inr rfl) trivial))) (zv_sub (zz := zit (pWl tp a e = ztn 22) 102 (-1)) (zy := 102) (p := fun zz => zEv d 130 327 [.retAddr 0, .retAddr 0, .retAddr 0] [.int zz] S post) (zit_pos b22) J23)
                                          · replace b21 : pWl tp a e = ztn 17 := Classical.byContradiction (fun h => b21 ((zbo_eq0 : (zbo (pWl tp a e = ztn 17)) = 0 ↔ ¬ (pWl tp a e = ztn 17)).mpr h))
                                            refine zv_c1 ht rfl rfl ?_
                                            exact zv_rt ht rfl rfl rfl rfl (zv_sub (zz := zit (pWl tp a e = ztn 15) 0 (zit (pWl tp a e = ztn 16) 1 (zit (pWl tp a e = ztn 18) 2 (zit (pWl tp a e = ztn 19) 3 (zit (pWl tp a e = ztn 6) 4 (zit (pWl tp a e = ztn 7) 5 (zit (pWl tp a e = ztn 11) 6 (zit (pWl tp a e = ztn 12) 7 (zit (pWl tp a e = ztn 13) 8 (zit (pWl tp a e = ztn 14) 9 (zit (pWl tp a e = ztn 21) 10 (zit (pWl tp a e = ztn 23) 11 (zit (pWl tp a e = ztn 24) 12 (zit (pWl tp a e = ztn 25) 13 (zit (pWl tp a e = ztn 26) 14 (zit (pWl tp a e = ztn 27) 15 (zit (pWl tp a e = ztn 28) 16 (zit (pWl tp a e = ztn 10) 17 (zit (pWl tp a e = ztn 20) 18 (zit (pWl tp a e = ztn 5) 100 (zit (pWl tp a e = ztn 17) 101 (zit (pWl tp a e = ztn 22) 102 (-1))))))))))))))))))))))) (zy := 101) (p := fun zz => post (.returned (some (.int zz)), S)) (Eq.trans (zit_neg b1) (Eq.trans (zit_neg b2) (Eq.trans (zit_neg b3) (Eq.trans (zit_neg b4) (Eq.trans (zit_neg b5) (Eq.trans (zit_neg b6) (Eq.trans (zit_neg b7) (Eq.trans (zit_neg b8) (Eq.trans (zit_neg b9) (Eq.trans (zit_neg b10) (Eq.trans (zit_neg b11) (Eq.trans (zit_neg b12) (Eq.trans (zit_neg b13) (Eq.trans (zit_neg b14) (Eq.trans (zit_neg b15) (Eq.trans (zit_neg b16) (Eq.trans (zit_neg b17) (Eq.trans (zit_neg b18) (Eq.trans (zit_neg b19) (Eq.trans (zit_neg b20) (zit_pos b21))))))))))))))))))))) h1)
                                        · replace b20 : pWl tp a e = ztn 5 := Classical.byContradiction (fun h => b20 ((zbo_eq0 : (zbo (pWl tp a e = ztn 5)) = 0 ↔ ¬ (pWl tp a e = ztn 5)).mpr h))
                                          refine zv_c1 ht rfl rfl ?_
                                          exact zv_rt ht rfl rfl rfl rfl (zv_sub (zz := zit (pWl tp a e = ztn 15) 0 (zit (pWl tp a e = ztn 16) 1 (zit (pWl tp a e = ztn 18) 2 (zit (pWl tp a e = ztn 19) 3 (zit (pWl tp a e = ztn 6) 4 (zit (pWl tp a e = ztn 7) 5 (zit (pWl tp a e = ztn 11) 6 (zit (pWl tp a e = ztn 12) 7 (zit (pWl tp a e = ztn 13) 8 (zit (pWl tp a e = ztn 14) 9 (zit (pWl tp a e = ztn 21) 10 (zit (pWl tp a e = ztn 23) 11 (zit (pWl tp a e = ztn 24) 12 (zit (pWl tp a e = ztn 25) 13 (zit (pWl tp a e = ztn 26) 14 (zit (pWl tp a e = ztn 27) 15 (zit (pWl tp a e = ztn 28) 16 (zit (pWl tp a e = ztn 10) 17 (zit (pWl tp a e = ztn 20) 18 (zit (pWl tp a e = ztn 5) 100 (zit (pWl tp a e = ztn 17) 101 (zit (pWl tp a e = ztn 22) 102 (-1))))))))))))))))))))))) (zy := 100) (p := fun zz => post (.returned (some (.int zz)), S)) (Eq.trans (zit_neg b1) (Eq.trans (zit_neg b2) (Eq.trans (zit_neg b3) (Eq.trans (zit_neg b4) (Eq.trans (zit_neg b5) (Eq.trans (zit_neg b6) (Eq.trans (zit_neg b7) (Eq.trans (zit_neg b8) (Eq.trans (zit_neg b9) (Eq.trans (zit_neg b10) (Eq.trans (zit_neg b11) (Eq.trans (zit_neg b12) (Eq.trans (zit_neg b13) (Eq.trans (zit_neg b14) (Eq.trans (zit_neg b15) (Eq.trans (zit_neg b16) (Eq.trans (zit_neg b17) (Eq.trans (zit_neg b18) (Eq.trans (zit_neg b19) (zit_pos b20)))))))))))))))))))) h1)
                                      · replace b19 : pWl tp a e = ztn 20 := Classical.byContradiction (fun h => b19 ((zbo_eq0 : (zbo (pWl tp a e = ztn 20)) = 0 ↔ ¬ (pWl tp a e = ztn 20)).mpr h))
                                        refine zv_c1 ht rfl rfl ?_
                                        exact zv_rt ht rfl rfl rfl rfl (zv_sub (zz := zit (pWl tp a e = ztn 15) 0 (zit (pWl tp a e = ztn 16) 1 (zit (pWl tp a e = ztn 18) 2 (zit (pWl tp a e = ztn 19) 3 (zit (pWl tp a e = ztn 6) 4 (zit (pWl tp a e = ztn 7) 5 (zit (pWl tp a e = ztn 11) 6 (zit (pWl tp a e = ztn 12) 7 (zit (pWl tp a e = ztn 13) 8 (zit (pWl tp a e = ztn 14) 9 (zit (pWl tp a e = ztn 21) 10 (zit (pWl tp a e = ztn 23) 11 (zit (pWl tp a e = ztn 24) 12 (zit (pWl tp a e = ztn 25) 13 (zit (pWl tp a e = ztn 26) 14 (zit (pWl tp a e = ztn 27) 15 (zit (pWl tp a e = ztn 28) 16 (zit (pWl tp a e = ztn 10) 17 (zit (pWl tp a e = ztn 20) 18 (zit (pWl tp a e = ztn 5) 100 (zit (pWl tp a e = ztn 17) 101 (zit (pWl tp a e = ztn 22) 102 (-1))))))))))))))))))))))) (zy := 18) (p := fun zz => post (.returned (some (.int zz)), S)) (Eq.trans (zit_neg b1) (Eq.trans (zit_neg b2) (Eq.trans (zit_neg b3) (Eq.trans (zit_neg b4) (Eq.trans (zit_neg b5) (Eq.trans (zit_neg b6) (Eq.trans (zit_neg b7) (Eq.trans (zit_neg b8) (Eq.trans (zit_neg b9) (Eq.trans (zit_neg b10) (Eq.trans (zit_neg b11) (Eq.trans (zit_neg b12) (Eq.trans (zit_neg b13) (Eq.trans (zit_neg b14) (Eq.trans (zit_neg b15) (Eq.trans (zit_neg b16) (Eq.trans (zit_neg b17) (Eq.trans (zit_neg b18) (zit_pos b19))))))))))))))))))) h1)
                                    · replace b18 : pWl tp a e = ztn 10 := Classical.byContradiction (fun h => b18 ((zbo_eq0 : (zbo (pWl tp a e = ztn 10)) = 0 ↔ ¬ (pWl tp a e = ztn 10)).mpr h))
                                      refine zv_c1 ht rfl rfl ?_
                                      exact zv_rt ht rfl rfl rfl rfl (zv_sub (zz := zit (pWl tp a e = ztn 15) 0 (zit (pWl tp a e = ztn 16) 1 (zit (pWl tp a e = ztn 18) 2 (zit (pWl tp a e = ztn 19) 3 (zit (pWl tp a e = ztn 6) 4 (zit (pWl tp a e = ztn 7) 5 (zit (pWl tp a e = ztn 11) 6 (zit (pWl tp a e = ztn 12) 7 (zit (pWl tp a e = ztn 13) 8 (zit (pWl tp a e = ztn 14) 9 (zit (pWl tp a e = ztn 21) 10 (zit (pWl tp a e = ztn 23) 11 (zit (pWl tp a e = ztn 24) 12 (zit (pWl tp a e = ztn 25) 13 (zit (pWl tp a e = ztn 26) 14 (zit (pWl tp a e = ztn 27) 15 (zit (pWl tp a e = ztn 28) 16 (zit (pWl tp a e = ztn 10) 17 (zit (pWl tp a e = ztn 20) 18 (zit (pWl tp a e = ztn 5) 100 (zit (pWl tp a e = ztn 17) 101 (zit (pWl tp a e = ztn 22) 102 (-1))))))))))))))))))))))) (zy := 17) (p := fun zz => post (.returned (some (.int zz)), S)) (Eq.trans (zit_neg b1) (Eq.trans (zit_neg b2) (Eq.trans (zit_neg b3) (Eq.trans (zit_neg b4) (Eq.trans (zit_neg b5) (Eq.trans (zit_neg b6) (Eq.trans (zit_neg b7) (Eq.trans (zit_neg b8) (Eq.trans (zit_neg b9) (Eq.trans (zit_neg b10) (Eq.trans (zit_neg b11) (Eq.trans (zit_neg b12) (Eq.trans (zit_neg b13) (Eq.trans (zit_neg b14) (Eq.trans (zit_neg b15) (Eq.trans (zit_neg b16) (Eq.trans (zit_neg b17) (zit_pos b18)))))))))))))))))) h1)
                                  · replace b17 : pWl tp a e = ztn 28 := Classical.byContradiction (fun h => b17 ((zbo_eq0 : (zbo (pWl tp a e = ztn 28)) = 0 ↔ ¬ (pWl tp a e = ztn 28)).mpr h))
                                    refine zv_c1 ht rfl rfl ?_
                                    exact zv_rt ht rfl rfl rfl rfl (zv_sub (zz := zit (pWl tp a e = ztn 15) 0 (zit (pWl tp a e = ztn 16) 1 (zit (pWl tp a e = ztn 18) 2 (zit (pWl tp a e = ztn 19) 3 (zit (pWl tp a e = ztn 6) 4 (zit (pWl tp a e = ztn 7) 5 (zit (pWl tp a e = ztn 11) 6 (zit (pWl tp a e = ztn 12) 7 (zit (pWl tp a e = ztn 13) 8 (zit (pWl tp a e = ztn 14) 9 (zit (pWl tp a e = ztn 21) 10 (zit (pWl tp a e = ztn 23) 11 (zit (pWl tp a e = ztn 24) 12 (zit (pWl tp a e = ztn 25) 13 (zit (pWl tp a e = ztn 26) 14 (zit (pWl tp a e = ztn 27) 15 (zit (pWl tp a e = ztn 28) 16 (zit (pWl tp a e = ztn 10) 17 (zit (pWl tp a e = ztn 20) 18 (zit (pWl tp a e = ztn 5) 100 (zit (pWl tp a e = ztn 17) 101 (zit (pWl tp a e = ztn 22) 102 (-1))))))))))))))))))))))) (zy := 16) (p := fun zz => post (.returned (some (.int zz)), S)) (Eq.trans (zit_neg b1) (Eq.trans (zit_neg b2) (Eq.trans (zit_neg b3) (Eq.trans (zit_neg b4) (Eq.trans (zit_neg b5) (Eq.trans (zit_neg b6) (Eq.trans (zit_neg b7) (Eq.trans (zit_neg b8) (Eq.trans (zit_neg b9) (Eq.trans (zit_neg b10) (Eq.trans (zit_neg b11) (Eq.trans (zit_neg b12) (Eq.trans (zit_neg b13) (Eq.trans (zit_neg b14) (Eq.trans (zit_neg b15) (Eq.trans (zit_neg b16) (zit_pos b17))))))))))))))))) h1)
                                · replace b16 : pWl tp a e = ztn 27 := Classical.byContradiction (fun h => b16 ((zbo_eq0 : (zbo (pWl tp a e = ztn 27)) = 0 ↔ ¬ (pWl tp a e = ztn 27)).mpr h))
                                  refine zv_c1 ht rfl rfl ?_
                                  exact zv_rt ht rfl rfl rfl rfl (zv_sub (zz := zit (pWl tp a e = ztn 15) 0 (zit (pWl tp a e = ztn 16) 1 (zit (pWl tp a e = ztn 18) 2 (zit (pWl tp a e = ztn 19) 3 (zit (pWl tp a e = ztn 6) 4 (zit (pWl tp a e = ztn 7) 5 (zit (pWl tp a e = ztn 11) 6 (zit (pWl tp a e = ztn 12) 7 (zit (pWl tp a e = ztn 13) 8 (zit (pWl tp a e = ztn 14) 9 (zit (pWl tp a e = ztn 21) 10 (zit (pWl tp a e = ztn 23) 11 (zit (pWl tp a e = ztn 24) 12 (zit (pWl tp a e = ztn 25) 13 (zit (pWl tp a e = ztn 26) 14 (zit (pWl tp a e = ztn 27) 15 (zit (pWl tp a e = ztn 28) 16 (zit (pWl tp a e = ztn 10) 17 (zit (pWl tp a e = ztn 20) 18 (zit (pWl tp a e = ztn 5) 100 (zit (pWl tp a e = ztn 17) 101 (zit (pWl tp a e = ztn 22) 102 (-1))))))))))))))))))))))) (zy := 15) (p := fun zz => post (.returned (some (.int zz)), S)) (Eq.trans (zit_neg b1) (Eq.trans (zit_neg b2) (Eq.trans (zit_neg b3) (Eq.trans (zit_neg b4) (Eq.trans (zit_neg b5) (Eq.trans (zit_neg b6) (Eq.trans (zit_neg b7) (Eq.trans (zit_neg b8) (Eq.trans (zit_neg b9) (Eq.trans (zit_neg b10) (Eq.trans (zit_neg b11) (Eq.trans (zit_neg b12) (Eq.trans (zit_neg b13) (Eq.trans (zit_neg b14) (Eq.trans (zit_neg b15) (zit_pos b16)))))))))))))))) h1)
                              · replace b15 : pWl tp a e = ztn 26 := Classical.byContradiction (fun h => b15 ((zbo_eq0 : (zbo (pWl tp a e = ztn 26)) = 0 ↔ ¬ (pWl tp a e = ztn 26)).mpr h))
                                refine zv_c1 ht rfl rfl ?_
                                exact zv_rt ht rfl rfl rfl rfl (zv_sub (zz := zit (pWl tp a e = ztn 15) 0 (zit (pWl tp a e = ztn 16) 1 (zit (pWl tp a e = ztn 18) 2 (zit (pWl tp a e = ztn 19) 3 (zit (pWl tp a e = ztn 6) 4 (zit (pWl tp a e = ztn 7) 5 (zit (pWl tp a e = ztn 11) 6 (zit (pWl tp a e = ztn 12) 7 (zit (pWl tp a e = ztn 13) 8 (zit (pWl tp a e = ztn 14) 9 (zit (pWl tp a e = ztn 21) 10 (zit (pWl tp a e = ztn 23) 11 (zit (pWl tp a e = ztn 24) 12 (zit (pWl tp a e = ztn 25) 13 (zit (pWl tp a e = ztn 26) 14 (zit (pWl tp a e = ztn 27) 15 (zit (pWl tp a e = ztn 28) 16 (zit (pWl tp a e = ztn 10) 17 (zit (pWl tp a e = ztn 20) 18 (zit (pWl tp a e = ztn 5) 100 (zit (pWl tp a e = ztn 17) 101 (zit (pWl tp a e = ztn 22) 102 (-1))))))))))))))))))))))) (zy := 14) (p := fun zz => post (.returned (some (.int zz)), S)) (Eq.trans (zit_neg b1) (Eq.trans (zit_neg b2) (Eq.trans (zit_neg b3) (Eq.trans (zit_neg b4) (Eq.trans (zit_neg b5) (Eq.trans (zit_neg b6) (Eq.trans (zit_neg b7) (Eq.trans (zit_neg b8) (Eq.trans (zit_neg b9) (Eq.trans (zit_neg b10) (Eq.trans (zit_neg b11) (Eq.trans (zit_neg b12) (Eq.trans (zit_neg b13) (Eq.trans (zit_neg b14) (zit_pos b15))))))))))))))) h1)
                            · replace b14 : pWl tp a e = ztn 25 := Classical.byContradiction (fun h => b14 ((zbo_eq0 : (zbo (pWl tp a e = ztn 25)) = 0 ↔ ¬ (pWl tp a e = ztn 25)).mpr h))
                              refine zv_c1 ht rfl rfl ?_
                              exact zv_rt ht rfl rfl rfl rfl (zv_sub (zz := zit (pWl tp a e = ztn 15) 0 (zit (pWl tp a e = ztn 16) 1 (zit (pWl tp a e = ztn 18) 2 (zit (pWl tp a e = ztn 19) 3 (zit (pWl tp a e = ztn 6) 4 (zit (pWl tp a e = ztn 7) 5 (zit (pWl tp a e = ztn 11) 6 (zit (pWl tp a e = ztn 12) 7 (zit (pWl tp a e = ztn 13) 8 (zit (pWl tp a e = ztn 14) 9 (zit (pWl tp a e = ztn 21) 10 (zit (pWl tp a e = ztn 23) 11 (zit (pWl tp a e = ztn 24) 12 (zit (pWl tp a e = ztn 25) 13 (zit (pWl tp a e = ztn 26) 14 (zit (pWl tp a e = ztn 27) 15 (zit (pWl tp a e = ztn 28) 16 (zit (pWl tp a e = ztn 10) 17 (zit (pWl tp a e = ztn 20) 18 (zit (pWl tp a e = ztn 5) 100 (zit (pWl tp a e = ztn 17) 101 (zit (pWl tp a e = ztn 22) 102 (-1))))))))))))))))))))))) (zy := 13) (p := fun zz => post (.returned (some (.int zz)), S)) (Eq.trans (zit_neg b1) (Eq.trans (zit_neg b2) (Eq.trans (zit_neg b3) (Eq.trans (zit_neg b4) (Eq.trans (zit_neg b5) (Eq.trans (zit_neg b6) (Eq.trans (zit_neg b7) (Eq.trans (zit_neg b8) (Eq.trans (zit_neg b9) (Eq.trans (zit_neg b10) (Eq.trans (zit_neg b11) (Eq.trans (zit_neg b12) (Eq.trans (zit_neg b13) (zit_pos b14)))))))))))))) h1)
                          · replace b13 : pWl tp a e = ztn 24 := Classical.byContradiction (fun h => b13 ((zbo_eq0 : (zbo (pWl tp a e = ztn 24)) = 0 ↔ ¬ (pWl tp a e = ztn 24)).mpr h))
                            refine zv_c1 ht rfl rfl ?_
                            exact zv_rt ht rfl rfl rfl rfl (zv_sub (zz := zit (pWl tp a e = ztn 15) 0 (zit (pWl tp a e = ztn 16) 1 (zit (pWl tp a e = ztn 18) 2 (zit (pWl tp a e = ztn 19) 3 (zit (pWl tp a e = ztn 6) 4 (zit (pWl tp a e = ztn 7) 5 (zit (pWl tp a e = ztn 11) 6 (zit (pWl tp a e = ztn 12) 7 (zit (pWl tp a e = ztn 13) 8 (zit (pWl tp a e = ztn 14) 9 (zit (pWl tp a e = ztn 21) 10 (zit (pWl tp a e = ztn 23) 11 (zit (pWl tp a e = ztn 24) 12 (zit (pWl tp a e = ztn 25) 13 (zit (pWl tp a e = ztn 26) 14 (zit (pWl tp a e = ztn 27) 15 (zit (pWl tp a e = ztn 28) 16 (zit (pWl tp a e = ztn 10) 17 (zit (pWl tp a e = ztn 20) 18 (zit (pWl tp a e = ztn 5) 100 (zit (pWl tp a e = ztn 17) 101 (zit (pWl tp a e = ztn 22) 102 (-1))))))))))))))))))))))) (zy := 12) (p := fun zz => post (.returned (some (.int zz)), S)) (Eq.trans (zit_neg b1) (Eq.trans (zit_neg b2) (Eq.trans (zit_neg b3) (Eq.trans (zit_neg b4) (Eq.trans (zit_neg b5) (Eq.trans (zit_neg b6) (Eq.trans (zit_neg b7) (Eq.trans (zit_neg b8) (Eq.trans (zit_neg b9) (Eq.trans (zit_neg b10) (Eq.trans (zit_neg b11) (Eq.trans (zit_neg b12) (zit_pos b13))))))))))))) h1)
                        · replace b12 : pWl tp a e = ztn 23 := Classical.byContradiction (fun h => b12 ((zbo_eq0 : (zbo (pWl tp a e = ztn 23)) = 0 ↔ ¬ (pWl tp a e = ztn 23)).mpr h))
                          refine zv_c1 ht rfl rfl ?_
                          exact zv_rt ht rfl rfl rfl rfl (zv_sub (zz := zit (pWl tp a e = ztn 15) 0 (zit (pWl tp a e = ztn 16) 1 (zit (pWl tp a e = ztn 18) 2 (zit (pWl tp a e = ztn 19) 3 (zit (pWl tp a e = ztn 6) 4 (zit (pWl tp a e = ztn 7) 5 (zit (pWl tp a e = ztn 11) 6 (zit (pWl tp a e = ztn 12) 7 (zit (pWl tp a e = ztn 13) 8 (zit (pWl tp a e = ztn 14) 9 (zit (pWl tp a e = ztn 21) 10 (zit (pWl tp a e = ztn 23) 11 (zit (pWl tp a e = ztn 24) 12 (zit (pWl tp a e = ztn 25) 13 (zit (pWl tp a e = ztn 26) 14 (zit (pWl tp a e = ztn 27) 15 (zit (pWl tp a e = ztn 28) 16 (zit (pWl tp a e = ztn 10) 17 (zit (pWl tp a e = ztn 20) 18 (zit (pWl tp a e = ztn 5) 100 (zit (pWl tp a e = ztn 17) 101 (zit (pWl tp a e = ztn 22) 102 (-1))))))))))))))))))))))) (zy := 11) (p := fun zz => post (.returned (some (.int zz)), S)) (Eq.trans (zit_neg b1) (Eq.trans (zit_neg b2) (Eq.trans (zit_neg b3) (Eq.trans (zit_neg b4) (Eq.trans (zit_neg b5) (Eq.trans (zit_neg b6) (Eq.trans (zit_neg b7) (Eq.trans (zit_neg b8) (Eq.trans (zit_neg b9) (Eq.trans (zit_neg b10) (Eq.trans (zit_neg b11) (zit_pos b12)))))))))))) h1)
                      · replace b11 : pWl tp a e = ztn 21 := Classical.byContradiction (fun h => b11 ((zbo_eq0 : (zbo (pWl tp a e = ztn 21)) = 0 ↔ ¬ (pWl tp a e = ztn 21)).mpr h))
                        refine zv_c1 ht rfl rfl ?_
                        exact zv_rt ht rfl rfl rfl rfl (zv_sub (zz := zit (pWl tp a e = ztn 15) 0 (zit (pWl tp a e = ztn 16) 1 (zit (pWl tp a e = ztn 18) 2 (zit (pWl tp a e = ztn 19) 3 (zit (pWl tp a e = ztn 6) 4 (zit (pWl tp a e = ztn 7) 5 (zit (pWl tp a e = ztn 11) 6 (zit (pWl tp a e = ztn 12) 7 (zit (pWl tp a e = ztn 13) 8 (zit (pWl tp a e = ztn 14) 9 (zit (pWl tp a e = ztn 21) 10 (zit (pWl tp a e = ztn 23) 11 (zit (pWl tp a e = ztn 24) 12 (zit (pWl tp a e = ztn 25) 13 (zit (pWl tp a e = ztn 26) 14 (zit (pWl tp a e = ztn 27) 15 (zit (pWl tp a e = ztn 28) 16 (zit (pWl tp a e = ztn 10) 17 (zit (pWl tp a e = ztn 20) 18 (zit (pWl tp a e = ztn 5) 100 (zit (pWl tp a e = ztn 17) 101 (zit (pWl tp a e = ztn 22) 102 (-1))))))))))))))))))))))) (zy := 10) (p := fun zz => post (.returned (some (.int zz)), S)) (Eq.trans (zit_neg b1) (Eq.trans (zit_neg b2) (Eq.trans (zit_neg b3) (Eq.trans (zit_neg b4) (Eq.trans (zit_neg b5) (Eq.trans (zit_neg b6) (Eq.trans (zit_neg b7) (Eq.trans (zit_neg b8) (Eq.trans (zit_neg b9) (Eq.trans (zit_neg b10) (zit_pos b11))))))))))) h1)
                    · replace b10 : pWl tp a e = ztn 14 := Classical.byContradiction (fun h => b10 ((zbo_eq0 : (zbo (pWl tp a e = ztn 14)) = 0 ↔ ¬ (pWl tp a e = ztn 14)).mpr h))
                      refine zv_c1 ht rfl rfl ?_
                      exact zv_rt ht rfl rfl rfl rfl (zv_sub (zz := zit (pWl tp a e = ztn 15) 0 (zit (pWl tp a e = ztn 16) 1 (zit (pWl tp a e = ztn 18) 2 (zit (pWl tp a e = ztn 19) 3 (zit (pWl tp a e = ztn 6) 4 (zit (pWl tp a e = ztn 7) 5 (zit (pWl tp a e = ztn 11) 6 (zit (pWl tp a e = ztn 12) 7 (zit (pWl tp a e = ztn 13) 8 (zit (pWl tp a e = ztn 14) 9 (zit (pWl tp a e = ztn 21) 10 (zit (pWl tp a e = ztn 23) 11 (zit (pWl tp a e = ztn 24) 12 (zit (pWl tp a e = ztn 25) 13 (zit (pWl tp a e = ztn 26) 14 (zit (pWl tp a e = ztn 27) 15 (zit (pWl tp a e = ztn 28) 16 (zit (pWl tp a e = ztn 10) 17 (zit (pWl tp a e = ztn 20) 18 (zit (pWl tp a e = ztn 5) 100 (zit (pWl tp a e = ztn 17) 101 (zit (pWl tp a e = ztn 22) 102 (-1))))))))))))))))))))))) (zy := 9) (p := fun zz => post (.returned (some (.int zz)), S)) (Eq.trans (zit_neg b1) (Eq.trans (zit_neg b2) (Eq.trans (zit_neg b3) (Eq.trans (zit_neg b4) (Eq.trans (zit_neg b5) (Eq.trans (zit_neg b6) (Eq.trans (zit_neg b7) (Eq.trans (zit_neg b8) (Eq.trans (zit_neg b9) (zit_pos b10)))))))))) h1)
                  · replace b9 : pWl tp a e = ztn 13 := Classical.byContradiction (fun h => b9 ((zbo_eq0 : (zbo (pWl tp a e = ztn 13)) = 0 ↔ ¬ (pWl tp a e = ztn 13)).mpr h))
                    refine zv_c1 ht rfl rfl ?_
                    exact zv_rt ht rfl rfl rfl rfl (zv_sub (zz := zit (pWl tp a e = ztn 15) 0 (zit (pWl tp a e = ztn 16) 1 (zit (pWl tp a e = ztn 18) 2 (zit (pWl tp a e = ztn 19) 3 (zit (pWl tp a e = ztn 6) 4 (zit (pWl tp a e = ztn 7) 5 (zit (pWl tp a e = ztn 11) 6 (zit (pWl tp a e = ztn 12) 7 (zit (pWl tp a e = ztn 13) 8 (zit (pWl tp a e = ztn 14) 9 (zit (pWl tp a e = ztn 21) 10 (zit (pWl tp a e = ztn 23) 11 (zit (pWl tp a e = ztn 24) 12 (zit (pWl tp a e = ztn 25) 13 (zit (pWl tp a e = ztn 26) 14 (zit (pWl tp a e = ztn 27) 15 (zit (pWl tp a e = ztn 28) 16 (zit (pWl tp a e = ztn 10) 17 (zit (pWl tp a e = ztn 20) 18 (zit (pWl tp a e = ztn 5) 100 (zit (pWl tp a e = ztn 17) 101 (zit (pWl tp a e = ztn 22) 102 (-1))))))))))))))))))))))) (zy := 8) (p := fun zz => post (.returned (some (.int zz)), S)) (Eq.trans (zit_neg b1) (Eq.trans (zit_neg b2) (Eq.trans (zit_neg b3) (Eq.trans (zit_neg b4) (Eq.trans (zit_neg b5) (Eq.trans (zit_neg b6) (Eq.trans (zit_neg b7) (Eq.trans (zit_neg b8) (zit_pos b9))))))))) h1)
                · replace b8 : pWl tp a e = ztn 12 := Classical.byContradiction (fun h => b8 ((zbo_eq0 : (zbo (pWl tp a e = ztn 12)) = 0 ↔ ¬ (pWl tp a e = ztn 12)).mpr h))
                  refine zv_c1 ht rfl rfl ?_
                  exact zv_rt ht rfl rfl rfl rfl (zv_sub (zz := zit (pWl tp a e = ztn 15) 0 (zit (pWl tp a e = ztn 16) 1 (zit (pWl tp a e = ztn 18) 2 (zit (pWl tp a e = ztn 19) 3 (zit (pWl tp a e = ztn 6) 4 (zit (pWl tp a e = ztn 7) 5 (zit (pWl tp a e = ztn 11) 6 (zit (pWl tp a e = ztn 12) 7 (zit (pWl tp a e = ztn 13) 8 (zit (pWl tp a e = ztn 14) 9 (zit (pWl tp a e = ztn 21) 10 (zit (pWl tp a e = ztn 23) 11 (zit (pWl tp a e = ztn 24) 12 (zit (pWl tp a e = ztn 25) 13 (zit (pWl tp a e = ztn 26) 14 (zit (pWl tp a e = ztn 27) 15 (zit (pWl tp a e = ztn 28) 16 (zit (pWl tp a e = ztn 10) 17 (zit (pWl tp a e = ztn 20) 18 (zit (pWl tp a e = ztn 5) 100 (zit (pWl tp a e = ztn 17) 101 (zit (pWl tp a e = ztn 22) 102 (-1))))))))))))))))))))))) (zy := 7) (p := fun zz => post (.returned (some (.int zz)), S)) (Eq.trans (zit_neg b1) (Eq.trans (zit_neg b2) (Eq.trans (zit_neg b3) (Eq.trans (zit_neg b4) (Eq.trans (zit_neg b5) (Eq.trans (zit_neg b6) (Eq.trans (zit_neg b7) (zit_pos b8)))))))) h1)
              · replace b7 : pWl tp a e = ztn 11 := Classical.byContradiction (fun h => b7 ((zbo_eq0 : (zbo (pWl tp a e = ztn 11)) = 0 ↔ ¬ (pWl tp a e = ztn 11)).mpr h))
                refine zv_c1 ht rfl rfl ?_
                exact zv_rt ht rfl rfl rfl rfl (zv_sub (zz := zit (pWl tp a e = ztn 15) 0 (zit (pWl tp a e = ztn 16) 1 (zit (pWl tp a e = ztn 18) 2 (zit (pWl tp a e = ztn 19) 3 (zit (pWl tp a e = ztn 6) 4 (zit (pWl tp a e = ztn 7) 5 (zit (pWl tp a e = ztn 11) 6 (zit (pWl tp a e = ztn 12) 7 (zit (pWl tp a e = ztn 13) 8 (zit (pWl tp a e = ztn 14) 9 (zit (pWl tp a e = ztn 21) 10 (zit (pWl tp a e = ztn 23) 11 (zit (pWl tp a e = ztn 24) 12 (zit (pWl tp a e = ztn 25) 13 (zit (pWl tp a e = ztn 26) 14 (zit (pWl tp a e = ztn 27) 15 (zit (pWl tp a e = ztn 28) 16 (zit (pWl tp a e = ztn 10) 17 (zit (pWl tp a e = ztn 20) 18 (zit (pWl tp a e = ztn 5) 100 (zit (pWl tp a e = ztn 17) 101 (zit (pWl tp a e = ztn 22) 102 (-1))))))))))))))))))))))) (zy := 6) (p := fun zz => post (.returned (some (.int zz)), S)) (Eq.trans (zit_neg b1) (Eq.trans (zit_neg b2) (Eq.trans (zit_neg b3) (Eq.trans (zit_neg b4) (Eq.trans (zit_neg b5) (Eq.trans (zit_neg b6) (zit_pos b7))))))) h1)
            · replace b6 : pWl tp a e = ztn 7 := Classical.byContradiction (fun h => b6 ((zbo_eq0 : (zbo (pWl tp a e = ztn 7)) = 0 ↔ ¬ (pWl tp a e = ztn 7)).mpr h))
              refine zv_c1 ht rfl rfl ?_
              exact zv_rt ht rfl rfl rfl rfl (zv_sub (zz := zit (pWl tp a e = ztn 15) 0 (zit (pWl tp a e = ztn 16) 1 (zit (pWl tp a e = ztn 18) 2 (zit (pWl tp a e = ztn 19) 3 (zit (pWl tp a e = ztn 6) 4 (zit (pWl tp a e = ztn 7) 5 (zit (pWl tp a e = ztn 11) 6 (zit (pWl tp a e = ztn 12) 7 (zit (pWl tp a e = ztn 13) 8 (zit (pWl tp a e = ztn 14) 9 (zit (pWl tp a e = ztn 21) 10 (zit (pWl tp a e = ztn 23) 11 (zit (pWl tp a e = ztn 24) 12 (zit (pWl tp a e = ztn 25) 13 (zit (pWl tp a e = ztn 26) 14 (zit (pWl tp a e = ztn 27) 15 (zit (pWl tp a e = ztn 28) 16 (zit (pWl tp a e = ztn 10) 17 (zit (pWl tp a e = ztn 20) 18 (zit (pWl tp a e = ztn 5) 100 (zit (pWl tp a e = ztn 17) 101 (zit (pWl tp a e = ztn 22) 102 (-1))))))))))))))))))))))) (zy := 5) (p := fun zz => post (.returned (some (.int zz)), S)) (Eq.trans (zit_neg b1) (Eq.trans (zit_neg b2) (Eq.trans (zit_neg b3) (Eq.trans (zit_neg b4) (Eq.trans (zit_neg b5) (zit_pos b6)))))) h1)
          · replace b5 : pWl tp a e = ztn 6 := Classical.byContradiction (fun h => b5 ((zbo_eq0 : (zbo (pWl tp a e = ztn 6)) = 0 ↔ ¬ (pWl tp a e = ztn 6)).mpr h))
            refine zv_c1 ht rfl rfl ?_
            exact zv_rt ht rfl rfl rfl rfl (zv_sub (zz := zit (pWl tp a e = ztn 15) 0 (zit (pWl tp a e = ztn 16) 1 (zit (pWl tp a e = ztn 18) 2 (zit (pWl tp a e = ztn 19) 3 (zit (pWl tp a e = ztn 6) 4 (zit (pWl tp a e = ztn 7) 5 (zit (pWl tp a e = ztn 11) 6 (zit (pWl tp a e = ztn 12) 7 (zit (pWl tp a e = ztn 13) 8 (zit (pWl tp a e = ztn 14) 9 (zit (pWl tp a e = ztn 21) 10 (zit (pWl tp a e = ztn 23) 11 (zit (pWl tp a e = ztn 24) 12 (zit (pWl tp a e = ztn 25) 13 (zit (pWl tp a e = ztn 26) 14 (zit (pWl tp a e = ztn 27) 15 (zit (pWl tp a e = ztn 28) 16 (zit (pWl tp a e = ztn 10) 17 (zit (pWl tp a e = ztn 20) 18 (zit (pWl tp a e = ztn 5) 100 (zit (pWl tp a e = ztn 17) 101 (zit (pWl tp a e = ztn 22) 102 (-1))))))))))))))))))))))) (zy := 4) (p := fun zz => post (.returned (some (.int zz)), S)) (Eq.trans (zit_neg b1) (Eq.trans (zit_neg b2) (Eq.trans (zit_neg b3) (Eq.trans (zit_neg b4) (zit_pos b5))))) h1)
        · replace b4 : pWl tp a e = ztn 19 := Classical.byContradiction (fun h => b4 ((zbo_eq0 : (zbo (pWl tp a e = ztn 19)) = 0 ↔ ¬ (pWl tp a e = ztn 19)).mpr h))
          refine zv_c1 ht rfl rfl ?_
          exact zv_rt ht rfl rfl rfl rfl (zv_sub (zz := zit (pWl tp a e = ztn 15) 0 (zit (pWl tp a e = ztn 16) 1 (zit (pWl tp a e = ztn 18) 2 (zit (pWl tp a e = ztn 19) 3 (zit (pWl tp a e = ztn 6) 4 (zit (pWl tp a e = ztn 7) 5 (zit (pWl tp a e = ztn 11) 6 (zit (pWl tp a e = ztn 12) 7 (zit (pWl tp a e = ztn 13) 8 (zit (pWl tp a e = ztn 14) 9 (zit (pWl tp a e = ztn 21) 10 (zit (pWl tp a e = ztn 23) 11 (zit (pWl tp a e = ztn 24) 12 (zit (pWl tp a e = ztn 25) 13 (zit (pWl tp a e = ztn 26) 14 (zit (pWl tp a e = ztn 27) 15 (zit (pWl tp a e = ztn 28) 16 (zit (pWl tp a e = ztn 10) 17 (zit (pWl tp a e = ztn 20) 18 (zit (pWl tp a e = ztn 5) 100 (zit (pWl tp a e = ztn 17) 101 (zit (pWl tp a e = ztn 22) 102 (-1))))))))))))))))))))))) (zy := 3) (p := fun zz => post (.returned (some (.int zz)), S)) (Eq.trans (zit_neg b1) (Eq.trans (zit_neg b2) (Eq.trans (zit_neg b3) (zit_pos b4)))) h1)
      · replace b3 : pWl tp a e = ztn 18 := Classical.byContradiction (fun h => b3 ((zbo_eq0 : (zbo (pWl tp a e = ztn 18)) = 0 ↔ ¬ (pWl tp a e = ztn 18)).mpr h))
        refine zv_c1 ht rfl rfl ?_
        exact zv_rt ht rfl rfl rfl rfl (zv_sub (zz := zit (pWl tp a e = ztn 15) 0 (zit (pWl tp a e = ztn 16) 1 (zit (pWl tp a e = ztn 18) 2 (zit (pWl tp a e = ztn 19) 3 (zit (pWl tp a e = ztn 6) 4 (zit (pWl tp a e = ztn 7) 5 (zit (pWl tp a e = ztn 11) 6 (zit (pWl tp a e = ztn 12) 7 (zit (pWl tp a e = ztn 13) 8 (zit (pWl tp a e = ztn 14) 9 (zit (pWl tp a e = ztn 21) 10 (zit (pWl tp a e = ztn 23) 11 (zit (pWl tp a e = ztn 24) 12 (zit (pWl tp a e = ztn 25) 13 (zit (pWl tp a e = ztn 26) 14 (zit (pWl tp a e = ztn 27) 15 (zit (pWl tp a e = ztn 28) 16 (zit (pWl tp a e = ztn 10) 17 (zit (pWl tp a e = ztn 20) 18 (zit (pWl tp a e = ztn 5) 100 (zit (pWl tp a e = ztn 17) 101 (zit (pWl tp a e = ztn 22) 102 (-1))))))))))))))))))))))) (zy := 2) (p := fun zz => post (.returned (some (.int zz)), S)) (Eq.trans (zit_neg b1) (Eq.trans (zit_neg b2) (zit_pos b3))) h1)
    · replace b2 : pWl tp a e = ztn 16 := Classical.byContradiction (fun h => b2 ((zbo_eq0 : (zbo (pWl tp a e = ztn 16)) = 0 ↔ ¬ (pWl tp a e = ztn 16)).mpr h))
      refine zv_c1 ht rfl rfl ?_
      exact zv_rt ht rfl rfl rfl rfl (zv_sub (zz := zit (pWl tp a e = ztn 15) 0 (zit (pWl tp a e = ztn 16) 1 (zit (pWl tp a e = ztn 18) 2 (zit (pWl tp a e = ztn 19) 3 (zit (pWl tp a e = ztn 6) 4 (zit (pWl tp a e = ztn 7) 5 (zit (pWl tp a e = ztn 11) 6 (zit (pWl tp a e = ztn 12) 7 (zit (pWl tp a e = ztn 13) 8 (zit (pWl tp a e = ztn 14) 9 (zit (pWl tp a e = ztn 21) 10 (zit (pWl tp a e = ztn 23) 11 (zit (pWl tp a e = ztn 24) 12 (zit (pWl tp a e = ztn 25) 13 (zit (pWl tp a e = ztn 26) 14 (zit (pWl tp a e = ztn 27) 15 (zit (pWl tp a e = ztn 28) 16 (zit (pWl tp a e = ztn 10) 17 (zit (pWl tp a e = ztn 20) 18 (zit (pWl tp a e = ztn 5) 100 (zit (pWl tp a e = ztn 17) 101 (zit (pWl tp a e = ztn 22) 102 (-1))))))))))))))))))))))) (zy := 1) (p := fun zz => post (.returned (some (.int zz)), S)) (Eq.trans (zit_neg b1) (zit_pos b2)) h1)
  · replace b1 : pWl tp a e = ztn 15 := Classical.byContradiction (fun h => b1 ((zbo_eq0 : (zbo (pWl tp a e = ztn 15)) = 0 ↔ ¬ (pWl tp a e = ztn 15)).mpr h))
    refine zv_c1 ht rfl rfl ?_
    exact zv_rt ht rfl rfl rfl rfl (zv_sub (zz := zit (pWl tp a e = ztn 15) 0 (zit (pWl tp a e = ztn 16) 1 (zit (pWl tp a e = ztn 18) 2 (zit (pWl tp a e = ztn 19) 3 (zit (pWl tp a e = ztn 6) 4 (zit (pWl tp a e = ztn 7) 5 (zit (pWl tp a e = ztn 11) 6 (zit (pWl tp a e = ztn 12) 7 (zit (pWl tp a e = ztn 13) 8 (zit (pWl tp a e = ztn 14) 9 (zit (pWl tp a e = ztn 21) 10 (zit (pWl tp a e = ztn 23) 11 (zit (pWl tp a e = ztn 24) 12 (zit (pWl tp a e = ztn 25) 13 (zit (pWl tp a e = ztn 26) 14 (zit (pWl tp a e = ztn 27) 15 (zit (pWl tp a e = ztn 28) 16 (zit (pWl tp a e = ztn 10) 17 (zit (pWl tp a e = ztn 20) 18 (zit (pWl tp a e = ztn 5) 100 (zit (pWl tp a e = ztn 17) 101 (zit (pWl tp a e = ztn 22) 102 (-1))))))))))))))))))))))) (zy := 0) (p := fun zz => post (.returned (some (.int zz)), S)) (zit_pos b1) h1)


