set_option maxRecDepth 100000
/-! ===== the house reads a word, a number ===== -/
theorem zi_i2cE {x : Int32} {a : Nat} (h : x = Int32.ofNat a) (ha : a < 65536) : (x.toUInt32 % 65536).toInt32 = Int32.ofNat a := by
  subst h
  apply Int32.toBitVec_inj.mp
  apply BitVec.eq_of_toNat_eq
  show ((Int32.ofNat a).toUInt32 % 65536).toNat = _
  rw [UInt32.toNat_mod]
  show a % 4294967296 % 65536 = a % 4294967296
  omega
theorem wd0 {d : Nat} {S : zS} (hF : zFin true S) {tp : Nat → Nat} {sz at0 nd r : Nat}  (hR : xR tp sz S r at0 nd) (hs0 : sz ≤ 300) (ha0 : at0 ≤ sz) (hr1 : 1639 ≤ r) (hr2 : r < gN S)  {post : Outcome × zS → Prop} (h1 : zEv d 245 10 [.ref r, .int (Int32.ofNat at0), .int (Int32.ofNat at0), .retAddr 0, .retAddr 0] [] S post) : zCall d 245 [.ref r] S post := by
  have ht : ztab 245 = ztb245 := rfl
  show zEv d 245 0 [.ref r, .retAddr 0, .retAddr 0, .retAddr 0, .retAddr 0] [] S post
  refine zv_c1 ht rfl rfl ?_
  refine zv_ei (x := Int32.ofNat at0) ht rfl rfl (zhas_of (hR.1.2.2.2.1) rfl) hR.1.1 ?_
  refine zv_c2 (L' := [.ref r, .int (Int32.ofNat at0), .retAddr 0, .retAddr 0, .retAddr 0]) ht rfl rfl ?_
  refine zv_c1 ht rfl rfl ?_
  refine zv_ei (x := Int32.ofNat at0) ht rfl rfl (zhas_of (hR.1.2.2.2.1) rfl) hR.1.1 ?_
  refine zv_c2 (L' := [.ref r, .int (Int32.ofNat at0), .int (Int32.ofNat at0), .retAddr 0, .retAddr 0]) ht rfl rfl ?_
  exact h1

theorem wd10 {d : Nat} {S : zS} (hF : zFin true S) (hd : 2 ≤ d) {tp : Nat → Nat} {sz at0 nd r : Nat} (from_ to : Nat) (hR : xR tp sz S r at0 nd) (hs0 : sz ≤ 300) (ha0 : at0 ≤ sz) (hr1 : 1639 ≤ r) (hr2 : r < gN S)  (hfr : from_ ≤ to) (hto : to ≤ sz) (hN2 : gN S < 1900000) {post : Outcome × zS → Prop} (h1 : ((sz ≤ to) ∨ (¬ (((¬ (tp to % 256 < 97)) ∧ (¬ (122 < tp to % 256))) ∨ ((¬ (tp to % 256 < 48)) ∧ (¬ (57 < tp to % 256))) ∨ (tp to % 256 = 95)))) → zEv d 245 47 [.ref r, .int (Int32.ofNat from_), .int (Int32.ofNat to), .retAddr 0, .retAddr 0] [] S post) (h2 : (¬ (sz ≤ to)) → (((¬ (tp to % 256 < 97)) ∧ (¬ (122 < tp to % 256))) ∨ ((¬ (tp to % 256 < 48)) ∧ (¬ (57 < tp to % 256))) ∨ (tp to % 256 = 95)) → zEv d 245 10 [.ref r, .int (Int32.ofNat from_), .int (Int32.ofNat (to + 1)), .retAddr 0, .retAddr 0] [] S post) : zEv d 245 10 [.ref r, .int (Int32.ofNat from_), .int (Int32.ofNat to), .retAddr 0, .retAddr 0] [] S post := by
  have ht : ztab 245 = ztb245 := rfl
  refine zv_c1 ht rfl rfl (zv_c1 ht rfl rfl ?_)
  refine zv_g3 (q := 0) ht rfl hF rfl rfl (zhas_of (hR.1.2.2.2.1) rfl) hR.1.2.2.2.2 ?_
  refine zv_e1 (x := Int32.ofNat sz) ht rfl rfl hR.1.2.2.1 ?_
  refine zv_br ht rfl rfl rfl (fun b1 => ?_) (fun b1 => ?_)
  · replace b1 : sz ≤ to := (zi_leE (a := sz) (b := to) rfl rfl (by omega) (by omega)).mp b1
    exact (h1 (Or.inl b1))
  · replace b1 : ¬ (sz ≤ to) := fun h => b1 ((zi_leE (a := sz) (b := to) rfl rfl (by omega) (by omega)).mpr h)
    refine zv_c1 ht rfl rfl (zv_c1 ht rfl rfl ?_)
    refine zv_g3 (q := 0) ht rfl hF rfl rfl (zhas_of (hR.1.2.2.2.1) rfl) hR.1.2.2.2.2 ?_
    refine zv_gl (st' := [.ref 40, .ref r]) ht rfl hF rfl rfl rfl ?_
    refine zv_c1 ht rfl rfl ?_
    refine zv_baE (j := to) (x := xb tp to) ht rfl rfl rfl rfl (zi_natE (a := to) rfl (by omega)) ⟨(Or.inl rfl), zi_inE (a := to) (n := 300) rfl (by omega) (by omega)⟩ (xR.tape hR (j := to) (by omega)) ?_
    refine zv_c1 ht rfl rfl ?_
    refine zv_e1 (x := Int32.ofNat (tp to % 256)) ht rfl rfl xb_tpm ?_
    have C3 : ∀ (pst2 : Outcome × zS → Prop), (pst2 (.returned (some (.int (zbo (((¬ (tp to % 256 < 97)) ∧ (¬ (122 < tp to % 256))) ∨ ((¬ (tp to % 256 < 48)) ∧ (¬ (57 < tp to % 256))) ∨ (tp to % 256 = 95))))), S)) → zCall (d - 1) 246 [.ref r, .int (Int32.ofNat (tp to % 256))] S pst2 := by
      intro pst2 k32
      have ht4 : ztab 246 = ztb246 := rfl
      show zEv (d - 1) 246 0 [.ref r, .int (Int32.ofNat (tp to % 256))] [] S pst2
      refine zv_c1 ht4 rfl rfl (zv_c1 ht4 rfl rfl (zv_c1 ht4 rfl rfl ?_))
      have C6 : ∀ (pst5 : Outcome × zS → Prop), (pst5 (.returned (some (.int (zbo ((¬ (tp to % 256 < 97)) ∧ (¬ (122 < tp to % 256)))))), S)) → zCall ((d - 1) - 1) 5 [.int (Int32.ofNat (tp to % 256)), .int 97, .int 122] S pst5 := by
        intro pst5 k14
        have ht7 : ztab 5 = ztb5 := rfl
        show zEv ((d - 1) - 1) 5 0 [.int (Int32.ofNat (tp to % 256)), .int 97, .int 122] [] S pst5
        refine zv_c1 ht7 rfl rfl (zv_c1 ht7 rfl rfl ?_)
        have J12 : zEv ((d - 1) - 1) 5 15 [.retAddr 0, .retAddr 0, .retAddr 0] [.int (zbo ((¬ (tp to % 256 < 97)) ∧ (¬ (122 < tp to % 256))))] S pst5 := by
          exact zv_rc ht7 rfl rfl rfl rfl zbo_rng k14
        have J10 : ((tp to % 256 < 97) ∨ (122 < tp to % 256)) → zEv ((d - 1) - 1) 5 14 [.retAddr 0, .retAddr 0, .retAddr 0] [] S pst5 := by
          intro b11
          refine zv_c1 ht7 rfl rfl ?_
          exact (zv_sub (zz := zbo ((¬ (tp to % 256 < 97)) ∧ (¬ (122 < tp to % 256)))) (zy := 0) (p := fun zz => zEv ((d - 1) - 1) 5 15 [.retAddr 0, .retAddr 0, .retAddr 0] [.int zz] S pst5) (zbo_neg (b11.elim (fun y1 => (fun h => (fun h => h y1) h.1)) (fun y1 => (fun h => (fun h => h y1) h.2)))) J12)
        refine zv_br ht7 rfl rfl rfl (fun b8 => ?_) (fun b8 => ?_)
        · replace b8 : tp to % 256 < 97 := (zi_ltE (a := (tp to % 256)) (b := 97) rfl rfl (by omega) (by omega)).mp b8
          exact zEv.wk (L := [.retAddr 0, .retAddr 0, .retAddr 0]) (L' := [.int (Int32.ofNat (tp to % 256)), .int 97, .int 122]) (And.intro (Or.inr rfl) (And.intro (Or.inr rfl) (And.intro (Or.inr rfl) trivial))) (J10 (Or.inl b8))
        · replace b8 : ¬ (tp to % 256 < 97) := fun h => b8 ((zi_ltE (a := (tp to % 256)) (b := 97) rfl rfl (by omega) (by omega)).mpr h)
          refine zv_c1 ht7 rfl rfl (zv_c1 ht7 rfl rfl ?_)
          refine zv_br ht7 rfl rfl rfl (fun b9 => ?_) (fun b9 => ?_)
          · replace b9 : 122 < tp to % 256 := (zi_ltE (a := 122) (b := (tp to % 256)) rfl rfl (by omega) (by omega)).mp b9
            exact zEv.wk (L := [.retAddr 0, .retAddr 0, .retAddr 0]) (L' := [.int (Int32.ofNat (tp to % 256)), .int 97, .int 122]) (And.intro (Or.inr rfl) (And.intro (Or.inr rfl) (And.intro (Or.inr rfl) trivial))) (J10 (Or.inr b9))
          · replace b9 : ¬ (122 < tp to % 256) := fun h => b9 ((zi_ltE (a := 122) (b := (tp to % 256)) rfl rfl (by omega) (by omega)).mpr h)
            refine zv_c1 ht7 rfl rfl (zv_c1 ht7 rfl rfl ?_)
            exact zEv.wk (L := [.retAddr 0, .retAddr 0, .retAddr 0]) (L' := [.int (Int32.ofNat (tp to % 256)), .int 97, .int 122]) (And.intro (Or.inr rfl) (And.intro (Or.inr rfl) (And.intro (Or.inr rfl) trivial))) (zv_sub (zz := zbo ((¬ (tp to % 256 < 97)) ∧ (¬ (122 < tp to % 256)))) (zy := 1) (p := fun zz => zEv ((d - 1) - 1) 5 15 [.retAddr 0, .retAddr 0, .retAddr 0] [.int zz] S pst5) (zbo_pos ⟨b8, b9⟩) J12)
      refine zv_cl ht4 rfl rfl rfl rfl (by omega) (Nat.le_of_ble_eq_true rfl) (C6 _ ?_)
      show zEv (d - 1) 246 8 [.ref r, .int (Int32.ofNat (tp to % 256))] [.int (zbo ((¬ (tp to % 256 < 97)) ∧ (¬ (122 < tp to % 256))))] S pst2
      have J30 : zEv (d - 1) 246 33 [.retAddr 0, .retAddr 0] [.int (zbo (((¬ (tp to % 256 < 97)) ∧ (¬ (122 < tp to % 256))) ∨ ((¬ (tp to % 256 < 48)) ∧ (¬ (57 < tp to % 256))) ∨ (tp to % 256 = 95)))] S pst2 := by
        exact zv_rc ht4 rfl rfl rfl rfl zbo_rng k32
      have J28 : (((¬ (tp to % 256 < 97)) ∧ (¬ (122 < tp to % 256))) ∨ ((¬ (tp to % 256 < 48)) ∧ (¬ (57 < tp to % 256))) ∨ (tp to % 256 = 95)) → zEv (d - 1) 246 28 [.retAddr 0, .retAddr 0] [] S pst2 := by
        intro b29
        refine zv_c1 ht4 rfl rfl (zv_c1 ht4 rfl rfl ?_)
        exact (zv_sub (zz := zbo (((¬ (tp to % 256 < 97)) ∧ (¬ (122 < tp to % 256))) ∨ ((¬ (tp to % 256 < 48)) ∧ (¬ (57 < tp to % 256))) ∨ (tp to % 256 = 95))) (zy := 1) (p := fun zz => zEv (d - 1) 246 33 [.retAddr 0, .retAddr 0] [.int zz] S pst2) (zbo_pos b29) J30)
      refine zv_br ht4 rfl rfl rfl (fun b15 => ?_) (fun b15 => ?_)
      · replace b15 : (¬ (tp to % 256 < 97)) ∧ (¬ (122 < tp to % 256)) := Classical.byContradiction (fun h => b15 ((zbo_eq0 : (zbo ((¬ (tp to % 256 < 97)) ∧ (¬ (122 < tp to % 256)))) = 0 ↔ ¬ ((¬ (tp to % 256 < 97)) ∧ (¬ (122 < tp to % 256)))).mpr h))
        exact zEv.wk (L := [.retAddr 0, .retAddr 0]) (L' := [.ref r, .int (Int32.ofNat (tp to % 256))]) (And.intro (Or.inr rfl) (And.intro (Or.inr rfl) trivial)) (J28 (Or.inl b15))
      · replace b15 : ¬ ((¬ (tp to % 256 < 97)) ∧ (¬ (122 < tp to % 256))) := (zbo_eq0 : (zbo ((¬ (tp to % 256 < 97)) ∧ (¬ (122 < tp to % 256)))) = 0 ↔ ¬ ((¬ (tp to % 256 < 97)) ∧ (¬ (122 < tp to % 256)))).mp (Classical.not_not.mp b15)
        refine zv_c1 ht4 rfl rfl (zv_c1 ht4 rfl rfl (zv_c1 ht4 rfl rfl ?_))
        have C17 : ∀ (pst16 : Outcome × zS → Prop), (pst16 (.returned (some (.int (zbo ((¬ (tp to % 256 < 48)) ∧ (¬ (57 < tp to % 256)))))), S)) → zCall ((d - 1) - 1) 5 [.int (Int32.ofNat (tp to % 256)), .int 48, .int 57] S pst16 := by
          intro pst16 k25
          have ht18 : ztab 5 = ztb5 := rfl
          show zEv ((d - 1) - 1) 5 0 [.int (Int32.ofNat (tp to % 256)), .int 48, .int 57] [] S pst16
          refine zv_c1 ht18 rfl rfl (zv_c1 ht18 rfl rfl ?_)
          have J23 : zEv ((d - 1) - 1) 5 15 [.retAddr 0, .retAddr 0, .retAddr 0] [.int (zbo ((¬ (tp to % 256 < 48)) ∧ (¬ (57 < tp to % 256))))] S pst16 := by
            exact zv_rc ht18 rfl rfl rfl rfl zbo_rng k25
          have J21 : ((tp to % 256 < 48) ∨ (57 < tp to % 256)) → zEv ((d - 1) - 1) 5 14 [.retAddr 0, .retAddr 0, .retAddr 0] [] S pst16 := by
            intro b22
            refine zv_c1 ht18 rfl rfl ?_
            exact (zv_sub (zz := zbo ((¬ (tp to % 256 < 48)) ∧ (¬ (57 < tp to % 256)))) (zy := 0) (p := fun zz => zEv ((d - 1) - 1) 5 15 [.retAddr 0, .retAddr 0, .retAddr 0] [.int zz] S pst16) (zbo_neg (b22.elim (fun y1 => (fun h => (fun h => h y1) h.1)) (fun y1 => (fun h => (fun h => h y1) h.2)))) J23)
          refine zv_br ht18 rfl rfl rfl (fun b19 => ?_) (fun b19 => ?_)
          · replace b19 : tp to % 256 < 48 := (zi_ltE (a := (tp to % 256)) (b := 48) rfl rfl (by omega) (by omega)).mp b19
            exact zEv.wk (L := [.retAddr 0, .retAddr 0, .retAddr 0]) (L' := [.int (Int32.ofNat (tp to % 256)), .int 48, .int 57]) (And.intro (Or.inr rfl) (And.intro (Or.inr rfl) (And.intro (Or.inr rfl) trivial))) (J21 (Or.inl b19))
          · replace b19 : ¬ (tp to % 256 < 48) := fun h => b19 ((zi_ltE (a := (tp to % 256)) (b := 48) rfl rfl (by omega) (by omega)).mpr h)
            refine zv_c1 ht18 rfl rfl (zv_c1 ht18 rfl rfl ?_)
            refine zv_br ht18 rfl rfl rfl (fun b20 => ?_) (fun b20 => ?_)
            · replace b20 : 57 < tp to % 256 := (zi_ltE (a := 57) (b := (tp to % 256)) rfl rfl (by omega) (by omega)).mp b20
              exact zEv.wk (L := [.retAddr 0, .retAddr 0, .retAddr 0]) (L' := [.int (Int32.ofNat (tp to % 256)), .int 48, .int 57]) (And.intro (Or.inr rfl) (And.intro (Or.inr rfl) (And.intro (Or.inr rfl) trivial))) (J21 (Or.inr b20))
            · replace b20 : ¬ (57 < tp to % 256) := fun h => b20 ((zi_ltE (a := 57) (b := (tp to % 256)) rfl rfl (by omega) (by omega)).mpr h)
              refine zv_c1 ht18 rfl rfl (zv_c1 ht18 rfl rfl ?_)
              exact zEv.wk (L := [.retAddr 0, .retAddr 0, .retAddr 0]) (L' := [.int (Int32.ofNat (tp to % 256)), .int 48, .int 57]) (And.intro (Or.inr rfl) (And.intro (Or.inr rfl) (And.intro (Or.inr rfl) trivial))) (zv_sub (zz := zbo ((¬ (tp to % 256 < 48)) ∧ (¬ (57 < tp to % 256)))) (zy := 1) (p := fun zz => zEv ((d - 1) - 1) 5 15 [.retAddr 0, .retAddr 0, .retAddr 0] [.int zz] S pst16) (zbo_pos ⟨b19, b20⟩) J23)
        refine zv_cl ht4 rfl rfl rfl rfl (by omega) (Nat.le_of_ble_eq_true rfl) (C17 _ ?_)
        show zEv (d - 1) 246 19 [.ref r, .int (Int32.ofNat (tp to % 256))] [.int (zbo ((¬ (tp to % 256 < 48)) ∧ (¬ (57 < tp to % 256))))] S pst2
        refine zv_br ht4 rfl rfl rfl (fun b26 => ?_) (fun b26 => ?_)
        · replace b26 : (¬ (tp to % 256 < 48)) ∧ (¬ (57 < tp to % 256)) := Classical.byContradiction (fun h => b26 ((zbo_eq0 : (zbo ((¬ (tp to % 256 < 48)) ∧ (¬ (57 < tp to % 256)))) = 0 ↔ ¬ ((¬ (tp to % 256 < 48)) ∧ (¬ (57 < tp to % 256)))).mpr h))
          exact zEv.wk (L := [.retAddr 0, .retAddr 0]) (L' := [.ref r, .int (Int32.ofNat (tp to % 256))]) (And.intro (Or.inr rfl) (And.intro (Or.inr rfl) trivial)) (J28 (Or.inr (Or.inl b26)))
        · replace b26 : ¬ ((¬ (tp to % 256 < 48)) ∧ (¬ (57 < tp to % 256))) := (zbo_eq0 : (zbo ((¬ (tp to % 256 < 48)) ∧ (¬ (57 < tp to % 256)))) = 0 ↔ ¬ ((¬ (tp to % 256 < 48)) ∧ (¬ (57 < tp to % 256)))).mp (Classical.not_not.mp b26)
          refine zv_c1 ht4 rfl rfl (zv_c1 ht4 rfl rfl ?_)
          refine zv_br ht4 rfl rfl rfl (fun b27 => ?_) (fun b27 => ?_)
          · replace b27 : ¬ (tp to % 256 = 95) := fun h => b27 ((zi_eqE (a := (tp to % 256)) (b := 95) rfl rfl (by omega) (by omega)).mpr h)
            refine zv_c1 ht4 rfl rfl ?_
            exact zEv.wk (L := [.retAddr 0, .retAddr 0]) (L' := [.ref r, .int (Int32.ofNat (tp to % 256))]) (And.intro (Or.inr rfl) (And.intro (Or.inr rfl) trivial)) (zv_sub (zz := zbo (((¬ (tp to % 256 < 97)) ∧ (¬ (122 < tp to % 256))) ∨ ((¬ (tp to % 256 < 48)) ∧ (¬ (57 < tp to % 256))) ∨ (tp to % 256 = 95))) (zy := 0) (p := fun zz => zEv (d - 1) 246 33 [.retAddr 0, .retAddr 0] [.int zz] S pst2) (zbo_neg (fun h => h.elim b15 (fun h => h.elim b26 b27))) J30)
          · replace b27 : tp to % 256 = 95 := (zi_eqE (a := (tp to % 256)) (b := 95) rfl rfl (by omega) (by omega)).mp (Classical.not_not.mp b27)
            exact zEv.wk (L := [.retAddr 0, .retAddr 0]) (L' := [.ref r, .int (Int32.ofNat (tp to % 256))]) (And.intro (Or.inr rfl) (And.intro (Or.inr rfl) trivial)) (J28 (Or.inr (Or.inr b27)))
    refine zv_cl ht rfl rfl rfl (zv_tgv (hR.1.2.2.2.1) rfl) (by omega) (Nat.le_of_ble_eq_true rfl) (C3 _ ?_)
    show zEv d 245 38 [.ref r, .int (Int32.ofNat from_), .int (Int32.ofNat to), .retAddr 0, .retAddr 0] [.int (zbo (((¬ (tp to % 256 < 97)) ∧ (¬ (122 < tp to % 256))) ∨ ((¬ (tp to % 256 < 48)) ∧ (¬ (57 < tp to % 256))) ∨ (tp to % 256 = 95)))] S post
    refine zv_br ht rfl rfl rfl (fun b33 => ?_) (fun b33 => ?_)
    · replace b33 : ¬ (((¬ (tp to % 256 < 97)) ∧ (¬ (122 < tp to % 256))) ∨ ((¬ (tp to % 256 < 48)) ∧ (¬ (57 < tp to % 256))) ∨ (tp to % 256 = 95)) := (zbo_eq0 : (zbo (((¬ (tp to % 256 < 97)) ∧ (¬ (122 < tp to % 256))) ∨ ((¬ (tp to % 256 < 48)) ∧ (¬ (57 < tp to % 256))) ∨ (tp to % 256 = 95))) = 0 ↔ ¬ (((¬ (tp to % 256 < 97)) ∧ (¬ (122 < tp to % 256))) ∨ ((¬ (tp to % 256 < 48)) ∧ (¬ (57 < tp to % 256))) ∨ (tp to % 256 = 95))).mp b33
      exact (h1 (Or.inr b33))
    · replace b33 : ((¬ (tp to % 256 < 97)) ∧ (¬ (122 < tp to % 256))) ∨ ((¬ (tp to % 256 < 48)) ∧ (¬ (57 < tp to % 256))) ∨ (tp to % 256 = 95) := Classical.byContradiction (fun h => b33 ((zbo_eq0 : (zbo (((¬ (tp to % 256 < 97)) ∧ (¬ (122 < tp to % 256))) ∨ ((¬ (tp to % 256 < 48)) ∧ (¬ (57 < tp to % 256))) ∨ (tp to % 256 = 95))) = 0 ↔ ¬ (((¬ (tp to % 256 < 97)) ∧ (¬ (122 < tp to % 256))) ∨ ((¬ (tp to % 256 < 48)) ∧ (¬ (57 < tp to % 256))) ∨ (tp to % 256 = 95))).mpr h))
      refine zv_iinc (L' := [.ref r, .int (Int32.ofNat from_), .int (Int32.ofNat (to + 1)), .retAddr 0, .retAddr 0]) (i := 2) (x := Int32.ofNat (to + 1)) ht rfl rfl (zi_addE (a := to) (b := 1) rfl rfl) rfl ?_
      refine zv_c1 ht rfl rfl ?_
      exact (h2 b1 b33)

theorem wd47 {d : Nat} {S : zS} (hF : zFin true S) (hd : 2 ≤ d) {tp : Nat → Nat} {sz at0 nd r : Nat} (from_ to : Nat) (hR : xR tp sz S r at0 nd) (hs0 : sz ≤ 300) (ha0 : at0 ≤ sz) (hr1 : 1639 ≤ r) (hr2 : r < gN S)  (hfr : from_ ≤ to) (hto : to ≤ sz) (hN2 : gN S < 1900000) (hat : from_ = at0) {post : Outcome × zS → Prop} (h1 : (¬ (from_ = to)) → zCall (d - 1) 423 [.ref (gN S)] (sNew S 23 0 (zslots 23)) (zAf d 245 61 [.ref r, .int (Int32.ofNat from_), .int (Int32.ofNat to), .retAddr 0, .retAddr 0] [.ref (gN S)] post)) (h2 : (from_ = to) → ∀ S2 : zS, (zFin true S2) → (xFr S S2) → (xFl S2 (gN S) 1 at0) → (gN S + 1 = gN S2 ∧ gZ S2 ≤ gZ S + 3) → post (.threw (gN S), S2)) : zEv d 245 47 [.ref r, .int (Int32.ofNat from_), .int (Int32.ofNat to), .retAddr 0, .retAddr 0] [] S post := by
  have ht : ztab 245 = ztb245 := rfl
  refine zv_c1 ht rfl rfl (zv_c1 ht rfl rfl ?_)
  refine zv_br ht rfl rfl rfl (fun b1 => ?_) (fun b1 => ?_)
  · replace b1 : ¬ (from_ = to) := fun h => b1 ((zi_eqE (a := from_) (b := to) rfl rfl (by omega) (by omega)).mpr h)
    refine zv_ci (st' := [.ref (gN S)]) (S' := sNew S 23 0 (zslots 23)) ht rfl rfl (znew_ok (show 1639 ≤ gN S from by omega) (show gN S < 2000000 from by omega)) ?_
    refine zv_c1 ht rfl rfl ?_
    refine zv_cl ht rfl rfl rfl rfl (by omega) (Nat.le_of_ble_eq_true rfl) (h1 b1)
  · replace b1 : from_ = to := (zi_eqE (a := from_) (b := to) rfl rfl (by omega) (by omega)).mp (Classical.not_not.mp b1)
    refine zv_c1 ht rfl rfl ?_
    refine zv_cl ht rfl rfl rfl (zv_tgv (hR.1.2.2.2.1) rfl) (by omega) (Nat.le_of_ble_eq_true rfl) (x_form (S := S) (tp := tp) (sz := sz) (r := r) hF (by omega) hR (by omega) (fun S2 hF2 k2 x2 g2 => ?_))
    show zEv d 245 56 [.ref r, .int (Int32.ofNat from_), .int (Int32.ofNat to), .retAddr 0, .retAddr 0] [.ref (gN S)] S2 post
    exact zv_th ht rfl rfl rfl ⟨x2.1, (show gN S < gN S2 from by omega)⟩ rfl (h2 b1 S2 hF2 k2 x2 g2)

theorem wd68 {d : Nat} {S : zS} (hF : zFin true S) (hd : 1 ≤ d) {tp : Nat → Nat} (r to b k : Nat) (hth : gP S 135 r = some 0) (htr : ztyp S r = 7) (hk : k ≤ to) (hto : to ≤ 300) (htb : ztyp S b = 23) (hk2 : k < to) (htk : gA S 40 k = Int32.ofNat (tp k)) (h128 : tp k < 128) {post : Outcome × zS → Prop} (h1 : zCall (d - 1) 424 [.ref b, .int (Int32.ofNat (tp k))] S (zAf d 245 86 [.ref r, .retAddr 0, .int (Int32.ofNat to), .ref b, .int (Int32.ofNat k)] [] post)) : zEv d 245 68 [.ref r, .retAddr 0, .int (Int32.ofNat to), .ref b, .int (Int32.ofNat k)] [] S post := by
  have ht : ztab 245 = ztb245 := rfl
  refine zv_c1 ht rfl rfl (zv_c1 ht rfl rfl ?_)
  refine zv_br ht rfl rfl rfl (fun b1 => (show False from by have hq := b1; have hz : to ≤ k := (zi_leE (a := to) (b := k) rfl rfl (by omega) (by omega)).mp hq; omega).elim) (fun b1 => ?_)
  refine zv_c1 ht rfl rfl (zv_c1 ht rfl rfl ?_)
  refine zv_g3 (q := 0) ht rfl hF rfl rfl (zhas_of (htr) rfl) hth ?_
  refine zv_gl (st' := [.ref 40, .ref b]) ht rfl hF rfl rfl rfl ?_
  refine zv_c1 ht rfl rfl ?_
  refine zv_baE (j := k) (x := Int32.ofNat (tp k)) ht rfl rfl rfl rfl (zi_natE (a := k) rfl (by omega)) ⟨(Or.inl rfl), zi_inE (a := k) (n := 300) rfl (by omega) (by omega)⟩ htk ?_
  refine zv_e1 (x := Int32.ofNat (tp k)) ht rfl rfl (zi_i2cE (a := tp k) rfl (by omega)) ?_
  refine zv_cl ht rfl rfl rfl (zv_tgv (htb) rfl) (by omega) (Nat.le_of_ble_eq_true rfl) h1

theorem wd68e {d : Nat} {S : zS} (hF : zFin true S) (hd : 1 ≤ d) (r to b k : Nat) (hth : gP S 135 r = some 0) (htr : ztyp S r = 7) (hk : k ≤ to) (hto : to ≤ 300) (htb : ztyp S b = 23) (hk2 : k = to) {post : Outcome × zS → Prop} (h1 : zCall (d - 1) 425 [.ref b] S (zAf d 245 97 [.ref r, .retAddr 0, .int (Int32.ofNat to), .ref b, .int (Int32.ofNat k)] [] post)) : zEv d 245 68 [.ref r, .retAddr 0, .int (Int32.ofNat to), .ref b, .int (Int32.ofNat k)] [] S post := by
  have ht : ztab 245 = ztb245 := rfl
  refine zv_c1 ht rfl rfl (zv_c1 ht rfl rfl ?_)
  refine zv_br ht rfl rfl rfl (fun b1 => ?_) (fun b1 => (show False from by have hq := b1; have hz : ¬ (to ≤ k) := fun h => hq ((zi_leE (a := to) (b := k) rfl rfl (by omega) (by omega)).mpr h); omega).elim)
  refine zv_c1 ht rfl rfl ?_
  refine zv_cl ht rfl rfl rfl (zv_tgv (htb) rfl) (by omega) (Nat.le_of_ble_eq_true rfl) h1

theorem wd89 {d : Nat} {S : zS} (hF : zFin true S) (r to b k : Nat) (hk : k < to) (hto : to ≤ 300) {post : Outcome × zS → Prop} (h1 : zEv d 245 68 [.ref r, .retAddr 0, .int (Int32.ofNat to), .ref b, .int (Int32.ofNat (k + 1))] [] S post) : zEv d 245 89 [.ref r, .retAddr 0, .int (Int32.ofNat to), .ref b, .int (Int32.ofNat k)] [.ref b] S post := by
  have ht : ztab 245 = ztb245 := rfl
  refine zv_c1 ht rfl rfl ?_
  refine zv_iinc (L' := [.ref r, .retAddr 0, .int (Int32.ofNat to), .ref b, .int (Int32.ofNat (k + 1))]) (i := 4) (x := Int32.ofNat (k + 1)) ht rfl rfl (zi_addE (a := k) (b := 1) rfl rfl) rfl ?_
  refine zv_c1 ht rfl rfl ?_
  exact h1

theorem wd64 {d : Nat} {S : zS} (hF : zFin true S) (r from_ to b : Nat) (hto : to ≤ 300) {post : Outcome × zS → Prop} (h1 : zEv d 245 68 [.ref r, .retAddr 0, .int (Int32.ofNat to), .ref b, .int (Int32.ofNat from_)] [] S post) : zEv d 245 64 [.ref r, .int (Int32.ofNat from_), .int (Int32.ofNat to), .retAddr 0, .retAddr 0] [.ref b] S post := by
  have ht : ztab 245 = ztb245 := rfl
  refine zv_c2 (L' := [.ref r, .int (Int32.ofNat from_), .int (Int32.ofNat to), .ref b, .retAddr 0]) ht rfl rfl ?_
  refine zv_c1 ht rfl rfl ?_
  refine zv_c2 (L' := [.ref r, .int (Int32.ofNat from_), .int (Int32.ofNat to), .ref b, .int (Int32.ofNat from_)]) ht rfl rfl ?_
  exact zEv.wk (L := [.ref r, .retAddr 0, .int (Int32.ofNat to), .ref b, .int (Int32.ofNat from_)]) (L' := [.ref r, .int (Int32.ofNat from_), .int (Int32.ofNat to), .ref b, .int (Int32.ofNat from_)]) (And.intro (Or.inl rfl) (And.intro (Or.inr rfl) (And.intro (Or.inl rfl) (And.intro (Or.inl rfl) (And.intro (Or.inl rfl) trivial))))) h1

theorem wd100 {d : Nat} {S : zS} (hF : zFin true S) (s : Nat) {post : Outcome × zS → Prop} (h1 : post (.returned (some (.ref s)), S)) : zEv d 245 100 [.retAddr 0, .retAddr 0, .retAddr 0, .retAddr 0, .retAddr 0] [.ref s] S post := by
  have ht : ztab 245 = ztb245 := rfl
  exact zv_rt ht rfl rfl rfl rfl h1

section X11
variable {d : Nat} {post : Outcome × zS → Prop} {tp : Nat → Nat} {sz : Nat}
theorem pWEn_step {n e : Nat} (h : e < sz ∧ pWb (tp e)) : pWEn tp sz (n + 1) e = pWEn tp sz n (e + 1) := by
  rw [pWEn]
  exact if_pos h
theorem pWEn_stop {n e : Nat} (h : ¬ (e < sz ∧ pWb (tp e))) : pWEn tp sz n e = e := by
  cases n with
  | zero => rfl
  | succ n => rw [pWEn]; exact if_neg h
theorem pWEn_in : ∀ {n e : Nat}, e + n ≤ sz → pWEn tp sz n e ≤ sz ∧ ∀ j, e ≤ j → j < pWEn tp sz n e → j < sz ∧ pWb (tp j) := by
  intro n
  induction n with
  | zero => intro e h; exact ⟨by show e ≤ sz; omega, fun j h1 h2 => by have h2 : j < e := h2; omega⟩
  | succ n ih =>
    intro e h
    by_cases hc : e < sz ∧ pWb (tp e)
    · rw [pWEn_step hc]
      obtain ⟨h1, h2⟩ := ih (e := e + 1) (by omega)
      refine ⟨h1, fun j g1 g2 => ?_⟩
      by_cases e1 : j = e
      · rw [e1]; exact hc
      · exact h2 j (by omega) g2
    · rw [pWEn_stop hc]
      exact ⟨by omega, fun j h1 h2 => by omega⟩
theorem pWE_in {at0 : Nat} (h : at0 ≤ sz) : pWE tp sz at0 ≤ sz ∧ ∀ j, at0 ≤ j → j < pWE tp sz at0 → j < sz ∧ pWb (tp j) := pWEn_in (by omega)
theorem pWb_128 {c : Nat} (h : pWb c) : c < 128 := by
  unfold pWb at h
  omega
theorem pWl_snoc {a k : Nat} (h : a ≤ k) : pWl tp a (k + 1) = pWl tp a k ++ [tp k] := by
  unfold pWl
  rw [show k + 1 - a = (k - a) + 1 from by omega, List.range_succ, List.map_append, List.map_cons, List.map_nil]
  congr 2
  congr 1
  omega
theorem xR.ke {S S' : zS} {r at0 nd N : Nat} {Fs : List Nat} (h : xR tp sz S r at0 nd) (k : zKE N [] Fs S S') (hr : r < N) (hF : ∀ f ∈ [133, 134, 8, 135, 199, 200], f ∉ Fs) : xR tp sz S' r at0 nd := by
  obtain ⟨⟨g1, g2, g3, g4, g5⟩, g6, g7, g8, g9, g10⟩ := h
  have hr9 := g9.1
  have q : ∀ f ∈ [133, 134, 8, 135, 199, 200], ∀ a, (a < N ∨ zLB ≤ a) → gI S' f a = gI S f a ∧ gP S' f a = gP S f a := fun f hf a ha => ⟨k.I ha (by simp) (hF f hf), k.P ha (by simp) (hF f hf)⟩
  refine ⟨⟨(q _ (by decide) _ (Or.inl hr)).1.trans g1, (q _ (by decide) _ (Or.inl hr)).1.trans g2, (q _ (by decide) _ (Or.inl (by omega))).1.trans g3, (k.T (Or.inl hr)).trans g4, (q _ (by decide) _ (Or.inl hr)).2.trans g5⟩, fun j hj => (congrFun (k.A (Or.inl (by omega)) (by simp)) j).trans (g6 j hj), g7, g8, ⟨g9.1, Nat.lt_of_lt_of_le g9.2 k.1.1⟩, fun w hw => ?_⟩
  obtain ⟨s1, s2⟩ := g10 w hw
  have hb : zLB ≤ zLB + 2 * w := Nat.le_add_right _ _
  refine ⟨s1.k k (Or.inr hb) (fun v hv => ?_) (by simp) ⟨hF _ (by decide), hF _ (by decide)⟩, (q _ (by decide) _ (Or.inr hb)).2.trans s2⟩
  rw [s2] at hv
  have := Option.some.inj hv
  exact ⟨Or.inr (by omega), by simp⟩
/-- what texts keep -/
def xFw (S S' : zS) : Prop := zKE (gN S) [] [201, 202, 203, 204, 206] S S'
theorem xFw.fr {S S' : zS} (h : xFw S S') : xFr S S' := zKE.w h (Nat.le_refl _) (fun _ h => h) (by decide)
theorem xFw.R {S S' : zS} {r at0 nd : Nat} (k : xFw S S') (h : xR tp sz S r at0 nd) : xR tp sz S' r at0 nd := h.ke k h.2.2.2.2.1.2 (by decide)
theorem x_wordL {S : zS} (hd : 7 ≤ d) {r at0 nd e b : Nat} (hR : xR tp sz S r at0 nd) (hN2 : gN S < 1800000) (he : e ≤ sz) (h128 : ∀ j, at0 ≤ j → j < e → tp j < 128) (hb : gN S ≤ b)
    (h1 : ∀ S' s, zFin true S' → xFw S S' → zDs S' s (pWl tp at0 e) → (gN S ≤ s ∧ s < gN S') → gN S ≤ gN S' ∧ gN S' ≤ gN S + (2 * (e - at0) + 22) ∧ gZ S' ≤ gZ S + (5 * (e - at0) + 60) → post (.returned (some (.ref s)), S')) :
    ∀ m k S1 v cap, k + m = e → at0 ≤ k → zFin true S1 → zSb S1 b v cap (pWl tp at0 k) → xFw S S1 → gN S ≤ v → cap ≤ max 16 (2 * (k - at0) + 2) → gN S1 + 16 ≤ gN S + 2 + cap → gZ S1 + 32 ≤ gZ S + 20 + 2 * cap → zEv d 245 68 [.ref r, .retAddr 0, .int (Int32.ofNat e), .ref b, .int (Int32.ofNat k)] [] S1 post := by
  obtain ⟨h8, h9⟩ := hR.2.2.2.1
  obtain ⟨hr1, hr2⟩ := hR.2.2.2.2.1
  intro m
  induction m with
  | zero =>
    intro k S1 v cap hk hat f1 sb k1 hv hcap n1 z1
    have R1 := k1.R hR
    have ek : k = e := by omega
    subst ek
    refine wd68e (S := S1) f1 (by omega) r k b k R1.1.2.2.2.2 R1.1.2.2.2.1 (Nat.le_refl _) (by omega) sb.1 rfl ?_
    refine j_toString (N := gN S) f1 (by omega) sb (by omega) (by omega) hv (fun S2 f2 ds hp k2 n2 z2 => ?_)
    show zEv d 245 100 _ [.ref (gN S1)] S2 post
    refine zEv.wk (by repeat' (first | exact trivial | exact Or.inl rfl | exact Or.inr rfl | refine ⟨?_, ?_⟩)) (wd100 (S := S2) f2 _ ?_)
    have hl := @pWl_len tp at0 k
    have hN := k1.1.1
    have z2 : gZ S2 = gZ S1 + (4 + (pWl tp at0 k).length) := z2
    exact h1 S2 _ f2 (zKE.tr k1 (zKE.w k2 k1.1.1 (fun _ h => h) (fun _ h => by cases h))) ds ⟨k1.1.1, by omega⟩ (by omega)
  | succ m ih =>
    intro k S1 v cap hk hat f1 sb k1 hv hcap n1 z1
    have R1 := k1.R hR
    have hkt := h128 k hat (by omega)
    refine wd68 (S := S1) (tp := tp) f1 (by omega) r e b k R1.1.2.2.2.2 R1.1.2.2.2.1 (by omega) (by omega) sb.1 (by omega) ((R1.2.1 k (by omega)).trans (xb_7 hkt)) hkt ?_
    have hl := @pWl_len tp at0 k
    refine j_appC (N := gN S) f1 (by omega) sb (by omega) (by omega) hv (by omega) (tp k) hkt (fun S2 v2 cap2 f2 sb2 k2 g2 g3 => ?_)
    show zEv d 245 89 _ [.ref b] S2 post
    refine zEv.wk (by repeat' (first | exact trivial | exact Or.inl rfl | exact Or.inr rfl | refine ⟨?_, ?_⟩)) (wd89 (S := S2) f2 r e b k (by omega) (by omega) ?_)
    rw [← pWl_snoc hat] at sb2
    refine ih (k + 1) S2 v2 cap2 (by omega) (by omega) f2 sb2 (zKE.tr k1 (zKE.w k2 (Nat.le_refl _) (fun _ h => h) (by decide))) g3.2.1 (by omega) (by omega) (by omega)
theorem x_word {S : zS} (hF : zFin true S) (hd : 7 ≤ d) {r at0 nd : Nat} (hR : xR tp sz S r at0 nd) (hN2 : gN S < 1800000)
    (h1 : ∀ S' s, zFin true S' → at0 < pWE tp sz at0 → pWE tp sz at0 ≤ sz → xFr S S' → xR tp sz S' r at0 nd → zDs S' s (pWl tp at0 (pWE tp sz at0)) → (gN S ≤ s ∧ s < gN S') → gN S ≤ gN S' ∧ gN S' ≤ gN S + (2 * (pWE tp sz at0 - at0) + 22) ∧ gZ S' ≤ gZ S + (5 * (pWE tp sz at0 - at0) + 60) → post (.returned (some (.ref s)), S'))
    (h2 : ∀ S' q, zFin true S' → pWE tp sz at0 = at0 → xFr S S' → xFl S' q 1 at0 → gN S ≤ gN S' ∧ gN S' ≤ gN S + 1 ∧ gZ S' ≤ gZ S + 3 → post (.threw q, S')) : zCall d 245 [.ref r] S post := by
  have hLB : zLB = 4294967296 := rfl
  obtain ⟨h8, h9⟩ := hR.2.2.2.1
  obtain ⟨hr1, hr2⟩ := hR.2.2.2.2.1
  have ht := hR.2.2.1
  refine wd0 hF hR h8 h9 hr1 hr2 ?_
  have cond : ∀ to, to < sz → ((((¬ (tp to % 256 < 97)) ∧ (¬ (122 < tp to % 256))) ∨ ((¬ (tp to % 256 < 48)) ∧ (¬ (57 < tp to % 256))) ∨ (tp to % 256 = 95)) ↔ pWb (tp to)) := by
    intro to _
    rw [Nat.mod_eq_of_lt (ht to)]
    unfold pWb
    omega
  -- where the word ends
  have key : ∀ n to, at0 ≤ to → to + n = sz → (pWEn tp sz n to = pWE tp sz at0) → zEv d 245 10 [.ref r, .int (Int32.ofNat at0), .int (Int32.ofNat to), .retAddr 0, .retAddr 0] [] S post := by
    have fin : ∀ to, at0 ≤ to → to ≤ sz → to = pWE tp sz at0 → zEv d 245 47 [.ref r, .int (Int32.ofNat at0), .int (Int32.ofNat to), .retAddr 0, .retAddr 0] [] S post := by
      intro to hat hto heq
      obtain ⟨w1, w2⟩ := pWE_in (tp := tp) (sz := sz) (at0 := at0) h9
      refine wd47 hF (by omega) at0 to hR h8 h9 hr1 hr2 hat hto (by omega) rfl (fun hne => ?_) (fun e S2 f2 k2 x2 g2 => ?_)
      · refine j_newSb (S := sNew S 23 0 (zslots 23)) (b := gN S) (zFin_new hF) (by omega) (ztyp_new_at (by omega)) (Nat.lt_succ_self _) (by omega) gI_new_at (by show gN S + 1 < 1900000; omega) (fun S1 f1 sb1 k1 n1 z1 => ?_)
        have n1 : gN S1 = gN S + 2 := n1
        have z1 : gZ S1 = gZ S + 4 + 16 := z1
        show zEv d 245 64 _ [.ref (gN S)] S1 post
        refine zEv.wk (by repeat' (first | exact trivial | exact Or.inl rfl | exact Or.inr rfl | refine ⟨?_, ?_⟩)) (wd64 (S := S1) f1 r at0 to (gN S) (by omega) ?_)
        have kk1 : xFw S S1 := zKE.tr (zKE_new (t := 23) (n := 0) (s := zslots 23) ⟨Nat.le_refl _, by omega⟩) (zKE.w k1 (Nat.le_succ _) (fun _ h => h) (by decide))
        have sb1' : zSb S1 (gN S) (gN S + 1) 16 (pWl tp at0 at0) := by
          rw [pWl_nil (Nat.le_refl _)]
          exact sb1
        refine x_wordL (S := S) (d := d) (e := to) (nd := nd) hd hR hN2 hto (fun j q1 q2 => pWb_128 (w2 j q1 (by omega)).2) (Nat.le_refl _) (fun S' s f' k' ds' s' g' => ?_) (to - at0) at0 S1 (gN S + 1) 16 (by omega) (Nat.le_refl _) f1 sb1' kk1 (Nat.le_succ _) (by omega) (by omega) (by omega)
        subst heq
        exact h1 S' s f' (by omega) w1 k'.fr (k'.R hR) ds' s' g'
      · exact h2 S2 _ f2 (by omega) k2 x2 ⟨by omega, by omega, g2.2⟩
    intro n
    induction n with
    | zero =>
      intro to hat hto heq
      refine wd10 hF (by omega) at0 to hR h8 h9 hr1 hr2 hat (by omega) (by omega) (fun _ => fin to hat (by omega) heq) (fun c => absurd (by omega) c)
    | succ n ih =>
      intro to hat hto heq
      refine wd10 hF (by omega) at0 to hR h8 h9 hr1 hr2 hat (by omega) (by omega) (fun c => ?_) (fun c1 c2 => ?_)
      · have hc : ¬ (to < sz ∧ pWb (tp to)) := by
          rintro ⟨x, y⟩
          rcases c with c | c
          · omega
          · exact c ((cond to x).mpr y)
        rw [pWEn_stop hc] at heq
        exact fin to hat (by omega) heq
      · have hc : to < sz ∧ pWb (tp to) := ⟨by omega, (cond to (by omega)).mp c2⟩
        rw [pWEn_step hc] at heq
        exact ih (to + 1) (by omega) (by omega) heq
  exact key (sz - at0) at0 (Nat.le_refl _) (by omega) rfl
end X11

