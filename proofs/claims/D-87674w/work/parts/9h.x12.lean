set_option maxRecDepth 100000
/-! ===== the house reads a number, letters; it begins a node ===== -/
section X12
variable {d : Nat} {post : Outcome × zS → Prop} {tp : Nat → Nat} {sz : Nat}
theorem x_hereC {S : zS} (hF : zFin true S) {r at0 nd c : Nat} (hR : xR tp sz S r at0 nd) (hc : pSee tp sz at0 = c) (h : post (.returned (some (.int (Int32.ofNat c))), S)) : zCall d 251 [.ref r] S post := x_here hF hR (fun c' e _ => by rw [← e, hc]; exact h)
end X12
theorem xn0 {d : Nat} {S : zS} (hF : zFin true S) (hd : 2 ≤ d) {tp : Nat → Nat} {sz at0 nd r : Nat} (c : Nat) (hR : xR tp sz S r at0 nd) (hs0 : sz ≤ 300) (ha0 : at0 ≤ sz) (hr1 : 1639 ≤ r) (hr2 : r < gN S) (hN2 : gN S < 1900000) (hc : pSee tp sz at0 = c) (hc1 : c < 256) {post : Outcome × zS → Prop} (h1 : ((¬ (c < 49)) ∧ (¬ (57 < c))) → zEv d 255 21 [.ref r, .long 0, .retAddr 0] [] S post) (h2 : (¬ ((¬ (c < 49)) ∧ (¬ (57 < c)))) → ∀ S12 : zS, (zFin true S12) → (xFr S S12) → (xFl S12 (gN S) 1 at0) → (gN S + 1 = gN S12 ∧ gZ S12 ≤ gZ S + 3) → post (.threw (gN S), S12)) : zCall d 255 [.ref r] S post := by
  have ht : ztab 255 = ztb255 := rfl
  show zEv d 255 0 [.ref r, .retAddr 0, .retAddr 0] [] S post
  refine zv_c1 ht rfl rfl ?_
  refine zv_cl ht rfl rfl rfl (zv_tgv (hR.1.2.2.2.1) rfl) (by omega) (Nat.le_of_ble_eq_true rfl) (x_hereC (S := S) hF hR hc ?_)
  show zEv d 255 4 [.ref r, .retAddr 0, .retAddr 0] [.int (Int32.ofNat c)] S post
  refine zv_c1 ht rfl rfl (zv_c1 ht rfl rfl ?_)
  have C2 : ∀ (pst1 : Outcome × zS → Prop), (pst1 (.returned (some (.int (zbo ((¬ (c < 49)) ∧ (¬ (57 < c)))))), S)) → zCall (d - 1) 5 [.int (Int32.ofNat c), .int 49, .int 57] S pst1 := by
    intro pst1 k10
    have ht3 : ztab 5 = ztb5 := rfl
    show zEv (d - 1) 5 0 [.int (Int32.ofNat c), .int 49, .int 57] [] S pst1
    refine zv_c1 ht3 rfl rfl (zv_c1 ht3 rfl rfl ?_)
    have J8 : zEv (d - 1) 5 15 [.retAddr 0, .retAddr 0, .retAddr 0] [.int (zbo ((¬ (c < 49)) ∧ (¬ (57 < c))))] S pst1 := by
      exact zv_rc ht3 rfl rfl rfl rfl zbo_rng k10
    have J6 : ((c < 49) ∨ (57 < c)) → zEv (d - 1) 5 14 [.retAddr 0, .retAddr 0, .retAddr 0] [] S pst1 := by
      intro b7
      refine zv_c1 ht3 rfl rfl ?_
      exact (zv_sub (zz := zbo ((¬ (c < 49)) ∧ (¬ (57 < c)))) (zy := 0) (p := fun zz => zEv (d - 1) 5 15 [.retAddr 0, .retAddr 0, .retAddr 0] [.int zz] S pst1) (zbo_neg (b7.elim (fun y1 => (fun h => (fun h => h y1) h.1)) (fun y1 => (fun h => (fun h => h y1) h.2)))) J8)
    refine zv_br ht3 rfl rfl rfl (fun b4 => ?_) (fun b4 => ?_)
    · replace b4 : c < 49 := (zi_ltE (a := c) (b := 49) rfl rfl (by omega) (by omega)).mp b4
      exact zEv.wk (L := [.retAddr 0, .retAddr 0, .retAddr 0]) (L' := [.int (Int32.ofNat c), .int 49, .int 57]) (And.intro (Or.inr rfl) (And.intro (Or.inr rfl) (And.intro (Or.inr rfl) trivial))) (J6 (Or.inl b4))
    · replace b4 : ¬ (c < 49) := fun h => b4 ((zi_ltE (a := c) (b := 49) rfl rfl (by omega) (by omega)).mpr h)
      refine zv_c1 ht3 rfl rfl (zv_c1 ht3 rfl rfl ?_)
      refine zv_br ht3 rfl rfl rfl (fun b5 => ?_) (fun b5 => ?_)
      · replace b5 : 57 < c := (zi_ltE (a := 57) (b := c) rfl rfl (by omega) (by omega)).mp b5
        exact zEv.wk (L := [.retAddr 0, .retAddr 0, .retAddr 0]) (L' := [.int (Int32.ofNat c), .int 49, .int 57]) (And.intro (Or.inr rfl) (And.intro (Or.inr rfl) (And.intro (Or.inr rfl) trivial))) (J6 (Or.inr b5))
      · replace b5 : ¬ (57 < c) := fun h => b5 ((zi_ltE (a := 57) (b := c) rfl rfl (by omega) (by omega)).mpr h)
        refine zv_c1 ht3 rfl rfl (zv_c1 ht3 rfl rfl ?_)
        exact zEv.wk (L := [.retAddr 0, .retAddr 0, .retAddr 0]) (L' := [.int (Int32.ofNat c), .int 49, .int 57]) (And.intro (Or.inr rfl) (And.intro (Or.inr rfl) (And.intro (Or.inr rfl) trivial))) (zv_sub (zz := zbo ((¬ (c < 49)) ∧ (¬ (57 < c)))) (zy := 1) (p := fun zz => zEv (d - 1) 5 15 [.retAddr 0, .retAddr 0, .retAddr 0] [.int zz] S pst1) (zbo_pos ⟨b4, b5⟩) J8)
  refine zv_cl ht rfl rfl rfl rfl (by omega) (Nat.le_of_ble_eq_true rfl) (C2 _ ?_)
  show zEv d 255 11 [.ref r, .retAddr 0, .retAddr 0] [.int (zbo ((¬ (c < 49)) ∧ (¬ (57 < c))))] S post
  refine zv_br ht rfl rfl rfl (fun b11 => ?_) (fun b11 => ?_)
  · replace b11 : (¬ (c < 49)) ∧ (¬ (57 < c)) := Classical.byContradiction (fun h => b11 ((zbo_eq0 : (zbo ((¬ (c < 49)) ∧ (¬ (57 < c)))) = 0 ↔ ¬ ((¬ (c < 49)) ∧ (¬ (57 < c)))).mpr h))
    refine zv_c1 ht rfl rfl ?_
    refine zv_c2 (L' := [.ref r, .long 0, .retAddr 0]) ht rfl rfl ?_
    exact (h1 b11)
  · replace b11 : ¬ ((¬ (c < 49)) ∧ (¬ (57 < c))) := (zbo_eq0 : (zbo ((¬ (c < 49)) ∧ (¬ (57 < c)))) = 0 ↔ ¬ ((¬ (c < 49)) ∧ (¬ (57 < c)))).mp (Classical.not_not.mp b11)
    refine zv_c1 ht rfl rfl ?_
    refine zv_cl ht rfl rfl rfl (zv_tgv (hR.1.2.2.2.1) rfl) (by omega) (Nat.le_of_ble_eq_true rfl) (x_form (S := S) (tp := tp) (sz := sz) (r := r) hF (by omega) hR (by omega) (fun S12 hF12 k12 x12 g12 => ?_))
    show zEv d 255 18 [.ref r, .retAddr 0, .retAddr 0] [.ref (gN S)] S12 post
    exact zv_th ht rfl rfl rfl ⟨x12.1, (show gN S < gN S12 from by omega)⟩ rfl (h2 b11 S12 hF12 k12 x12 g12)

theorem xn21 {d : Nat} {S : zS} (hF : zFin true S) (hd : 2 ≤ d) {tp : Nat → Nat} {sz at0 nd r : Nat} (c v : Nat) (hR : xR tp sz S r at0 nd) (hs0 : sz ≤ 300) (ha0 : at0 ≤ sz) (hr1 : 1639 ≤ r) (hr2 : r < gN S) (hN2 : gN S < 1900000) (hc : pSee tp sz at0 = c) (hc1 : c < 256) (hv : v < 2147483648) {post : Outcome × zS → Prop} (h1 : (¬ ((¬ (c < 48)) ∧ (¬ (57 < c)))) → post (.returned (some (.int (Int64.toInt32 (Int64.ofNat v)))), S)) (h2 : ((¬ (c < 48)) ∧ (¬ (57 < c))) → ((lg_cmp ((((10 : Int64) * (Int64.ofNat v)) + (Int32.toInt64 (Int32.ofNat c))) - 48) 2147483647) ≤ 0) → zEv d 255 21 [.ref r, .long ((((10 : Int64) * (Int64.ofNat v)) + (Int32.toInt64 (Int32.ofNat c))) - 48), .retAddr 0] [] (sI S 133 r (Int32.ofNat (at0 + 1))) post) (h3 : ((¬ (c < 48)) ∧ (¬ (57 < c))) → (¬ ((lg_cmp ((((10 : Int64) * (Int64.ofNat v)) + (Int32.toInt64 (Int32.ofNat c))) - 48) 2147483647) ≤ 0)) → ∀ S13 : zS, (zFin true S13) → (xFr S S13) → (xFl S13 (gN S) 1 at0) → (gN S + 1 = gN S13 ∧ gZ S13 ≤ gZ S + 3) → post (.threw (gN S), S13)) : zEv d 255 21 [.ref r, .long (Int64.ofNat v), .retAddr 0] [] S post := by
  have ht : ztab 255 = ztb255 := rfl
  refine zv_c1 ht rfl rfl ?_
  refine zv_cl ht rfl rfl rfl (zv_tgv (hR.1.2.2.2.1) rfl) (by omega) (Nat.le_of_ble_eq_true rfl) (x_hereC (S := S) hF hR hc ?_)
  show zEv d 255 25 [.ref r, .long (Int64.ofNat v), .retAddr 0] [.int (Int32.ofNat c)] S post
  refine zv_c1 ht rfl rfl (zv_c1 ht rfl rfl ?_)
  have C2 : ∀ (pst1 : Outcome × zS → Prop), (pst1 (.returned (some (.int (zbo ((¬ (c < 48)) ∧ (¬ (57 < c)))))), S)) → zCall (d - 1) 5 [.int (Int32.ofNat c), .int 48, .int 57] S pst1 := by
    intro pst1 k10
    have ht3 : ztab 5 = ztb5 := rfl
    show zEv (d - 1) 5 0 [.int (Int32.ofNat c), .int 48, .int 57] [] S pst1
    refine zv_c1 ht3 rfl rfl (zv_c1 ht3 rfl rfl ?_)
    have J8 : zEv (d - 1) 5 15 [.retAddr 0, .retAddr 0, .retAddr 0] [.int (zbo ((¬ (c < 48)) ∧ (¬ (57 < c))))] S pst1 := by
      exact zv_rc ht3 rfl rfl rfl rfl zbo_rng k10
    have J6 : ((c < 48) ∨ (57 < c)) → zEv (d - 1) 5 14 [.retAddr 0, .retAddr 0, .retAddr 0] [] S pst1 := by
      intro b7
      refine zv_c1 ht3 rfl rfl ?_
      exact (zv_sub (zz := zbo ((¬ (c < 48)) ∧ (¬ (57 < c)))) (zy := 0) (p := fun zz => zEv (d - 1) 5 15 [.retAddr 0, .retAddr 0, .retAddr 0] [.int zz] S pst1) (zbo_neg (b7.elim (fun y1 => (fun h => (fun h => h y1) h.1)) (fun y1 => (fun h => (fun h => h y1) h.2)))) J8)
    refine zv_br ht3 rfl rfl rfl (fun b4 => ?_) (fun b4 => ?_)
    · replace b4 : c < 48 := (zi_ltE (a := c) (b := 48) rfl rfl (by omega) (by omega)).mp b4
      exact zEv.wk (L := [.retAddr 0, .retAddr 0, .retAddr 0]) (L' := [.int (Int32.ofNat c), .int 48, .int 57]) (And.intro (Or.inr rfl) (And.intro (Or.inr rfl) (And.intro (Or.inr rfl) trivial))) (J6 (Or.inl b4))
    · replace b4 : ¬ (c < 48) := fun h => b4 ((zi_ltE (a := c) (b := 48) rfl rfl (by omega) (by omega)).mpr h)
      refine zv_c1 ht3 rfl rfl (zv_c1 ht3 rfl rfl ?_)
      refine zv_br ht3 rfl rfl rfl (fun b5 => ?_) (fun b5 => ?_)
      · replace b5 : 57 < c := (zi_ltE (a := 57) (b := c) rfl rfl (by omega) (by omega)).mp b5
        exact zEv.wk (L := [.retAddr 0, .retAddr 0, .retAddr 0]) (L' := [.int (Int32.ofNat c), .int 48, .int 57]) (And.intro (Or.inr rfl) (And.intro (Or.inr rfl) (And.intro (Or.inr rfl) trivial))) (J6 (Or.inr b5))
      · replace b5 : ¬ (57 < c) := fun h => b5 ((zi_ltE (a := 57) (b := c) rfl rfl (by omega) (by omega)).mpr h)
        refine zv_c1 ht3 rfl rfl (zv_c1 ht3 rfl rfl ?_)
        exact zEv.wk (L := [.retAddr 0, .retAddr 0, .retAddr 0]) (L' := [.int (Int32.ofNat c), .int 48, .int 57]) (And.intro (Or.inr rfl) (And.intro (Or.inr rfl) (And.intro (Or.inr rfl) trivial))) (zv_sub (zz := zbo ((¬ (c < 48)) ∧ (¬ (57 < c)))) (zy := 1) (p := fun zz => zEv (d - 1) 5 15 [.retAddr 0, .retAddr 0, .retAddr 0] [.int zz] S pst1) (zbo_pos ⟨b4, b5⟩) J8)
  refine zv_cl ht rfl rfl rfl rfl (by omega) (Nat.le_of_ble_eq_true rfl) (C2 _ ?_)
  show zEv d 255 32 [.ref r, .long (Int64.ofNat v), .retAddr 0] [.int (zbo ((¬ (c < 48)) ∧ (¬ (57 < c))))] S post
  refine zv_br ht rfl rfl rfl (fun b11 => ?_) (fun b11 => ?_)
  · replace b11 : ¬ ((¬ (c < 48)) ∧ (¬ (57 < c))) := (zbo_eq0 : (zbo ((¬ (c < 48)) ∧ (¬ (57 < c)))) = 0 ↔ ¬ ((¬ (c < 48)) ∧ (¬ (57 < c)))).mp b11
    refine zv_c1 ht rfl rfl ?_
    refine zv_c1 (st' := [.int (Int64.toInt32 (Int64.ofNat v))]) (S' := S) ht rfl rfl ?_
    exact zv_rt ht rfl rfl rfl rfl (h1 b11)
  · replace b11 : (¬ (c < 48)) ∧ (¬ (57 < c)) := Classical.byContradiction (fun h => b11 ((zbo_eq0 : (zbo ((¬ (c < 48)) ∧ (¬ (57 < c)))) = 0 ↔ ¬ ((¬ (c < 48)) ∧ (¬ (57 < c)))).mpr h))
    refine zv_c1 ht rfl rfl (zv_c1 ht rfl rfl ?_)
    refine zv_c1 (st' := [.long ((10 : Int64) * (Int64.ofNat v))]) (S' := S) ht rfl rfl ?_
    refine zv_c1 ht rfl rfl ?_
    refine zv_cl ht rfl rfl rfl (zv_tgv (hR.1.2.2.2.1) rfl) (by omega) (Nat.le_of_ble_eq_true rfl) (x_hereC (S := S) hF hR hc ?_)
    show zEv d 255 44 [.ref r, .long (Int64.ofNat v), .retAddr 0] [.int (Int32.ofNat c), .long ((10 : Int64) * (Int64.ofNat v))] S post
    refine zv_c1 (st' := [.long (Int32.toInt64 (Int32.ofNat c)), .long ((10 : Int64) * (Int64.ofNat v))]) (S' := S) ht rfl rfl ?_
    refine zv_c1 (st' := [.long (((10 : Int64) * (Int64.ofNat v)) + (Int32.toInt64 (Int32.ofNat c)))]) (S' := S) ht rfl rfl ?_
    refine zv_c1 ht rfl rfl ?_
    refine zv_c1 (st' := [.long ((((10 : Int64) * (Int64.ofNat v)) + (Int32.toInt64 (Int32.ofNat c))) - 48)]) (S' := S) ht rfl rfl ?_
    refine zv_c2 (L' := [.ref r, .long ((((10 : Int64) * (Int64.ofNat v)) + (Int32.toInt64 (Int32.ofNat c))) - 48), .retAddr 0]) ht rfl rfl ?_
    refine zv_c1 ht rfl rfl (zv_c1 ht rfl rfl ?_)
    refine zv_c1 (st' := [.int (lg_cmp ((((10 : Int64) * (Int64.ofNat v)) + (Int32.toInt64 (Int32.ofNat c))) - 48) 2147483647)]) (S' := S) ht rfl rfl ?_
    refine zv_br ht rfl rfl rfl (fun b12 => ?_) (fun b12 => ?_)
    · refine zv_c1 ht rfl rfl (zv_c1 ht rfl rfl ?_)
      refine zv_ei (x := Int32.ofNat at0) ht rfl rfl (zhas_of (hR.1.2.2.2.1) rfl) hR.1.1 ?_
      refine zv_c1 ht rfl rfl ?_
      refine zv_e1 (x := Int32.ofNat (at0 + 1)) ht rfl rfl (zi_addE (a := at0) (b := 1) rfl rfl) ?_
      refine zv_ci (S' := sI S 133 r (Int32.ofNat (at0 + 1))) ht rfl rfl ⟨(zhas_of (hR.1.2.2.2.1) rfl), (show r < gN S from by omega)⟩ ?_
      refine zv_c1 ht rfl rfl ?_
      exact (h2 b11 b12)
    · refine zv_c1 ht rfl rfl ?_
      refine zv_cl ht rfl rfl rfl (zv_tgv (hR.1.2.2.2.1) rfl) (by omega) (Nat.le_of_ble_eq_true rfl) (x_form (S := S) (tp := tp) (sz := sz) (r := r) hF (by omega) hR (by omega) (fun S13 hF13 k13 x13 g13 => ?_))
      show zEv d 255 63 [.ref r, .long ((((10 : Int64) * (Int64.ofNat v)) + (Int32.toInt64 (Int32.ofNat c))) - 48), .retAddr 0] [.ref (gN S)] S13 post
      exact zv_th ht rfl rfl rfl ⟨x13.1, (show gN S < gN S13 from by omega)⟩ rfl (h3 b11 b12 S13 hF13 k13 x13 g13)

theorem xtk {d : Nat} {S : zS} (hF : zFin true S) (hd : 2 ≤ d) {tp : Nat → Nat} {sz at0 nd r : Nat} (w c : Nat) (hR : xR tp sz S r at0 nd) (hs0 : sz ≤ 300) (ha0 : at0 ≤ sz) (hr1 : 1639 ≤ r) (hr2 : r < gN S) (hN2 : gN S < 1900000) (hc : pSee tp sz at0 = c) (hc1 : c < 256) (hw : w < 256) {post : Outcome × zS → Prop} (h1 : (c = w) → post (.returned none, sI S 133 r (Int32.ofNat (at0 + 1)))) (h2 : (¬ (c = w)) → ∀ S2 : zS, (zFin true S2) → (xFr S S2) → (xFl S2 (gN S) 1 at0) → (gN S + 1 = gN S2 ∧ gZ S2 ≤ gZ S + 3) → post (.threw (gN S), S2)) : zCall d 250 [.ref r, .int (Int32.ofNat w)] S post := by
  have ht : ztab 250 = ztb250 := rfl
  show zEv d 250 0 [.ref r, .int (Int32.ofNat w)] [] S post
  refine zv_c1 ht rfl rfl ?_
  refine zv_cl ht rfl rfl rfl (zv_tgv (hR.1.2.2.2.1) rfl) (by omega) (Nat.le_of_ble_eq_true rfl) (x_hereC (S := S) hF hR hc ?_)
  show zEv d 250 4 [.ref r, .int (Int32.ofNat w)] [.int (Int32.ofNat c)] S post
  refine zv_c1 ht rfl rfl ?_
  refine zv_br ht rfl rfl rfl (fun b1 => ?_) (fun b1 => ?_)
  · replace b1 : c = w := (zi_eqE (a := c) (b := w) rfl rfl (by omega) (by omega)).mp b1
    refine zv_c1 ht rfl rfl (zv_c1 ht rfl rfl ?_)
    refine zv_ei (x := Int32.ofNat at0) ht rfl rfl (zhas_of (hR.1.2.2.2.1) rfl) hR.1.1 ?_
    refine zv_c1 ht rfl rfl ?_
    refine zv_e1 (x := Int32.ofNat (at0 + 1)) ht rfl rfl (zi_addE (a := at0) (b := 1) rfl rfl) ?_
    refine zv_ci (S' := sI S 133 r (Int32.ofNat (at0 + 1))) ht rfl rfl ⟨(zhas_of (hR.1.2.2.2.1) rfl), (show r < gN S from by omega)⟩ ?_
    exact zv_rt ht rfl rfl rfl rfl (h1 b1)
  · replace b1 : ¬ (c = w) := fun h => b1 ((zi_eqE (a := c) (b := w) rfl rfl (by omega) (by omega)).mpr h)
    refine zv_c1 ht rfl rfl ?_
    refine zv_cl ht rfl rfl rfl (zv_tgv (hR.1.2.2.2.1) rfl) (by omega) (Nat.le_of_ble_eq_true rfl) (x_form (S := S) (tp := tp) (sz := sz) (r := r) hF (by omega) hR (by omega) (fun S2 hF2 k2 x2 g2 => ?_))
    show zEv d 250 12 [.ref r, .int (Int32.ofNat w)] [.ref (gN S)] S2 post
    exact zv_th ht rfl rfl rfl ⟨x2.1, (show gN S < gN S2 from by omega)⟩ rfl (h2 b1 S2 hF2 k2 x2 g2)

theorem xky {d : Nat} {S : zS} (hF : zFin true S) (hd : 2 ≤ d) {tp : Nat → Nat} {sz at0 nd r : Nat} (c : Nat) (hR : xR tp sz S r at0 nd) (hs0 : sz ≤ 300) (ha0 : at0 ≤ sz) (hr1 : 1639 ≤ r) (hr2 : r < gN S) (hN2 : gN S < 1900000) (hc : pSee tp sz at0 = c) (hc1 : c < 256) {post : Outcome × zS → Prop} (h1 : ((¬ (c < 65)) ∧ (¬ (80 < c))) → post (.returned (some (.int ((xb tp at0) - 65))), sI S 133 r (Int32.ofNat (at0 + 1)))) (h2 : (¬ ((¬ (c < 65)) ∧ (¬ (80 < c)))) → ∀ S12 : zS, (zFin true S12) → (xFr S S12) → (xFl S12 (gN S) 1 at0) → (gN S + 1 = gN S12 ∧ gZ S12 ≤ gZ S + 3) → post (.threw (gN S), S12)) : zCall d 252 [.ref r] S post := by
  have ht : ztab 252 = ztb252 := rfl
  show zEv d 252 0 [.ref r] [] S post
  refine zv_c1 ht rfl rfl ?_
  refine zv_cl ht rfl rfl rfl (zv_tgv (hR.1.2.2.2.1) rfl) (by omega) (Nat.le_of_ble_eq_true rfl) (x_hereC (S := S) hF hR hc ?_)
  show zEv d 252 4 [.ref r] [.int (Int32.ofNat c)] S post
  refine zv_c1 ht rfl rfl (zv_c1 ht rfl rfl ?_)
  have C2 : ∀ (pst1 : Outcome × zS → Prop), (pst1 (.returned (some (.int (zbo ((¬ (c < 65)) ∧ (¬ (80 < c)))))), S)) → zCall (d - 1) 5 [.int (Int32.ofNat c), .int 65, .int 80] S pst1 := by
    intro pst1 k10
    have ht3 : ztab 5 = ztb5 := rfl
    show zEv (d - 1) 5 0 [.int (Int32.ofNat c), .int 65, .int 80] [] S pst1
    refine zv_c1 ht3 rfl rfl (zv_c1 ht3 rfl rfl ?_)
    have J8 : zEv (d - 1) 5 15 [.retAddr 0, .retAddr 0, .retAddr 0] [.int (zbo ((¬ (c < 65)) ∧ (¬ (80 < c))))] S pst1 := by
      exact zv_rc ht3 rfl rfl rfl rfl zbo_rng k10
    have J6 : ((c < 65) ∨ (80 < c)) → zEv (d - 1) 5 14 [.retAddr 0, .retAddr 0, .retAddr 0] [] S pst1 := by
      intro b7
      refine zv_c1 ht3 rfl rfl ?_
      exact (zv_sub (zz := zbo ((¬ (c < 65)) ∧ (¬ (80 < c)))) (zy := 0) (p := fun zz => zEv (d - 1) 5 15 [.retAddr 0, .retAddr 0, .retAddr 0] [.int zz] S pst1) (zbo_neg (b7.elim (fun y1 => (fun h => (fun h => h y1) h.1)) (fun y1 => (fun h => (fun h => h y1) h.2)))) J8)
    refine zv_br ht3 rfl rfl rfl (fun b4 => ?_) (fun b4 => ?_)
    · replace b4 : c < 65 := (zi_ltE (a := c) (b := 65) rfl rfl (by omega) (by omega)).mp b4
      exact zEv.wk (L := [.retAddr 0, .retAddr 0, .retAddr 0]) (L' := [.int (Int32.ofNat c), .int 65, .int 80]) (And.intro (Or.inr rfl) (And.intro (Or.inr rfl) (And.intro (Or.inr rfl) trivial))) (J6 (Or.inl b4))
    · replace b4 : ¬ (c < 65) := fun h => b4 ((zi_ltE (a := c) (b := 65) rfl rfl (by omega) (by omega)).mpr h)
      refine zv_c1 ht3 rfl rfl (zv_c1 ht3 rfl rfl ?_)
      refine zv_br ht3 rfl rfl rfl (fun b5 => ?_) (fun b5 => ?_)
      · replace b5 : 80 < c := (zi_ltE (a := 80) (b := c) rfl rfl (by omega) (by omega)).mp b5
        exact zEv.wk (L := [.retAddr 0, .retAddr 0, .retAddr 0]) (L' := [.int (Int32.ofNat c), .int 65, .int 80]) (And.intro (Or.inr rfl) (And.intro (Or.inr rfl) (And.intro (Or.inr rfl) trivial))) (J6 (Or.inr b5))
      · replace b5 : ¬ (80 < c) := fun h => b5 ((zi_ltE (a := 80) (b := c) rfl rfl (by omega) (by omega)).mpr h)
        refine zv_c1 ht3 rfl rfl (zv_c1 ht3 rfl rfl ?_)
        exact zEv.wk (L := [.retAddr 0, .retAddr 0, .retAddr 0]) (L' := [.int (Int32.ofNat c), .int 65, .int 80]) (And.intro (Or.inr rfl) (And.intro (Or.inr rfl) (And.intro (Or.inr rfl) trivial))) (zv_sub (zz := zbo ((¬ (c < 65)) ∧ (¬ (80 < c)))) (zy := 1) (p := fun zz => zEv (d - 1) 5 15 [.retAddr 0, .retAddr 0, .retAddr 0] [.int zz] S pst1) (zbo_pos ⟨b4, b5⟩) J8)
  refine zv_cl ht rfl rfl rfl rfl (by omega) (Nat.le_of_ble_eq_true rfl) (C2 _ ?_)
  show zEv d 252 11 [.ref r] [.int (zbo ((¬ (c < 65)) ∧ (¬ (80 < c))))] S post
  refine zv_br ht rfl rfl rfl (fun b11 => ?_) (fun b11 => ?_)
  · replace b11 : (¬ (c < 65)) ∧ (¬ (80 < c)) := Classical.byContradiction (fun h => b11 ((zbo_eq0 : (zbo ((¬ (c < 65)) ∧ (¬ (80 < c)))) = 0 ↔ ¬ ((¬ (c < 65)) ∧ (¬ (80 < c)))).mpr h))
    refine zv_c1 ht rfl rfl (zv_c1 ht rfl rfl ?_)
    refine zv_ei (x := Int32.ofNat at0) ht rfl rfl (zhas_of (hR.1.2.2.2.1) rfl) hR.1.1 ?_
    refine zv_c1 ht rfl rfl ?_
    refine zv_e1 (x := Int32.ofNat (at0 + 1)) ht rfl rfl (zi_addE (a := at0) (b := 1) rfl rfl) ?_
    refine zv_ci (S' := sI S 133 r (Int32.ofNat (at0 + 1))) ht rfl rfl ⟨(zhas_of (hR.1.2.2.2.1) rfl), (show r < gN S from by omega)⟩ ?_
    refine zv_c1 ht rfl rfl ?_
    refine zv_g3 (q := 0) ht rfl hF rfl rfl (zhas_of (hR.1.2.2.2.1) rfl) hR.1.2.2.2.2 ?_
    refine zv_gl (st' := [.ref 40]) ht rfl hF rfl rfl rfl ?_
    refine zv_c1 ht rfl rfl ?_
    refine zv_ei (x := Int32.ofNat (at0 + 1)) ht rfl rfl (zhas_of (hR.1.2.2.2.1) rfl) gI_sI_at ?_
    refine zv_c1 ht rfl rfl ?_
    refine zv_e1 (x := Int32.ofNat at0) ht rfl rfl (zi_subE (a := at0 + 1) (b := 1) rfl rfl (by omega)) ?_
    refine zv_baE (j := at0) (x := xb tp at0) ht rfl rfl rfl rfl (zi_natE (a := at0) rfl (by omega)) ⟨(Or.inl rfl), zi_inE (a := at0) (n := 300) rfl (by omega) (by omega)⟩ (xR.tape hR (j := at0) (by omega)) ?_
    refine zv_c1 ht rfl rfl ?_
    refine zv_c1 (st' := [.int ((xb tp at0) - 65)]) (S' := sI S 133 r (Int32.ofNat (at0 + 1))) ht rfl rfl ?_
    exact zv_rt ht rfl rfl rfl rfl (h1 b11)
  · replace b11 : ¬ ((¬ (c < 65)) ∧ (¬ (80 < c))) := (zbo_eq0 : (zbo ((¬ (c < 65)) ∧ (¬ (80 < c)))) = 0 ↔ ¬ ((¬ (c < 65)) ∧ (¬ (80 < c)))).mp (Classical.not_not.mp b11)
    refine zv_c1 ht rfl rfl ?_
    refine zv_cl ht rfl rfl rfl (zv_tgv (hR.1.2.2.2.1) rfl) (by omega) (Nat.le_of_ble_eq_true rfl) (x_form (S := S) (tp := tp) (sz := sz) (r := r) hF (by omega) hR (by omega) (fun S12 hF12 k12 x12 g12 => ?_))
    show zEv d 252 18 [.ref r] [.ref (gN S)] S12 post
    exact zv_th ht rfl rfl rfl ⟨x12.1, (show gN S < gN S12 from by omega)⟩ rfl (h2 b11 S12 hF12 k12 x12 g12)

theorem xsc {d : Nat} {S : zS} (hF : zFin true S) (hd : 2 ≤ d) {tp : Nat → Nat} {sz at0 nd r : Nat} (c : Nat) (hR : xR tp sz S r at0 nd) (hs0 : sz ≤ 300) (ha0 : at0 ≤ sz) (hr1 : 1639 ≤ r) (hr2 : r < gN S) (hN2 : gN S < 1900000) (hc : pSee tp sz at0 = c) (hc1 : c < 256) {post : Outcome × zS → Prop} (h1 : ((¬ (c < 48)) ∧ (¬ (55 < c))) → post (.returned (some (.int ((xb tp at0) - 48))), sI S 133 r (Int32.ofNat (at0 + 1)))) (h2 : (¬ ((¬ (c < 48)) ∧ (¬ (55 < c)))) → ∀ S12 : zS, (zFin true S12) → (xFr S S12) → (xFl S12 (gN S) 1 at0) → (gN S + 1 = gN S12 ∧ gZ S12 ≤ gZ S + 3) → post (.threw (gN S), S12)) : zCall d 258 [.ref r] S post := by
  have ht : ztab 258 = ztb258 := rfl
  show zEv d 258 0 [.ref r] [] S post
  refine zv_c1 ht rfl rfl ?_
  refine zv_cl ht rfl rfl rfl (zv_tgv (hR.1.2.2.2.1) rfl) (by omega) (Nat.le_of_ble_eq_true rfl) (x_hereC (S := S) hF hR hc ?_)
  show zEv d 258 4 [.ref r] [.int (Int32.ofNat c)] S post
  refine zv_c1 ht rfl rfl (zv_c1 ht rfl rfl ?_)
  have C2 : ∀ (pst1 : Outcome × zS → Prop), (pst1 (.returned (some (.int (zbo ((¬ (c < 48)) ∧ (¬ (55 < c)))))), S)) → zCall (d - 1) 5 [.int (Int32.ofNat c), .int 48, .int 55] S pst1 := by
    intro pst1 k10
    have ht3 : ztab 5 = ztb5 := rfl
    show zEv (d - 1) 5 0 [.int (Int32.ofNat c), .int 48, .int 55] [] S pst1
    refine zv_c1 ht3 rfl rfl (zv_c1 ht3 rfl rfl ?_)
    have J8 : zEv (d - 1) 5 15 [.retAddr 0, .retAddr 0, .retAddr 0] [.int (zbo ((¬ (c < 48)) ∧ (¬ (55 < c))))] S pst1 := by
      exact zv_rc ht3 rfl rfl rfl rfl zbo_rng k10
    have J6 : ((c < 48) ∨ (55 < c)) → zEv (d - 1) 5 14 [.retAddr 0, .retAddr 0, .retAddr 0] [] S pst1 := by
      intro b7
      refine zv_c1 ht3 rfl rfl ?_
      exact (zv_sub (zz := zbo ((¬ (c < 48)) ∧ (¬ (55 < c)))) (zy := 0) (p := fun zz => zEv (d - 1) 5 15 [.retAddr 0, .retAddr 0, .retAddr 0] [.int zz] S pst1) (zbo_neg (b7.elim (fun y1 => (fun h => (fun h => h y1) h.1)) (fun y1 => (fun h => (fun h => h y1) h.2)))) J8)
    refine zv_br ht3 rfl rfl rfl (fun b4 => ?_) (fun b4 => ?_)
    · replace b4 : c < 48 := (zi_ltE (a := c) (b := 48) rfl rfl (by omega) (by omega)).mp b4
      exact zEv.wk (L := [.retAddr 0, .retAddr 0, .retAddr 0]) (L' := [.int (Int32.ofNat c), .int 48, .int 55]) (And.intro (Or.inr rfl) (And.intro (Or.inr rfl) (And.intro (Or.inr rfl) trivial))) (J6 (Or.inl b4))
    · replace b4 : ¬ (c < 48) := fun h => b4 ((zi_ltE (a := c) (b := 48) rfl rfl (by omega) (by omega)).mpr h)
      refine zv_c1 ht3 rfl rfl (zv_c1 ht3 rfl rfl ?_)
      refine zv_br ht3 rfl rfl rfl (fun b5 => ?_) (fun b5 => ?_)
      · replace b5 : 55 < c := (zi_ltE (a := 55) (b := c) rfl rfl (by omega) (by omega)).mp b5
        exact zEv.wk (L := [.retAddr 0, .retAddr 0, .retAddr 0]) (L' := [.int (Int32.ofNat c), .int 48, .int 55]) (And.intro (Or.inr rfl) (And.intro (Or.inr rfl) (And.intro (Or.inr rfl) trivial))) (J6 (Or.inr b5))
      · replace b5 : ¬ (55 < c) := fun h => b5 ((zi_ltE (a := 55) (b := c) rfl rfl (by omega) (by omega)).mpr h)
        refine zv_c1 ht3 rfl rfl (zv_c1 ht3 rfl rfl ?_)
        exact zEv.wk (L := [.retAddr 0, .retAddr 0, .retAddr 0]) (L' := [.int (Int32.ofNat c), .int 48, .int 55]) (And.intro (Or.inr rfl) (And.intro (Or.inr rfl) (And.intro (Or.inr rfl) trivial))) (zv_sub (zz := zbo ((¬ (c < 48)) ∧ (¬ (55 < c)))) (zy := 1) (p := fun zz => zEv (d - 1) 5 15 [.retAddr 0, .retAddr 0, .retAddr 0] [.int zz] S pst1) (zbo_pos ⟨b4, b5⟩) J8)
  refine zv_cl ht rfl rfl rfl rfl (by omega) (Nat.le_of_ble_eq_true rfl) (C2 _ ?_)
  show zEv d 258 11 [.ref r] [.int (zbo ((¬ (c < 48)) ∧ (¬ (55 < c))))] S post
  refine zv_br ht rfl rfl rfl (fun b11 => ?_) (fun b11 => ?_)
  · replace b11 : (¬ (c < 48)) ∧ (¬ (55 < c)) := Classical.byContradiction (fun h => b11 ((zbo_eq0 : (zbo ((¬ (c < 48)) ∧ (¬ (55 < c)))) = 0 ↔ ¬ ((¬ (c < 48)) ∧ (¬ (55 < c)))).mpr h))
    refine zv_c1 ht rfl rfl (zv_c1 ht rfl rfl ?_)
    refine zv_ei (x := Int32.ofNat at0) ht rfl rfl (zhas_of (hR.1.2.2.2.1) rfl) hR.1.1 ?_
    refine zv_c1 ht rfl rfl ?_
    refine zv_e1 (x := Int32.ofNat (at0 + 1)) ht rfl rfl (zi_addE (a := at0) (b := 1) rfl rfl) ?_
    refine zv_ci (S' := sI S 133 r (Int32.ofNat (at0 + 1))) ht rfl rfl ⟨(zhas_of (hR.1.2.2.2.1) rfl), (show r < gN S from by omega)⟩ ?_
    refine zv_c1 ht rfl rfl ?_
    refine zv_g3 (q := 0) ht rfl hF rfl rfl (zhas_of (hR.1.2.2.2.1) rfl) hR.1.2.2.2.2 ?_
    refine zv_gl (st' := [.ref 40]) ht rfl hF rfl rfl rfl ?_
    refine zv_c1 ht rfl rfl ?_
    refine zv_ei (x := Int32.ofNat (at0 + 1)) ht rfl rfl (zhas_of (hR.1.2.2.2.1) rfl) gI_sI_at ?_
    refine zv_c1 ht rfl rfl ?_
    refine zv_e1 (x := Int32.ofNat at0) ht rfl rfl (zi_subE (a := at0 + 1) (b := 1) rfl rfl (by omega)) ?_
    refine zv_baE (j := at0) (x := xb tp at0) ht rfl rfl rfl rfl (zi_natE (a := at0) rfl (by omega)) ⟨(Or.inl rfl), zi_inE (a := at0) (n := 300) rfl (by omega) (by omega)⟩ (xR.tape hR (j := at0) (by omega)) ?_
    refine zv_c1 ht rfl rfl ?_
    refine zv_c1 (st' := [.int ((xb tp at0) - 48)]) (S' := sI S 133 r (Int32.ofNat (at0 + 1))) ht rfl rfl ?_
    exact zv_rt ht rfl rfl rfl rfl (h1 b11)
  · replace b11 : ¬ ((¬ (c < 48)) ∧ (¬ (55 < c))) := (zbo_eq0 : (zbo ((¬ (c < 48)) ∧ (¬ (55 < c)))) = 0 ↔ ¬ ((¬ (c < 48)) ∧ (¬ (55 < c)))).mp (Classical.not_not.mp b11)
    refine zv_c1 ht rfl rfl ?_
    refine zv_cl ht rfl rfl rfl (zv_tgv (hR.1.2.2.2.1) rfl) (by omega) (Nat.le_of_ble_eq_true rfl) (x_form (S := S) (tp := tp) (sz := sz) (r := r) hF (by omega) hR (by omega) (fun S12 hF12 k12 x12 g12 => ?_))
    show zEv d 258 18 [.ref r] [.ref (gN S)] S12 post
    exact zv_th ht rfl rfl rfl ⟨x12.1, (show gN S < gN S12 from by omega)⟩ rfl (h2 b11 S12 hF12 k12 x12 g12)

theorem xbg {d : Nat} {S : zS} (hF : zFin true S) (hd : 1 ≤ d) {tp : Nat → Nat} {sz at0 nd r : Nat} (p m dp : Nat) (hR : xR tp sz S r at0 nd) (hs0 : sz ≤ 300) (ha0 : at0 ≤ sz) (hr1 : 1639 ≤ r) (hr2 : r < gN S) (hN2 : gN S < 1900000) (hp : p ≤ 300) (hm : m ≤ 2) (hdp : dp < 2000) (hnd : nd ≤ 80) {post : Outcome × zS → Prop} (h1 : (¬ (80 < nd + m)) → (dp ≤ 24) → post (.returned none, sI S 134 r (Int32.ofNat (nd + m)))) (h2 : ((80 < nd + m) ∨ (¬ (dp ≤ 24))) → post (.threw (gN S), sI (sI (sT (sNew (sI S 134 r (Int32.ofNat (nd + m))) 8 0 (zslots 8)) (gN S) 8 1) 136 (gN S) 2) 137 (gN S) (Int32.ofNat p))) : zCall d 248 [.ref r, .int (Int32.ofNat p), .int (Int32.ofNat m), .int (Int32.ofNat dp)] S post := by
  have ht : ztab 248 = ztb248 := rfl
  show zEv d 248 0 [.ref r, .int (Int32.ofNat p), .int (Int32.ofNat m), .int (Int32.ofNat dp)] [] S post
  refine zv_c1 ht rfl rfl (zv_c1 ht rfl rfl ?_)
  refine zv_ei (x := Int32.ofNat nd) ht rfl rfl (zhas_of (hR.1.2.2.2.1) rfl) hR.1.2.1 ?_
  refine zv_c1 ht rfl rfl ?_
  refine zv_e1 (x := Int32.ofNat (nd + m)) ht rfl rfl (zi_addE (a := nd) (b := m) rfl rfl) ?_
  refine zv_ci (S' := sI S 134 r (Int32.ofNat (nd + m))) ht rfl rfl ⟨(zhas_of (hR.1.2.2.2.1) rfl), (show r < gN S from by omega)⟩ ?_
  refine zv_c1 ht rfl rfl ?_
  refine zv_ei (x := Int32.ofNat (nd + m)) ht rfl rfl (zhas_of (hR.1.2.2.2.1) rfl) gI_sI_at ?_
  refine zv_c1 ht rfl rfl ?_
  have J3 : ((80 < nd + m) ∨ (¬ (dp ≤ 24))) → zEv d 248 25 [.retAddr 0, .int (Int32.ofNat p), .retAddr 0, .retAddr 0] [] (sI S 134 r (Int32.ofNat (nd + m))) post := by
    intro b4
    refine zv_ci (st' := [.ref (gN S)]) (S' := sNew (sI S 134 r (Int32.ofNat (nd + m))) 8 0 (zslots 8)) ht rfl rfl (znew_ok (show 1639 ≤ gN S from by omega) (show gN S < 2000000 from by omega)) ?_
    refine zv_c1 ht rfl rfl (zv_c1 ht rfl rfl (zv_c1 ht rfl rfl ?_))
    have C6 : ∀ (pst5 : Outcome × zS → Prop), (pst5 (.returned none, sI (sI (sT (sNew (sI S 134 r (Int32.ofNat (nd + m))) 8 0 (zslots 8)) (gN S) 8 1) 136 (gN S) 2) 137 (gN S) (Int32.ofNat p))) → zCall (d - 1) 269 [.ref (gN S), .int 2, .int (Int32.ofNat p)] (sNew (sI S 134 r (Int32.ofNat (nd + m))) 8 0 (zslots 8)) pst5 := by
      intro pst5 k8
      have ht7 : ztab 269 = ztb269 := rfl
      show zEv (d - 1) 269 0 [.ref (gN S), .int 2, .int (Int32.ofNat p)] [] (sNew (sI S 134 r (Int32.ofNat (nd + m))) 8 0 (zslots 8)) pst5
      refine zv_c1 ht7 rfl rfl ?_
      refine zv_ci (S' := sT (sNew (sI S 134 r (Int32.ofNat (nd + m))) 8 0 (zslots 8)) (gN S) 8 1) ht7 rfl rfl ⟨ztyp_new_at (S := sI S 134 r (Int32.ofNat (nd + m))) (t := 8) (n := 0) (s := zslots 8) (show 1639 ≤ gN S from by omega), (show gN S < gN S + 1 from by omega), zlen_new_at (S := sI S 134 r (Int32.ofNat (nd + m))) (t := 8) (n := 0) (s := zslots 8) (show 1639 ≤ gN S from by omega)⟩ ?_
      refine zv_c1 ht7 rfl rfl (zv_c1 ht7 rfl rfl ?_)
      refine zv_ci (S' := sI (sT (sNew (sI S 134 r (Int32.ofNat (nd + m))) 8 0 (zslots 8)) (gN S) 8 1) 136 (gN S) 2) ht7 rfl rfl ⟨⟨(zhas_of (ztyp_sT1 (show 1639 ≤ gN S from by omega)) rfl), (show gN S < gN S + 1 from by omega)⟩, zlen_sT1 (show 1639 ≤ gN S from by omega)⟩ ?_
      refine zv_c1 ht7 rfl rfl (zv_c1 ht7 rfl rfl ?_)
      refine zv_ci (S' := sI (sI (sT (sNew (sI S 134 r (Int32.ofNat (nd + m))) 8 0 (zslots 8)) (gN S) 8 1) 136 (gN S) 2) 137 (gN S) (Int32.ofNat p)) ht7 rfl rfl ⟨⟨(zhas_of (ztyp_sT1 (show 1639 ≤ gN S from by omega)) rfl), (show gN S < gN S + 1 from by omega)⟩, zlen_sT1 (show 1639 ≤ gN S from by omega)⟩ ?_
      exact zv_rt ht7 rfl rfl rfl rfl k8
    refine zv_cl ht rfl rfl rfl rfl (by omega) (Nat.le_of_ble_eq_true rfl) (C6 _ ?_)
    show zEv d 248 34 [.retAddr 0, .int (Int32.ofNat p), .retAddr 0, .retAddr 0] [.ref (gN S)] (sI (sI (sT (sNew (sI S 134 r (Int32.ofNat (nd + m))) 8 0 (zslots 8)) (gN S) 8 1) 136 (gN S) 2) 137 (gN S) (Int32.ofNat p)) post
    exact zv_th ht rfl rfl rfl ⟨ztyp_sT1 (show 1639 ≤ gN S from by omega), (show gN S < gN S + 1 from by omega)⟩ rfl (h2 b4)
  refine zv_br ht rfl rfl rfl (fun b1 => ?_) (fun b1 => ?_)
  · replace b1 : 80 < nd + m := (zi_ltE (a := 80) (b := (nd + m)) rfl rfl (by omega) (by omega)).mp b1
    exact zEv.wk (L := [.retAddr 0, .int (Int32.ofNat p), .retAddr 0, .retAddr 0]) (L' := [.ref r, .int (Int32.ofNat p), .int (Int32.ofNat m), .int (Int32.ofNat dp)]) (And.intro (Or.inr rfl) (And.intro (Or.inl rfl) (And.intro (Or.inr rfl) (And.intro (Or.inr rfl) trivial)))) (J3 (Or.inl b1))
  · replace b1 : ¬ (80 < nd + m) := fun h => b1 ((zi_ltE (a := 80) (b := (nd + m)) rfl rfl (by omega) (by omega)).mpr h)
    refine zv_c1 ht rfl rfl (zv_c1 ht rfl rfl ?_)
    refine zv_br ht rfl rfl rfl (fun b2 => ?_) (fun b2 => ?_)
    · replace b2 : dp ≤ 24 := (zi_leE (a := dp) (b := 24) rfl rfl (by omega) (by omega)).mp b2
      exact zv_rt ht rfl rfl rfl rfl (h1 b1 b2)
    · replace b2 : ¬ (dp ≤ 24) := fun h => b2 ((zi_leE (a := dp) (b := 24) rfl rfl (by omega) (by omega)).mpr h)
      exact zEv.wk (L := [.retAddr 0, .int (Int32.ofNat p), .retAddr 0, .retAddr 0]) (L' := [.ref r, .int (Int32.ofNat p), .int (Int32.ofNat m), .int (Int32.ofNat dp)]) (And.intro (Or.inr rfl) (And.intro (Or.inl rfl) (And.intro (Or.inr rfl) (And.intro (Or.inr rfl) trivial)))) (J3 (Or.inr b2))

theorem xen {d : Nat} {S : zS} (hF : zFin true S) (hd : 2 ≤ d) {tp : Nat → Nat} {sz at0 nd r : Nat}  (hR : xR tp sz S r at0 nd) (hs0 : sz ≤ 300) (ha0 : at0 ≤ sz) (hr1 : 1639 ≤ r) (hr2 : r < gN S) (hN2 : gN S < 1900000) {post : Outcome × zS → Prop} (h1 : (sz ≤ at0) → post (.returned none, S)) (h2 : (¬ (sz ≤ at0)) → ∀ S2 : zS, (zFin true S2) → (xFr S S2) → (xFl S2 (gN S) 1 at0) → (gN S + 1 = gN S2 ∧ gZ S2 ≤ gZ S + 3) → post (.threw (gN S), S2)) : zCall d 268 [.ref r] S post := by
  have ht : ztab 268 = ztb268 := rfl
  show zEv d 268 0 [.ref r] [] S post
  refine zv_c1 ht rfl rfl ?_
  refine zv_ei (x := Int32.ofNat at0) ht rfl rfl (zhas_of (hR.1.2.2.2.1) rfl) hR.1.1 ?_
  refine zv_c1 ht rfl rfl ?_
  refine zv_g3 (q := 0) ht rfl hF rfl rfl (zhas_of (hR.1.2.2.2.1) rfl) hR.1.2.2.2.2 ?_
  refine zv_e1 (x := Int32.ofNat sz) ht rfl rfl hR.1.2.2.1 ?_
  refine zv_br ht rfl rfl rfl (fun b1 => ?_) (fun b1 => ?_)
  · replace b1 : sz ≤ at0 := (zi_leE (a := sz) (b := at0) rfl rfl (by omega) (by omega)).mp b1
    exact zv_rt ht rfl rfl rfl rfl (h1 b1)
  · replace b1 : ¬ (sz ≤ at0) := fun h => b1 ((zi_leE (a := sz) (b := at0) rfl rfl (by omega) (by omega)).mpr h)
    refine zv_c1 ht rfl rfl ?_
    refine zv_cl ht rfl rfl rfl (zv_tgv (hR.1.2.2.2.1) rfl) (by omega) (Nat.le_of_ble_eq_true rfl) (x_form (S := S) (tp := tp) (sz := sz) (r := r) hF (by omega) hR (by omega) (fun S2 hF2 k2 x2 g2 => ?_))
    show zEv d 268 18 [.ref r] [.ref (gN S)] S2 post
    exact zv_th ht rfl rfl rfl ⟨x2.1, (show gN S < gN S2 from by omega)⟩ rfl (h2 b1 S2 hF2 k2 x2 g2)

section X12b
variable {d : Nat} {post : Outcome × zS → Prop} {tp : Nat → Nat} {sz : Nat}
theorem xFr_at {S : zS} {r : Nat} {v : Int32} : xFr S (sI S 133 r v) := zKE_sI (Or.inl (by decide))
theorem xFr_nd {S : zS} {r : Nat} {v : Int32} : xFr S (sI S 134 r v) := zKE_sI (Or.inl (by decide))
theorem xsee_lt {at0 c : Nat} (h : pSee tp sz at0 = c) (hc : 0 < c) : at0 < sz ∧ tp at0 = c := by
  unfold pSee at h
  split at h
  · exact ⟨by assumption, h⟩
  · omega
theorem x_take {S : zS} (hF : zFin true S) (hd : 2 ≤ d) {r at0 nd w : Nat} (hR : xR tp sz S r at0 nd) (hN2 : gN S < 1900000) (hw : w < 256) (hw0 : 0 < w)
    (h1 : ∀ S', zFin true S' → pWant tp sz w at0 = .ok (at0 + 1) → xFr S S' → xR tp sz S' r (at0 + 1) nd → gN S ≤ gN S' ∧ gN S' ≤ gN S + 0 ∧ gZ S' ≤ gZ S + 0 → at0 + 1 ≤ sz → post (.returned none, S'))
    (h2 : ∀ S' q, zFin true S' → pWant tp sz w at0 = .error (1, at0) → xFr S S' → xFl S' q 1 at0 → gN S ≤ gN S' ∧ gN S' ≤ gN S + 1 ∧ gZ S' ≤ gZ S + 3 → post (.threw q, S')) : zCall d 250 [.ref r, .int (Int32.ofNat w)] S post := by
  have h8 := hR.2.2.2.1
  have h9 := hR.2.2.2.2.1
  refine xtk hF (by omega) w (pSee tp sz at0) hR h8.1 h8.2 h9.1 h9.2 hN2 rfl (pSee_lt hR.2.2.1) hw (fun c => ?_) (fun c S2 f2 k2 x2 g2 => ?_)
  · have hl := (xsee_lt c hw0).1
    exact h1 _ hF (if_pos c) xFr_at (xR_at hR hl) ⟨Nat.le_refl _, Nat.le_refl _, Nat.le_refl _⟩ hl
  · exact h2 _ _ f2 (if_neg c) k2 x2 ⟨by omega, by omega, g2.2⟩
theorem x_key {S : zS} (hF : zFin true S) (hd : 2 ≤ d) {r at0 nd : Nat} (hR : xR tp sz S r at0 nd) (hN2 : gN S < 1900000)
    (h1 : ∀ S' v, zFin true S' → pLet tp sz 65 80 at0 = .ok (v, at0 + 1) → xFr S S' → xR tp sz S' r (at0 + 1) nd → gN S ≤ gN S' ∧ gN S' ≤ gN S + 0 ∧ gZ S' ≤ gZ S + 0 → at0 + 1 ≤ sz → v ≤ 15 → post (.returned (some (.int (Int32.ofNat v))), S'))
    (h2 : ∀ S' q, zFin true S' → pLet tp sz 65 80 at0 = .error (1, at0) → xFr S S' → xFl S' q 1 at0 → gN S ≤ gN S' ∧ gN S' ≤ gN S + 1 ∧ gZ S' ≤ gZ S + 3 → post (.threw q, S')) : zCall d 252 [.ref r] S post := by
  have h8 := hR.2.2.2.1
  have h9 := hR.2.2.2.2.1
  refine xky hF (by omega) (pSee tp sz at0) hR h8.1 h8.2 h9.1 h9.2 hN2 rfl (pSee_lt hR.2.2.1) (fun c => ?_) (fun c S2 f2 k2 x2 g2 => ?_)
  · obtain ⟨hl, ht⟩ := xsee_lt (tp := tp) (sz := sz) (at0 := at0) rfl (by omega)
    have e : xb tp at0 - 65 = Int32.ofNat (pSee tp sz at0 - 65) := by
      rw [xb_7 (by omega), ht]
      exact zi_subE rfl rfl (by omega)
    rw [e]
    exact h1 _ _ hF (if_pos (by omega)) xFr_at (xR_at hR hl) ⟨Nat.le_refl _, Nat.le_refl _, Nat.le_refl _⟩ hl (by omega)
  · exact h2 _ _ f2 (if_neg (by omega)) k2 x2 ⟨by omega, by omega, g2.2⟩
theorem x_secret {S : zS} (hF : zFin true S) (hd : 2 ≤ d) {r at0 nd : Nat} (hR : xR tp sz S r at0 nd) (hN2 : gN S < 1900000)
    (h1 : ∀ S' v, zFin true S' → pLet tp sz 48 55 at0 = .ok (v, at0 + 1) → xFr S S' → xR tp sz S' r (at0 + 1) nd → gN S ≤ gN S' ∧ gN S' ≤ gN S + 0 ∧ gZ S' ≤ gZ S + 0 → at0 + 1 ≤ sz → v ≤ 7 → post (.returned (some (.int (Int32.ofNat v))), S'))
    (h2 : ∀ S' q, zFin true S' → pLet tp sz 48 55 at0 = .error (1, at0) → xFr S S' → xFl S' q 1 at0 → gN S ≤ gN S' ∧ gN S' ≤ gN S + 1 ∧ gZ S' ≤ gZ S + 3 → post (.threw q, S')) : zCall d 258 [.ref r] S post := by
  have h8 := hR.2.2.2.1
  have h9 := hR.2.2.2.2.1
  refine xsc hF (by omega) (pSee tp sz at0) hR h8.1 h8.2 h9.1 h9.2 hN2 rfl (pSee_lt hR.2.2.1) (fun c => ?_) (fun c S2 f2 k2 x2 g2 => ?_)
  · obtain ⟨hl, ht⟩ := xsee_lt (tp := tp) (sz := sz) (at0 := at0) rfl (by omega)
    have e : xb tp at0 - 48 = Int32.ofNat (pSee tp sz at0 - 48) := by
      rw [xb_7 (by omega), ht]
      exact zi_subE rfl rfl (by omega)
    rw [e]
    exact h1 _ _ hF (if_pos (by omega)) xFr_at (xR_at hR hl) ⟨Nat.le_refl _, Nat.le_refl _, Nat.le_refl _⟩ hl (by omega)
  · exact h2 _ _ f2 (if_neg (by omega)) k2 x2 ⟨by omega, by omega, g2.2⟩
theorem x_begins {S : zS} (hF : zFin true S) (hd : 1 ≤ d) {r at0 nd p dp m dq : Nat} {two : Bool} (hR : xR tp sz S r at0 nd) (hN2 : gN S < 1900000) (hp : p ≤ 300) (hdp : dp < 1000) (hnd : nd ≤ 80) (hm : m = (bif two then 2 else 1)) (hdq : dq = dp + (bif two then 1 else 0))
    (h1 : ∀ S' n1, zFin true S' → pRead p dp nd two = .ok n1 → xFr S S' → xR tp sz S' r at0 n1 → gN S ≤ gN S' ∧ gN S' ≤ gN S + 0 ∧ gZ S' ≤ gZ S + 0 → at0 ≤ sz → n1 ≤ 80 → dp ≤ 24 → post (.returned none, S'))
    (h2 : ∀ S' q, zFin true S' → pRead p dp nd two = .error (2, p) → xFr S S' → xFl S' q 2 p → gN S ≤ gN S' ∧ gN S' ≤ gN S + 1 ∧ gZ S' ≤ gZ S + 3 → post (.threw q, S')) : zCall d 248 [.ref r, .int (Int32.ofNat p), .int (Int32.ofNat m), .int (Int32.ofNat dq)] S post := by
  have h8 := hR.2.2.2.1
  have h9 := hR.2.2.2.2.1
  have hm2 : m ≤ 2 := by rw [hm]; cases two <;> simp
  have hq2 : dq < 2000 := by rw [hdq]; cases two <;> simp <;> omega
  refine xbg hF (by omega) p m dq hR h8.1 h8.2 h9.1 h9.2 hN2 hp hm2 hq2 hnd (fun c1 c2 => ?_) (fun c => ?_)
  · have e : pRead p dp nd two = .ok (nd + m) := by
      unfold pRead
      rw [← hm, ← hdq, if_neg (by omega)]
    exact h1 _ _ hF e xFr_nd (xR_nd hR) ⟨Nat.le_refl _, Nat.le_refl _, Nat.le_refl _⟩ h8.2 (by omega) (by omega)
  · have e : pRead p dp nd two = .error (2, p) := by
      unfold pRead
      rw [← hm, ← hdq, if_pos (by omega)]
    obtain ⟨g0, g1, g2, g3, g4⟩ := xF_new (S := sI S 134 r (Int32.ofNat (nd + m))) hF (by show 1639 ≤ gN S; omega) hN2 2 2 p rfl rfl
    exact h2 _ _ g0 e (xFr_nd.tr g1) g2 ⟨by show gN S ≤ _; have : gN S + 1 = _ := g3; omega, by have : gN S + 1 = _ := g3; omega, g4⟩
theorem x_ends {S : zS} (hF : zFin true S) (hd : 2 ≤ d) {r at0 nd : Nat} (hR : xR tp sz S r at0 nd) (hN2 : gN S < 1900000) (h1 : at0 = sz → post (.returned none, S))
    (h2 : ∀ S' q, zFin true S' → at0 < sz → xFr S S' → xFl S' q 1 at0 → gN S ≤ gN S' ∧ gN S' ≤ gN S + 1 ∧ gZ S' ≤ gZ S + 3 → post (.threw q, S')) : zCall d 268 [.ref r] S post := by
  have h8 := hR.2.2.2.1
  have h9 := hR.2.2.2.2.1
  refine xen hF (by omega) hR h8.1 h8.2 h9.1 h9.2 hN2 (fun c => h1 (by omega)) (fun c S2 f2 k2 x2 g2 => h2 S2 _ f2 (by omega) k2 x2 ⟨by omega, by omega, g2.2⟩)
theorem x_number {S : zS} (hF : zFin true S) (hd : 2 ≤ d) {r at0 nd : Nat} (hR : xR tp sz S r at0 nd) (hN2 : gN S < 1900000)
    (h1 : ∀ S' v at1, zFin true S' → pNum tp sz at0 = .ok (v, at1) → xFr S S' → xR tp sz S' r at1 nd → gN S ≤ gN S' ∧ gN S' ≤ gN S + 0 ∧ gZ S' ≤ gZ S + 0 → at1 ≤ sz → 1 ≤ v ∧ v < 2147483648 → at0 ≤ at1 → post (.returned (some (.int (Int32.ofNat v))), S'))
    (h2 : ∀ S' q p, zFin true S' → pNum tp sz at0 = .error (1, p) → xFr S S' → xFl S' q 1 p → gN S ≤ gN S' ∧ gN S' ≤ gN S + 1 ∧ gZ S' ≤ gZ S + 3 → post (.threw q, S')) : zCall d 255 [.ref r] S post := by
  have ht := hR.2.2.1
  have key : ∀ n v at0 S, zFin true S → gN S < 1900000 → xR tp sz S r at0 nd → at0 + n = sz → v < 2147483648 → (1 ≤ v ∨ (49 ≤ pSee tp sz at0 ∧ pSee tp sz at0 ≤ 57)) →
      (∀ S' v1 at1, zFin true S' → pNumL tp sz n v at0 = .ok (v1, at1) → xFr S S' → xR tp sz S' r at1 nd → gN S ≤ gN S' ∧ gN S' ≤ gN S + 0 ∧ gZ S' ≤ gZ S + 0 → at1 ≤ sz → 1 ≤ v1 ∧ v1 < 2147483648 → at0 ≤ at1 → post (.returned (some (.int (Int32.ofNat v1))), S')) →
      (∀ S' q p, zFin true S' → pNumL tp sz n v at0 = .error (1, p) → xFr S S' → xFl S' q 1 p → gN S ≤ gN S' ∧ gN S' ≤ gN S + 1 ∧ gZ S' ≤ gZ S + 3 → post (.threw q, S')) →
      zEv d 255 21 [.ref r, .long (Int64.ofNat v), .retAddr 0] [] S post := by
    intro n
    induction n with
    | zero =>
      intro v at0 S hF hN2 hR he hv hv1 h1 h2
      have h8 := hR.2.2.2.1
      have h9 := hR.2.2.2.2.1
      have e0 : pSee tp sz at0 = 0 := if_neg (by omega)
      refine xn21 hF (by omega) (pSee tp sz at0) v hR h8.1 h8.2 h9.1 h9.2 hN2 rfl (pSee_lt ht) hv (fun _ => ?_) (fun c => absurd c (by omega)) (fun c => absurd c (by omega))
      rw [zl_l2i]
      exact h1 S v at0 hF rfl xFr.rf hR ⟨Nat.le_refl _, Nat.le_refl _, Nat.le_refl _⟩ h8.2 ⟨by omega, hv⟩ (Nat.le_refl _)
    | succ n ih =>
      intro v at0 S hF hN2 hR he hv hv1 h1 h2
      have h8 := hR.2.2.2.1
      have h9 := hR.2.2.2.2.1
      have hc := pSee_lt (sz := sz) (at0 := at0) ht
      by_cases hg : pDig tp sz at0
      · have hg' := hg; unfold pDig at hg'
        have e1 : pNumL tp sz (n + 1) v at0 = (if 2147483647 < 10 * v + (pSee tp sz at0 - 48) then .error (1, at0) else pNumL tp sz n (10 * v + (pSee tp sz at0 - 48)) (at0 + 1)) := by
          show @ite _ (pDig tp sz at0) (Classical.propDecidable _) _ _ = _
          rw [if_pos hg]
        refine xn21 hF (by omega) (pSee tp sz at0) v hR h8.1 h8.2 h9.1 h9.2 hN2 rfl hc hv (fun c => absurd c (by omega)) (fun _ c => ?_) (fun _ c S13 f13 k13 x13 g13 => ?_)
        · rw [zl_dig hc (by omega)] at c ⊢
          have c' := (zl_big (by omega)).mp c
          rw [if_neg c'] at e1
          refine ih _ (at0 + 1) _ hF hN2 (xR_at hR (by omega)) (by omega) (by omega) (Or.inl (by omega)) ?_ ?_
          · intro S' v1 at1 f1 f2 f3 f4 f5 f6 f7 f8
            exact h1 S' v1 at1 f1 (e1.trans f2) (xFr_at.tr f3) f4 f5 f6 f7 (by omega)
          · intro S' q p f1 f2 f3 f4 f5
            exact h2 S' q p f1 (e1.trans f2) (xFr_at.tr f3) f4 f5
        · rw [zl_dig hc (by omega)] at c
          have c' : 2147483647 < 10 * v + (pSee tp sz at0 - 48) := Classical.byContradiction fun x => c ((zl_big (by omega)).mpr x)
          rw [if_pos c'] at e1
          exact h2 _ _ at0 f13 e1 k13 x13 ⟨by omega, by omega, g13.2⟩
      · have e1 : pNumL tp sz (n + 1) v at0 = .ok (v, at0) := by
          show @ite _ (pDig tp sz at0) (Classical.propDecidable _) _ _ = _
          rw [if_neg hg]
        unfold pDig at hg
        refine xn21 hF (by omega) (pSee tp sz at0) v hR h8.1 h8.2 h9.1 h9.2 hN2 rfl hc hv (fun _ => ?_) (fun c => absurd c (by omega)) (fun c => absurd c (by omega))
        rw [zl_l2i]
        exact h1 S v at0 hF e1 xFr.rf hR ⟨Nat.le_refl _, Nat.le_refl _, Nat.le_refl _⟩ h8.2 ⟨by omega, hv⟩ (Nat.le_refl _)
  have h8 := hR.2.2.2.1
  have h9 := hR.2.2.2.2.1
  refine xn0 hF (by omega) (pSee tp sz at0) hR h8.1 h8.2 h9.1 h9.2 hN2 rfl (pSee_lt ht) (fun c => ?_) (fun c S12 f12 k12 x12 g12 => ?_)
  · have e : pNum tp sz at0 = pNumL tp sz (sz - at0) 0 at0 := if_pos (by omega)
    exact key (sz - at0) 0 at0 S hF hN2 hR (by omega) (by omega) (Or.inr (by omega)) (fun S' v1 at1 f1 f2 => h1 S' v1 at1 f1 (e.trans f2)) (fun S' q p f1 f2 => h2 S' q p f1 (e.trans f2))
  · have e : pNum tp sz at0 = .error (1, at0) := if_neg (by omega)
    exact h2 _ _ at0 f12 e k12 x12 ⟨by omega, by omega, g12.2⟩
end X12b

