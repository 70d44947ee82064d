set_option maxRecDepth 100000
/-! ===== the house reads what a word begins: hashes and pairs ===== -/
/-- a word that was read, and what it begins -/
noncomputable def pNm (tp : Nat → Nat) (sz : Nat) (rec : Nat → Nat → Nat → pE (zNd × Nat × Nat)) (k p e deep nd : Nat) : pE (zNd × Nat × Nat) := do
  let rd1 ← pRead p deep nd (decide (100 ≤ k))
  if k < 2 then do
    let x ← pJ (tN k 0 [] p [])
    .ok (x, e, rd1)
  else do
    let at1 ← pWant tp sz 40 e
    pIn tp sz rec k p deep at1 rd1
theorem ot11 {d : Nat} {S : zS} (hF : zFin true S) (hd : 7 ≤ d) {tp : Nat → Nat} {sz at0 nd r : Nat} {rec : Nat → Nat → Nat → pE (zNd × Nat × Nat)} {K : Nat} {w : Nat} (deep : Nat) (hR : xR tp sz S r at0 nd) (hs0 : sz ≤ 300) (ha0 : at0 ≤ sz) (hr1 : 1639 ≤ r) (hr2 : r < gN S) (hN : gN S + 30 * (sz - at0) ≤ 1700000) (hdp : deep < 1000) (hnd : nd ≤ 80) (hK : K + 3 ≤ d) (hK2 : 12 ≤ d) (hmono : pMono rec) (hRd : ∀ dp d', deep ≤ 24 → dp = deep + 1 → K ≤ d' → xRd tp sz d' dp rec) (hw : xWd S w (ztn 11)) (hwN : w < gN S) (hwl : at0 + 6 ≤ sz) {post : Outcome × zS → Prop} (h1 : ∀ S5 : zS, ∀ nd5 : Nat, (zFin true S5) → (pRead at0 deep nd false = .ok nd5) → (xFr S S5) → (xR tp sz S5 r at0 nd5) → (gN S ≤ gN S5 ∧ gN S5 ≤ gN S + 0 ∧ gZ S5 ≤ gZ S + 0) → (at0 ≤ sz) → (nd5 ≤ 80) → (deep ≤ 24) → ∀ S7 : zS, ∀ a7 : Nat, ∀ y7 : zNd, ∀ at7 : Nat, ∀ nd7 : Nat, (zFin true S7) → (pW tp sz rec 6 at0 deep (at0 + 6) nd5 = .ok (y7, at7, nd7)) → (xFr (sI S5 133 r (Int32.ofNat (at0 + 6))) S7) → (xTl (gN S5) S7 y7 a7) → (xR tp sz S7 r at7 nd7) → (gN S5 ≤ gN S7 ∧ gN S7 + 30 * (sz - at7) ≤ gN S5 + 30 * (sz - (at0 + 6)) ∧ gZ S7 + 150 * (sz - at7) ≤ gZ S5 + 150 * (sz - (at0 + 6))) → (at7 ≤ sz ∧ gN S5 ≤ a7 ∧ a7 < gN S7) → post (.returned (some (.ref a7)), S7)) (h2 : ∀ S5 : zS, ∀ nd5 : Nat, (zFin true S5) → (pRead at0 deep nd false = .ok nd5) → (xFr S S5) → (xR tp sz S5 r at0 nd5) → (gN S ≤ gN S5 ∧ gN S5 ≤ gN S + 0 ∧ gZ S5 ≤ gZ S + 0) → (at0 ≤ sz) → (nd5 ≤ 80) → (deep ≤ 24) → ∀ S8 : zS, ∀ q8 : Nat, ∀ kk8 : Nat, ∀ z8 : Nat, (zFin true S8) → (pW tp sz rec 6 at0 deep (at0 + 6) nd5 = .error (kk8, z8)) → (xFr (sI S5 133 r (Int32.ofNat (at0 + 6))) S8) → (xFl S8 q8 kk8 z8) → (gN S5 ≤ gN S8 ∧ gN S8 ≤ gN S5 + 30 * (sz - (at0 + 6)) + 60 ∧ gZ S8 ≤ gZ S5 + 150 * (sz - (at0 + 6)) + 2000) → post (.threw q8, S8)) (h3 : ∀ S6 : zS, ∀ q6 : Nat, (zFin true S6) → (pRead at0 deep nd false = .error (2, at0)) → (xFr S S6) → (xFl S6 q6 2 at0) → (gN S ≤ gN S6 ∧ gN S6 ≤ gN S + 1 ∧ gZ S6 ≤ gZ S + 3) → post (.threw q6, S6)) : zCall d 266 [.ref r, .int (Int32.ofNat at0), .ref w, .int (Int32.ofNat deep)] S post := by
  have ht : ztab 266 = ztb266 := rfl
  show zEv d 266 0 [.ref r, .int (Int32.ofNat at0), .ref w, .int (Int32.ofNat deep), .retAddr 0, .retAddr 0, .retAddr 0] [] S post
  refine zv_c1 ht rfl rfl ?_
  refine zv_c2 (L' := [.ref r, .int (Int32.ofNat at0), .ref w, .int (Int32.ofNat deep), .int 0, .retAddr 0, .retAddr 0]) ht rfl rfl ?_
  refine zv_c1 ht rfl rfl (zv_c1 ht rfl rfl ?_)
  refine zv_br ht rfl rfl rfl (fun h => absurd h (by decide)) (fun _ => ?_)
  refine zv_c1 ht rfl rfl ?_
  have C2 : ∀ (pst1 : Outcome × zS → Prop), (pst1 (.returned (some (.ref 4294967318)), S)) → zCall (d - 1) 8 [.int 0] S pst1 := by
    intro pst1 k4
    have ht3 : ztab 8 = ztb8 := rfl
    show zEv (d - 1) 8 0 [.int 0] [] S pst1
    refine zv_c1 ht3 rfl rfl ?_
    refine zv_sw ht3 rfl rfl rfl rfl rfl ?_
    refine And.intro (fun _ => ?_) (fun h => absurd (by decide) h)
    refine zv_c1 ht3 rfl rfl ?_
    exact zv_rt ht3 rfl rfl rfl rfl k4
  refine zv_cl ht rfl rfl rfl rfl (by omega) (Nat.le_of_ble_eq_true rfl) (C2 _ ?_)
  show zEv d 266 14 [.ref r, .int (Int32.ofNat at0), .ref w, .int (Int32.ofNat deep), .int 0, .retAddr 0, .retAddr 0] [.ref 4294967318] S post
  refine zv_c1 ht rfl rfl ?_
  refine zv_cl ht rfl rfl rfl (zv_tgv ((zStr.t (xR.lit hR 11 (by decide)))) rfl) (by omega) (Nat.le_of_ble_eq_true rfl) (x_eqW (S := S) hF (by omega) (xR.lit hR 11 (by decide)) hw.1 (v := 1) (zbo_pos rfl) ?_)
  show zEv d 266 18 [.ref r, .int (Int32.ofNat at0), .ref w, .int (Int32.ofNat deep), .int 0, .retAddr 0, .retAddr 0] [.int 1] S post
  refine zv_br ht rfl rfl rfl (fun _ => ?_) (fun h => absurd (by decide) h)
  refine zv_c1 ht rfl rfl (zv_c1 ht rfl rfl (zv_c1 ht rfl rfl (zv_c1 ht rfl rfl ?_)))
  refine zv_cl ht rfl rfl rfl (zv_tgv (hR.1.2.2.2.1) rfl) (by omega) (Nat.le_of_ble_eq_true rfl) (x_begins (S := S) (tp := tp) (sz := sz) (r := r) (p := at0) (dp := deep) (m := 1) (dq := deep) (two := false) hF (by omega) hR (by omega) (by omega) (by omega) (by omega) rfl rfl (fun S5 nd5 hF5 e5 k5 p5 g5 b5 c5 d5 => ?_) (fun S6 q6 hF6 e6 k6 x6 g6 => ?_))
  · show zEv d 266 31 [.ref r, .int (Int32.ofNat at0), .ref w, .int (Int32.ofNat deep), .int 0, .retAddr 0, .retAddr 0] [] S5 post
    refine zv_c1 ht rfl rfl (zv_c1 ht rfl rfl ?_)
    refine zv_ei (x := Int32.ofNat at0) ht rfl rfl (zhas_of (p5.1.2.2.2.1) rfl) p5.1.1 ?_
    refine zv_c1 ht rfl rfl ?_
    refine zv_cl ht rfl rfl rfl (zv_tgv (Eq.trans (zKE.T k5 (Or.inl (show w < gN S from by omega))) (zStr.t hw.1)) rfl) (by omega) (Nat.le_of_ble_eq_true rfl) (x_len (S := S5) hF5 (by omega) (xWd.k hw (zKE.tr zKE.rf (zKE.w k5 (show gN S ≤ gN S from by omega) (fun _ h => h) (fun _ h => h)))).1 (n := 6) (by decide) ?_)
    show zEv d 266 40 [.ref r, .int (Int32.ofNat at0), .ref w, .int (Int32.ofNat deep), .int 0, .retAddr 0, .retAddr 0] [.int 6, .int (Int32.ofNat at0), .ref r] S5 post
    refine zv_e1 (x := Int32.ofNat (at0 + 6)) ht rfl rfl (zi_addE (a := at0) (b := 6) rfl rfl) ?_
    refine zv_ci (S' := sI S5 133 r (Int32.ofNat (at0 + 6))) ht rfl rfl ⟨(zhas_of (p5.1.2.2.2.1) rfl), (show r < gN S5 from by omega)⟩ ?_
    refine zv_c1 ht rfl rfl (zv_c1 ht rfl rfl (zv_c1 ht rfl rfl ?_))
    refine zv_cl ht rfl rfl rfl (zv_tgv (p5.1.2.2.2.1) rfl) (by omega) (Nat.le_of_ble_eq_true rfl) (xEnd.use (g := gN S5) (z := gZ S5) rfl rfl (x_image (S := sI S5 133 r (Int32.ofNat (at0 + 6))) (r := r) (rec := rec) (deep := deep) (p := at0) (k := 6) hF5 (by omega) (xR_at p5 (by omega)) (by omega) (by omega) (by omega)) (fun S7 a7 y7 at7 nd7 hF7 e7 k7 t7 p7 g7 c7 => ?_) (fun S8 q8 kk8 z8 hF8 e8 k8 x8 g8 => ?_))
    · show zEv d 266 51 [.ref r, .int (Int32.ofNat at0), .ref w, .int (Int32.ofNat deep), .int 0, .retAddr 0, .retAddr 0] [.ref a7] S7 post
      exact zv_rt ht rfl rfl rfl rfl (h1 S5 nd5 hF5 e5 k5 p5 g5 b5 c5 d5 S7 a7 y7 at7 nd7 hF7 e7 k7 t7 p7 g7 c7)
    · exact (h2 S5 nd5 hF5 e5 k5 p5 g5 b5 c5 d5 S8 q8 kk8 z8 hF8 e8 k8 x8 g8)
  · exact (h3 S6 q6 hF6 e6 k6 x6 g6)

theorem ot12 {d : Nat} {S : zS} (hF : zFin true S) (hd : 7 ≤ d) {tp : Nat → Nat} {sz at0 nd r : Nat} {rec : Nat → Nat → Nat → pE (zNd × Nat × Nat)} {K : Nat} {w : Nat} (deep : Nat) (hR : xR tp sz S r at0 nd) (hs0 : sz ≤ 300) (ha0 : at0 ≤ sz) (hr1 : 1639 ≤ r) (hr2 : r < gN S) (hN : gN S + 30 * (sz - at0) ≤ 1700000) (hdp : deep < 1000) (hnd : nd ≤ 80) (hK : K + 3 ≤ d) (hK2 : 12 ≤ d) (hmono : pMono rec) (hRd : ∀ dp d', deep ≤ 24 → dp = deep + 1 → K ≤ d' → xRd tp sz d' dp rec) (hw : xWd S w (ztn 12)) (hwN : w < gN S) (hwl : at0 + 7 ≤ sz) {post : Outcome × zS → Prop} (h1 : ∀ S9 : zS, ∀ nd9 : Nat, (zFin true S9) → (pRead at0 deep nd false = .ok nd9) → (xFr S S9) → (xR tp sz S9 r at0 nd9) → (gN S ≤ gN S9 ∧ gN S9 ≤ gN S + 0 ∧ gZ S9 ≤ gZ S + 0) → (at0 ≤ sz) → (nd9 ≤ 80) → (deep ≤ 24) → ∀ S11 : zS, ∀ a11 : Nat, ∀ y11 : zNd, ∀ at11 : Nat, ∀ nd11 : Nat, (zFin true S11) → (pW tp sz rec 7 at0 deep (at0 + 7) nd9 = .ok (y11, at11, nd11)) → (xFr (sI S9 133 r (Int32.ofNat (at0 + 7))) S11) → (xTl (gN S9) S11 y11 a11) → (xR tp sz S11 r at11 nd11) → (gN S9 ≤ gN S11 ∧ gN S11 + 30 * (sz - at11) ≤ gN S9 + 30 * (sz - (at0 + 7)) ∧ gZ S11 + 150 * (sz - at11) ≤ gZ S9 + 150 * (sz - (at0 + 7))) → (at11 ≤ sz ∧ gN S9 ≤ a11 ∧ a11 < gN S11) → post (.returned (some (.ref a11)), S11)) (h2 : ∀ S9 : zS, ∀ nd9 : Nat, (zFin true S9) → (pRead at0 deep nd false = .ok nd9) → (xFr S S9) → (xR tp sz S9 r at0 nd9) → (gN S ≤ gN S9 ∧ gN S9 ≤ gN S + 0 ∧ gZ S9 ≤ gZ S + 0) → (at0 ≤ sz) → (nd9 ≤ 80) → (deep ≤ 24) → ∀ S12 : zS, ∀ q12 : Nat, ∀ kk12 : Nat, ∀ z12 : Nat, (zFin true S12) → (pW tp sz rec 7 at0 deep (at0 + 7) nd9 = .error (kk12, z12)) → (xFr (sI S9 133 r (Int32.ofNat (at0 + 7))) S12) → (xFl S12 q12 kk12 z12) → (gN S9 ≤ gN S12 ∧ gN S12 ≤ gN S9 + 30 * (sz - (at0 + 7)) + 60 ∧ gZ S12 ≤ gZ S9 + 150 * (sz - (at0 + 7)) + 2000) → post (.threw q12, S12)) (h3 : ∀ S10 : zS, ∀ q10 : Nat, (zFin true S10) → (pRead at0 deep nd false = .error (2, at0)) → (xFr S S10) → (xFl S10 q10 2 at0) → (gN S ≤ gN S10 ∧ gN S10 ≤ gN S + 1 ∧ gZ S10 ≤ gZ S + 3) → post (.threw q10, S10)) : zCall d 266 [.ref r, .int (Int32.ofNat at0), .ref w, .int (Int32.ofNat deep)] S post := by
  have ht : ztab 266 = ztb266 := rfl
  show zEv d 266 0 [.ref r, .int (Int32.ofNat at0), .ref w, .int (Int32.ofNat deep), .retAddr 0, .retAddr 0, .retAddr 0] [] S post
  refine zv_c1 ht rfl rfl ?_
  refine zv_c2 (L' := [.ref r, .int (Int32.ofNat at0), .ref w, .int (Int32.ofNat deep), .int 0, .retAddr 0, .retAddr 0]) ht rfl rfl ?_
  refine zv_c1 ht rfl rfl (zv_c1 ht rfl rfl ?_)
  refine zv_br ht rfl rfl rfl (fun h => absurd h (by decide)) (fun _ => ?_)
  refine zv_c1 ht rfl rfl ?_
  have C2 : ∀ (pst1 : Outcome × zS → Prop), (pst1 (.returned (some (.ref 4294967318)), S)) → zCall (d - 1) 8 [.int 0] S pst1 := by
    intro pst1 k4
    have ht3 : ztab 8 = ztb8 := rfl
    show zEv (d - 1) 8 0 [.int 0] [] S pst1
    refine zv_c1 ht3 rfl rfl ?_
    refine zv_sw ht3 rfl rfl rfl rfl rfl ?_
    refine And.intro (fun _ => ?_) (fun h => absurd (by decide) h)
    refine zv_c1 ht3 rfl rfl ?_
    exact zv_rt ht3 rfl rfl rfl rfl k4
  refine zv_cl ht rfl rfl rfl rfl (by omega) (Nat.le_of_ble_eq_true rfl) (C2 _ ?_)
  show zEv d 266 14 [.ref r, .int (Int32.ofNat at0), .ref w, .int (Int32.ofNat deep), .int 0, .retAddr 0, .retAddr 0] [.ref 4294967318] S post
  refine zv_c1 ht rfl rfl ?_
  refine zv_cl ht rfl rfl rfl (zv_tgv ((zStr.t (xR.lit hR 11 (by decide)))) rfl) (by omega) (Nat.le_of_ble_eq_true rfl) (x_eqW (S := S) hF (by omega) (xR.lit hR 11 (by decide)) hw.1 (v := 0) (zbo_neg (by decide)) ?_)
  show zEv d 266 18 [.ref r, .int (Int32.ofNat at0), .ref w, .int (Int32.ofNat deep), .int 0, .retAddr 0, .retAddr 0] [.int 0] S post
  refine zv_br ht rfl rfl rfl (fun h => absurd h (by decide)) (fun _ => ?_)
  refine zv_c1 ht rfl rfl ?_
  refine zv_c2 (L' := [.ref r, .int (Int32.ofNat at0), .ref w, .int (Int32.ofNat deep), .int 1, .retAddr 0, .retAddr 0]) ht rfl rfl ?_
  refine zv_c1 ht rfl rfl (zv_c1 ht rfl rfl (zv_c1 ht rfl rfl ?_))
  refine zv_br ht rfl rfl rfl (fun h => absurd h (by decide)) (fun _ => ?_)
  refine zv_c1 ht rfl rfl ?_
  have C6 : ∀ (pst5 : Outcome × zS → Prop), (pst5 (.returned (some (.ref 4294967320)), S)) → zCall (d - 1) 8 [.int 1] S pst5 := by
    intro pst5 k8
    have ht7 : ztab 8 = ztb8 := rfl
    show zEv (d - 1) 8 0 [.int 1] [] S pst5
    refine zv_c1 ht7 rfl rfl ?_
    refine zv_sw ht7 rfl rfl rfl rfl rfl ?_
    refine And.intro (fun h => absurd h (by decide)) (fun _ => ?_)
    refine And.intro (fun _ => ?_) (fun h => absurd (by decide) h)
    refine zv_c1 ht7 rfl rfl ?_
    exact zv_rt ht7 rfl rfl rfl rfl k8
  refine zv_cl ht rfl rfl rfl rfl (by omega) (Nat.le_of_ble_eq_true rfl) (C6 _ ?_)
  show zEv d 266 14 [.ref r, .int (Int32.ofNat at0), .ref w, .int (Int32.ofNat deep), .int 1, .retAddr 0, .retAddr 0] [.ref 4294967320] S post
  refine zv_c1 ht rfl rfl ?_
  refine zv_cl ht rfl rfl rfl (zv_tgv ((zStr.t (xR.lit hR 12 (by decide)))) rfl) (by omega) (Nat.le_of_ble_eq_true rfl) (x_eqW (S := S) hF (by omega) (xR.lit hR 12 (by decide)) hw.1 (v := 1) (zbo_pos rfl) ?_)
  show zEv d 266 18 [.ref r, .int (Int32.ofNat at0), .ref w, .int (Int32.ofNat deep), .int 1, .retAddr 0, .retAddr 0] [.int 1] S post
  refine zv_br ht rfl rfl rfl (fun _ => ?_) (fun h => absurd (by decide) h)
  refine zv_c1 ht rfl rfl (zv_c1 ht rfl rfl (zv_c1 ht rfl rfl (zv_c1 ht rfl rfl ?_)))
  refine zv_cl ht rfl rfl rfl (zv_tgv (hR.1.2.2.2.1) rfl) (by omega) (Nat.le_of_ble_eq_true rfl) (x_begins (S := S) (tp := tp) (sz := sz) (r := r) (p := at0) (dp := deep) (m := 1) (dq := deep) (two := false) hF (by omega) hR (by omega) (by omega) (by omega) (by omega) rfl rfl (fun S9 nd9 hF9 e9 k9 p9 g9 b9 c9 d9 => ?_) (fun S10 q10 hF10 e10 k10 x10 g10 => ?_))
  · show zEv d 266 31 [.ref r, .int (Int32.ofNat at0), .ref w, .int (Int32.ofNat deep), .int 1, .retAddr 0, .retAddr 0] [] S9 post
    refine zv_c1 ht rfl rfl (zv_c1 ht rfl rfl ?_)
    refine zv_ei (x := Int32.ofNat at0) ht rfl rfl (zhas_of (p9.1.2.2.2.1) rfl) p9.1.1 ?_
    refine zv_c1 ht rfl rfl ?_
    refine zv_cl ht rfl rfl rfl (zv_tgv (Eq.trans (zKE.T k9 (Or.inl (show w < gN S from by omega))) (zStr.t hw.1)) rfl) (by omega) (Nat.le_of_ble_eq_true rfl) (x_len (S := S9) hF9 (by omega) (xWd.k hw (zKE.tr zKE.rf (zKE.w k9 (show gN S ≤ gN S from by omega) (fun _ h => h) (fun _ h => h)))).1 (n := 7) (by decide) ?_)
    show zEv d 266 40 [.ref r, .int (Int32.ofNat at0), .ref w, .int (Int32.ofNat deep), .int 1, .retAddr 0, .retAddr 0] [.int 7, .int (Int32.ofNat at0), .ref r] S9 post
    refine zv_e1 (x := Int32.ofNat (at0 + 7)) ht rfl rfl (zi_addE (a := at0) (b := 7) rfl rfl) ?_
    refine zv_ci (S' := sI S9 133 r (Int32.ofNat (at0 + 7))) ht rfl rfl ⟨(zhas_of (p9.1.2.2.2.1) rfl), (show r < gN S9 from by omega)⟩ ?_
    refine zv_c1 ht rfl rfl (zv_c1 ht rfl rfl (zv_c1 ht rfl rfl ?_))
    refine zv_cl ht rfl rfl rfl (zv_tgv (p9.1.2.2.2.1) rfl) (by omega) (Nat.le_of_ble_eq_true rfl) (xEnd.use (g := gN S9) (z := gZ S9) rfl rfl (x_image (S := sI S9 133 r (Int32.ofNat (at0 + 7))) (r := r) (rec := rec) (deep := deep) (p := at0) (k := 7) hF9 (by omega) (xR_at p9 (by omega)) (by omega) (by omega) (by omega)) (fun S11 a11 y11 at11 nd11 hF11 e11 k11 t11 p11 g11 c11 => ?_) (fun S12 q12 kk12 z12 hF12 e12 k12 x12 g12 => ?_))
    · show zEv d 266 51 [.ref r, .int (Int32.ofNat at0), .ref w, .int (Int32.ofNat deep), .int 1, .retAddr 0, .retAddr 0] [.ref a11] S11 post
      exact zv_rt ht rfl rfl rfl rfl (h1 S9 nd9 hF9 e9 k9 p9 g9 b9 c9 d9 S11 a11 y11 at11 nd11 hF11 e11 k11 t11 p11 g11 c11)
    · exact (h2 S9 nd9 hF9 e9 k9 p9 g9 b9 c9 d9 S12 q12 kk12 z12 hF12 e12 k12 x12 g12)
  · exact (h3 S10 q10 hF10 e10 k10 x10 g10)

theorem ot13 {d : Nat} {S : zS} (hF : zFin true S) (hd : 7 ≤ d) {tp : Nat → Nat} {sz at0 nd r : Nat} {rec : Nat → Nat → Nat → pE (zNd × Nat × Nat)} {K : Nat} {w : Nat} (deep : Nat) (hR : xR tp sz S r at0 nd) (hs0 : sz ≤ 300) (ha0 : at0 ≤ sz) (hr1 : 1639 ≤ r) (hr2 : r < gN S) (hN : gN S + 30 * (sz - at0) ≤ 1700000) (hdp : deep < 1000) (hnd : nd ≤ 80) (hK : K + 3 ≤ d) (hK2 : 12 ≤ d) (hmono : pMono rec) (hRd : ∀ dp d', deep ≤ 24 → dp = deep + 1 → K ≤ d' → xRd tp sz d' dp rec) (hw : xWd S w (ztn 13)) (hwN : w < gN S) (hwl : at0 + 9 ≤ sz) {post : Outcome × zS → Prop} (h1 : ∀ S13 : zS, ∀ nd13 : Nat, (zFin true S13) → (pRead at0 deep nd false = .ok nd13) → (xFr S S13) → (xR tp sz S13 r at0 nd13) → (gN S ≤ gN S13 ∧ gN S13 ≤ gN S + 0 ∧ gZ S13 ≤ gZ S + 0) → (at0 ≤ sz) → (nd13 ≤ 80) → (deep ≤ 24) → ∀ S15 : zS, ∀ a15 : Nat, ∀ y15 : zNd, ∀ at15 : Nat, ∀ nd15 : Nat, (zFin true S15) → (pW tp sz rec 8 at0 deep (at0 + 9) nd13 = .ok (y15, at15, nd15)) → (xFr (sI S13 133 r (Int32.ofNat (at0 + 9))) S15) → (xTl (gN S13) S15 y15 a15) → (xR tp sz S15 r at15 nd15) → (gN S13 ≤ gN S15 ∧ gN S15 + 30 * (sz - at15) ≤ gN S13 + 30 * (sz - (at0 + 9)) ∧ gZ S15 + 150 * (sz - at15) ≤ gZ S13 + 150 * (sz - (at0 + 9))) → (at15 ≤ sz ∧ gN S13 ≤ a15 ∧ a15 < gN S15) → post (.returned (some (.ref a15)), S15)) (h2 : ∀ S13 : zS, ∀ nd13 : Nat, (zFin true S13) → (pRead at0 deep nd false = .ok nd13) → (xFr S S13) → (xR tp sz S13 r at0 nd13) → (gN S ≤ gN S13 ∧ gN S13 ≤ gN S + 0 ∧ gZ S13 ≤ gZ S + 0) → (at0 ≤ sz) → (nd13 ≤ 80) → (deep ≤ 24) → ∀ S16 : zS, ∀ q16 : Nat, ∀ kk16 : Nat, ∀ z16 : Nat, (zFin true S16) → (pW tp sz rec 8 at0 deep (at0 + 9) nd13 = .error (kk16, z16)) → (xFr (sI S13 133 r (Int32.ofNat (at0 + 9))) S16) → (xFl S16 q16 kk16 z16) → (gN S13 ≤ gN S16 ∧ gN S16 ≤ gN S13 + 30 * (sz - (at0 + 9)) + 60 ∧ gZ S16 ≤ gZ S13 + 150 * (sz - (at0 + 9)) + 2000) → post (.threw q16, S16)) (h3 : ∀ S14 : zS, ∀ q14 : Nat, (zFin true S14) → (pRead at0 deep nd false = .error (2, at0)) → (xFr S S14) → (xFl S14 q14 2 at0) → (gN S ≤ gN S14 ∧ gN S14 ≤ gN S + 1 ∧ gZ S14 ≤ gZ S + 3) → post (.threw q14, S14)) : zCall d 266 [.ref r, .int (Int32.ofNat at0), .ref w, .int (Int32.ofNat deep)] S post := by
  have ht : ztab 266 = ztb266 := rfl
  show zEv d 266 0 [.ref r, .int (Int32.ofNat at0), .ref w, .int (Int32.ofNat deep), .retAddr 0, .retAddr 0, .retAddr 0] [] S post
  refine zv_c1 ht rfl rfl ?_
  refine zv_c2 (L' := [.ref r, .int (Int32.ofNat at0), .ref w, .int (Int32.ofNat deep), .int 0, .retAddr 0, .retAddr 0]) ht rfl rfl ?_
  refine zv_c1 ht rfl rfl (zv_c1 ht rfl rfl ?_)
  refine zv_br ht rfl rfl rfl (fun h => absurd h (by decide)) (fun _ => ?_)
  refine zv_c1 ht rfl rfl ?_
  have C2 : ∀ (pst1 : Outcome × zS → Prop), (pst1 (.returned (some (.ref 4294967318)), S)) → zCall (d - 1) 8 [.int 0] S pst1 := by
    intro pst1 k4
    have ht3 : ztab 8 = ztb8 := rfl
    show zEv (d - 1) 8 0 [.int 0] [] S pst1
    refine zv_c1 ht3 rfl rfl ?_
    refine zv_sw ht3 rfl rfl rfl rfl rfl ?_
    refine And.intro (fun _ => ?_) (fun h => absurd (by decide) h)
    refine zv_c1 ht3 rfl rfl ?_
    exact zv_rt ht3 rfl rfl rfl rfl k4
  refine zv_cl ht rfl rfl rfl rfl (by omega) (Nat.le_of_ble_eq_true rfl) (C2 _ ?_)
  show zEv d 266 14 [.ref r, .int (Int32.ofNat at0), .ref w, .int (Int32.ofNat deep), .int 0, .retAddr 0, .retAddr 0] [.ref 4294967318] S post
  refine zv_c1 ht rfl rfl ?_
  refine zv_cl ht rfl rfl rfl (zv_tgv ((zStr.t (xR.lit hR 11 (by decide)))) rfl) (by omega) (Nat.le_of_ble_eq_true rfl) (x_eqW (S := S) hF (by omega) (xR.lit hR 11 (by decide)) hw.1 (v := 0) (zbo_neg (by decide)) ?_)
  show zEv d 266 18 [.ref r, .int (Int32.ofNat at0), .ref w, .int (Int32.ofNat deep), .int 0, .retAddr 0, .retAddr 0] [.int 0] S post
  refine zv_br ht rfl rfl rfl (fun h => absurd h (by decide)) (fun _ => ?_)
  refine zv_c1 ht rfl rfl ?_
  refine zv_c2 (L' := [.ref r, .int (Int32.ofNat at0), .ref w, .int (Int32.ofNat deep), .int 1, .retAddr 0, .retAddr 0]) ht rfl rfl ?_
  refine zv_c1 ht rfl rfl (zv_c1 ht rfl rfl (zv_c1 ht rfl rfl ?_))
  refine zv_br ht rfl rfl rfl (fun h => absurd h (by decide)) (fun _ => ?_)
  refine zv_c1 ht rfl rfl ?_
  have C6 : ∀ (pst5 : Outcome × zS → Prop), (pst5 (.returned (some (.ref 4294967320)), S)) → zCall (d - 1) 8 [.int 1] S pst5 := by
    intro pst5 k8
    have ht7 : ztab 8 = ztb8 := rfl
    show zEv (d - 1) 8 0 [.int 1] [] S pst5
    refine zv_c1 ht7 rfl rfl ?_
    refine zv_sw ht7 rfl rfl rfl rfl rfl ?_
    refine And.intro (fun h => absurd h (by decide)) (fun _ => ?_)
    refine And.intro (fun _ => ?_) (fun h => absurd (by decide) h)
    refine zv_c1 ht7 rfl rfl ?_
    exact zv_rt ht7 rfl rfl rfl rfl k8
  refine zv_cl ht rfl rfl rfl rfl (by omega) (Nat.le_of_ble_eq_true rfl) (C6 _ ?_)
  show zEv d 266 14 [.ref r, .int (Int32.ofNat at0), .ref w, .int (Int32.ofNat deep), .int 1, .retAddr 0, .retAddr 0] [.ref 4294967320] S post
  refine zv_c1 ht rfl rfl ?_
  refine zv_cl ht rfl rfl rfl (zv_tgv ((zStr.t (xR.lit hR 12 (by decide)))) rfl) (by omega) (Nat.le_of_ble_eq_true rfl) (x_eqW (S := S) hF (by omega) (xR.lit hR 12 (by decide)) hw.1 (v := 0) (zbo_neg (by decide)) ?_)
  show zEv d 266 18 [.ref r, .int (Int32.ofNat at0), .ref w, .int (Int32.ofNat deep), .int 1, .retAddr 0, .retAddr 0] [.int 0] S post
  refine zv_br ht rfl rfl rfl (fun h => absurd h (by decide)) (fun _ => ?_)
  refine zv_c1 ht rfl rfl ?_
  refine zv_c2 (L' := [.ref r, .int (Int32.ofNat at0), .ref w, .int (Int32.ofNat deep), .int 2, .retAddr 0, .retAddr 0]) ht rfl rfl ?_
  refine zv_c1 ht rfl rfl (zv_c1 ht rfl rfl (zv_c1 ht rfl rfl ?_))
  refine zv_br ht rfl rfl rfl (fun h => absurd h (by decide)) (fun _ => ?_)
  refine zv_c1 ht rfl rfl ?_
  have C10 : ∀ (pst9 : Outcome × zS → Prop), (pst9 (.returned (some (.ref 4294967322)), S)) → zCall (d - 1) 8 [.int 2] S pst9 := by
    intro pst9 k12
    have ht11 : ztab 8 = ztb8 := rfl
    show zEv (d - 1) 8 0 [.int 2] [] S pst9
    refine zv_c1 ht11 rfl rfl ?_
    refine zv_sw ht11 rfl rfl rfl rfl rfl ?_
    refine And.intro (fun h => absurd h (by decide)) (fun _ => ?_)
    refine And.intro (fun h => absurd h (by decide)) (fun _ => ?_)
    refine And.intro (fun _ => ?_) (fun h => absurd (by decide) h)
    refine zv_c1 ht11 rfl rfl ?_
    exact zv_rt ht11 rfl rfl rfl rfl k12
  refine zv_cl ht rfl rfl rfl rfl (by omega) (Nat.le_of_ble_eq_true rfl) (C10 _ ?_)
  show zEv d 266 14 [.ref r, .int (Int32.ofNat at0), .ref w, .int (Int32.ofNat deep), .int 2, .retAddr 0, .retAddr 0] [.ref 4294967322] S post
  refine zv_c1 ht rfl rfl ?_
  refine zv_cl ht rfl rfl rfl (zv_tgv ((zStr.t (xR.lit hR 13 (by decide)))) rfl) (by omega) (Nat.le_of_ble_eq_true rfl) (x_eqW (S := S) hF (by omega) (xR.lit hR 13 (by decide)) hw.1 (v := 1) (zbo_pos rfl) ?_)
  show zEv d 266 18 [.ref r, .int (Int32.ofNat at0), .ref w, .int (Int32.ofNat deep), .int 2, .retAddr 0, .retAddr 0] [.int 1] S post
  refine zv_br ht rfl rfl rfl (fun _ => ?_) (fun h => absurd (by decide) h)
  refine zv_c1 ht rfl rfl (zv_c1 ht rfl rfl (zv_c1 ht rfl rfl (zv_c1 ht rfl rfl ?_)))
  refine zv_cl ht rfl rfl rfl (zv_tgv (hR.1.2.2.2.1) rfl) (by omega) (Nat.le_of_ble_eq_true rfl) (x_begins (S := S) (tp := tp) (sz := sz) (r := r) (p := at0) (dp := deep) (m := 1) (dq := deep) (two := false) hF (by omega) hR (by omega) (by omega) (by omega) (by omega) rfl rfl (fun S13 nd13 hF13 e13 k13 p13 g13 b13 c13 d13 => ?_) (fun S14 q14 hF14 e14 k14 x14 g14 => ?_))
  · show zEv d 266 31 [.ref r, .int (Int32.ofNat at0), .ref w, .int (Int32.ofNat deep), .int 2, .retAddr 0, .retAddr 0] [] S13 post
    refine zv_c1 ht rfl rfl (zv_c1 ht rfl rfl ?_)
    refine zv_ei (x := Int32.ofNat at0) ht rfl rfl (zhas_of (p13.1.2.2.2.1) rfl) p13.1.1 ?_
    refine zv_c1 ht rfl rfl ?_
    refine zv_cl ht rfl rfl rfl (zv_tgv (Eq.trans (zKE.T k13 (Or.inl (show w < gN S from by omega))) (zStr.t hw.1)) rfl) (by omega) (Nat.le_of_ble_eq_true rfl) (x_len (S := S13) hF13 (by omega) (xWd.k hw (zKE.tr zKE.rf (zKE.w k13 (show gN S ≤ gN S from by omega) (fun _ h => h) (fun _ h => h)))).1 (n := 9) (by decide) ?_)
    show zEv d 266 40 [.ref r, .int (Int32.ofNat at0), .ref w, .int (Int32.ofNat deep), .int 2, .retAddr 0, .retAddr 0] [.int 9, .int (Int32.ofNat at0), .ref r] S13 post
    refine zv_e1 (x := Int32.ofNat (at0 + 9)) ht rfl rfl (zi_addE (a := at0) (b := 9) rfl rfl) ?_
    refine zv_ci (S' := sI S13 133 r (Int32.ofNat (at0 + 9))) ht rfl rfl ⟨(zhas_of (p13.1.2.2.2.1) rfl), (show r < gN S13 from by omega)⟩ ?_
    refine zv_c1 ht rfl rfl (zv_c1 ht rfl rfl (zv_c1 ht rfl rfl ?_))
    refine zv_cl ht rfl rfl rfl (zv_tgv (p13.1.2.2.2.1) rfl) (by omega) (Nat.le_of_ble_eq_true rfl) (xEnd.use (g := gN S13) (z := gZ S13) rfl rfl (x_image (S := sI S13 133 r (Int32.ofNat (at0 + 9))) (r := r) (rec := rec) (deep := deep) (p := at0) (k := 8) hF13 (by omega) (xR_at p13 (by omega)) (by omega) (by omega) (by omega)) (fun S15 a15 y15 at15 nd15 hF15 e15 k15 t15 p15 g15 c15 => ?_) (fun S16 q16 kk16 z16 hF16 e16 k16 x16 g16 => ?_))
    · show zEv d 266 51 [.ref r, .int (Int32.ofNat at0), .ref w, .int (Int32.ofNat deep), .int 2, .retAddr 0, .retAddr 0] [.ref a15] S15 post
      exact zv_rt ht rfl rfl rfl rfl (h1 S13 nd13 hF13 e13 k13 p13 g13 b13 c13 d13 S15 a15 y15 at15 nd15 hF15 e15 k15 t15 p15 g15 c15)
    · exact (h2 S13 nd13 hF13 e13 k13 p13 g13 b13 c13 d13 S16 q16 kk16 z16 hF16 e16 k16 x16 g16)
  · exact (h3 S14 q14 hF14 e14 k14 x14 g14)

theorem ot14 {d : Nat} {S : zS} (hF : zFin true S) (hd : 7 ≤ d) {tp : Nat → Nat} {sz at0 nd r : Nat} {rec : Nat → Nat → Nat → pE (zNd × Nat × Nat)} {K : Nat} {w : Nat} (deep : Nat) (hR : xR tp sz S r at0 nd) (hs0 : sz ≤ 300) (ha0 : at0 ≤ sz) (hr1 : 1639 ≤ r) (hr2 : r < gN S) (hN : gN S + 30 * (sz - at0) ≤ 1700000) (hdp : deep < 1000) (hnd : nd ≤ 80) (hK : K + 3 ≤ d) (hK2 : 12 ≤ d) (hmono : pMono rec) (hRd : ∀ dp d', deep ≤ 24 → dp = deep + 1 → K ≤ d' → xRd tp sz d' dp rec) (hw : xWd S w (ztn 14)) (hwN : w < gN S) (hwl : at0 + 7 ≤ sz) {post : Outcome × zS → Prop} (h1 : ∀ S17 : zS, ∀ nd17 : Nat, (zFin true S17) → (pRead at0 deep nd false = .ok nd17) → (xFr S S17) → (xR tp sz S17 r at0 nd17) → (gN S ≤ gN S17 ∧ gN S17 ≤ gN S + 0 ∧ gZ S17 ≤ gZ S + 0) → (at0 ≤ sz) → (nd17 ≤ 80) → (deep ≤ 24) → ∀ S19 : zS, ∀ a19 : Nat, ∀ y19 : zNd, ∀ at19 : Nat, ∀ nd19 : Nat, (zFin true S19) → (pW tp sz rec 9 at0 deep (at0 + 7) nd17 = .ok (y19, at19, nd19)) → (xFr (sI S17 133 r (Int32.ofNat (at0 + 7))) S19) → (xTl (gN S17) S19 y19 a19) → (xR tp sz S19 r at19 nd19) → (gN S17 ≤ gN S19 ∧ gN S19 + 30 * (sz - at19) ≤ gN S17 + 30 * (sz - (at0 + 7)) ∧ gZ S19 + 150 * (sz - at19) ≤ gZ S17 + 150 * (sz - (at0 + 7))) → (at19 ≤ sz ∧ gN S17 ≤ a19 ∧ a19 < gN S19) → post (.returned (some (.ref a19)), S19)) (h2 : ∀ S17 : zS, ∀ nd17 : Nat, (zFin true S17) → (pRead at0 deep nd false = .ok nd17) → (xFr S S17) → (xR tp sz S17 r at0 nd17) → (gN S ≤ gN S17 ∧ gN S17 ≤ gN S + 0 ∧ gZ S17 ≤ gZ S + 0) → (at0 ≤ sz) → (nd17 ≤ 80) → (deep ≤ 24) → ∀ S20 : zS, ∀ q20 : Nat, ∀ kk20 : Nat, ∀ z20 : Nat, (zFin true S20) → (pW tp sz rec 9 at0 deep (at0 + 7) nd17 = .error (kk20, z20)) → (xFr (sI S17 133 r (Int32.ofNat (at0 + 7))) S20) → (xFl S20 q20 kk20 z20) → (gN S17 ≤ gN S20 ∧ gN S20 ≤ gN S17 + 30 * (sz - (at0 + 7)) + 60 ∧ gZ S20 ≤ gZ S17 + 150 * (sz - (at0 + 7)) + 2000) → post (.threw q20, S20)) (h3 : ∀ S18 : zS, ∀ q18 : Nat, (zFin true S18) → (pRead at0 deep nd false = .error (2, at0)) → (xFr S S18) → (xFl S18 q18 2 at0) → (gN S ≤ gN S18 ∧ gN S18 ≤ gN S + 1 ∧ gZ S18 ≤ gZ S + 3) → post (.threw q18, S18)) : zCall d 266 [.ref r, .int (Int32.ofNat at0), .ref w, .int (Int32.ofNat deep)] S post := by
  have ht : ztab 266 = ztb266 := rfl
  show zEv d 266 0 [.ref r, .int (Int32.ofNat at0), .ref w, .int (Int32.ofNat deep), .retAddr 0, .retAddr 0, .retAddr 0] [] S post
  refine zv_c1 ht rfl rfl ?_
  refine zv_c2 (L' := [.ref r, .int (Int32.ofNat at0), .ref w, .int (Int32.ofNat deep), .int 0, .retAddr 0, .retAddr 0]) ht rfl rfl ?_
  refine zv_c1 ht rfl rfl (zv_c1 ht rfl rfl ?_)
  refine zv_br ht rfl rfl rfl (fun h => absurd h (by decide)) (fun _ => ?_)
  refine zv_c1 ht rfl rfl ?_
  have C2 : ∀ (pst1 : Outcome × zS → Prop), (pst1 (.returned (some (.ref 4294967318)), S)) → zCall (d - 1) 8 [.int 0] S pst1 := by
    intro pst1 k4
    have ht3 : ztab 8 = ztb8 := rfl
    show zEv (d - 1) 8 0 [.int 0] [] S pst1
    refine zv_c1 ht3 rfl rfl ?_
    refine zv_sw ht3 rfl rfl rfl rfl rfl ?_
    refine And.intro (fun _ => ?_) (fun h => absurd (by decide) h)
    refine zv_c1 ht3 rfl rfl ?_
    exact zv_rt ht3 rfl rfl rfl rfl k4
  refine zv_cl ht rfl rfl rfl rfl (by omega) (Nat.le_of_ble_eq_true rfl) (C2 _ ?_)
  show zEv d 266 14 [.ref r, .int (Int32.ofNat at0), .ref w, .int (Int32.ofNat deep), .int 0, .retAddr 0, .retAddr 0] [.ref 4294967318] S post
  refine zv_c1 ht rfl rfl ?_
  refine zv_cl ht rfl rfl rfl (zv_tgv ((zStr.t (xR.lit hR 11 (by decide)))) rfl) (by omega) (Nat.le_of_ble_eq_true rfl) (x_eqW (S := S) hF (by omega) (xR.lit hR 11 (by decide)) hw.1 (v := 0) (zbo_neg (by decide)) ?_)
  show zEv d 266 18 [.ref r, .int (Int32.ofNat at0), .ref w, .int (Int32.ofNat deep), .int 0, .retAddr 0, .retAddr 0] [.int 0] S post
  refine zv_br ht rfl rfl rfl (fun h => absurd h (by decide)) (fun _ => ?_)
  refine zv_c1 ht rfl rfl ?_
  refine zv_c2 (L' := [.ref r, .int (Int32.ofNat at0), .ref w, .int (Int32.ofNat deep), .int 1, .retAddr 0, .retAddr 0]) ht rfl rfl ?_
  refine zv_c1 ht rfl rfl (zv_c1 ht rfl rfl (zv_c1 ht rfl rfl ?_))
  refine zv_br ht rfl rfl rfl (fun h => absurd h (by decide)) (fun _ => ?_)
  refine zv_c1 ht rfl rfl ?_
  have C6 : ∀ (pst5 : Outcome × zS → Prop), (pst5 (.returned (some (.ref 4294967320)), S)) → zCall (d - 1) 8 [.int 1] S pst5 := by
    intro pst5 k8
    have ht7 : ztab 8 = ztb8 := rfl
    show zEv (d - 1) 8 0 [.int 1] [] S pst5
    refine zv_c1 ht7 rfl rfl ?_
    refine zv_sw ht7 rfl rfl rfl rfl rfl ?_
    refine And.intro (fun h => absurd h (by decide)) (fun _ => ?_)
    refine And.intro (fun _ => ?_) (fun h => absurd (by decide) h)
    refine zv_c1 ht7 rfl rfl ?_
    exact zv_rt ht7 rfl rfl rfl rfl k8
  refine zv_cl ht rfl rfl rfl rfl (by omega) (Nat.le_of_ble_eq_true rfl) (C6 _ ?_)
  show zEv d 266 14 [.ref r, .int (Int32.ofNat at0), .ref w, .int (Int32.ofNat deep), .int 1, .retAddr 0, .retAddr 0] [.ref 4294967320] S post
  refine zv_c1 ht rfl rfl ?_
  refine zv_cl ht rfl rfl rfl (zv_tgv ((zStr.t (xR.lit hR 12 (by decide)))) rfl) (by omega) (Nat.le_of_ble_eq_true rfl) (x_eqW (S := S) hF (by omega) (xR.lit hR 12 (by decide)) hw.1 (v := 0) (zbo_neg (by decide)) ?_)
  show zEv d 266 18 [.ref r, .int (Int32.ofNat at0), .ref w, .int (Int32.ofNat deep), .int 1, .retAddr 0, .retAddr 0] [.int 0] S post
  refine zv_br ht rfl rfl rfl (fun h => absurd h (by decide)) (fun _ => ?_)
  refine zv_c1 ht rfl rfl ?_
  refine zv_c2 (L' := [.ref r, .int (Int32.ofNat at0), .ref w, .int (Int32.ofNat deep), .int 2, .retAddr 0, .retAddr 0]) ht rfl rfl ?_
  refine zv_c1 ht rfl rfl (zv_c1 ht rfl rfl (zv_c1 ht rfl rfl ?_))
  refine zv_br ht rfl rfl rfl (fun h => absurd h (by decide)) (fun _ => ?_)
  refine zv_c1 ht rfl rfl ?_
  have C10 : ∀ (pst9 : Outcome × zS → Prop), (pst9 (.returned (some (.ref 4294967322)), S)) → zCall (d - 1) 8 [.int 2] S pst9 := by
    intro pst9 k12
    have ht11 : ztab 8 = ztb8 := rfl
    show zEv (d - 1) 8 0 [.int 2] [] S pst9
    refine zv_c1 ht11 rfl rfl ?_
    refine zv_sw ht11 rfl rfl rfl rfl rfl ?_
    refine And.intro (fun h => absurd h (by decide)) (fun _ => ?_)
    refine And.intro (fun h => absurd h (by decide)) (fun _ => ?_)
    refine And.intro (fun _ => ?_) (fun h => absurd (by decide) h)
    refine zv_c1 ht11 rfl rfl ?_
    exact zv_rt ht11 rfl rfl rfl rfl k12
  refine zv_cl ht rfl rfl rfl rfl (by omega) (Nat.le_of_ble_eq_true rfl) (C10 _ ?_)
  show zEv d 266 14 [.ref r, .int (Int32.ofNat at0), .ref w, .int (Int32.ofNat deep), .int 2, .retAddr 0, .retAddr 0] [.ref 4294967322] S post
  refine zv_c1 ht rfl rfl ?_
  refine zv_cl ht rfl rfl rfl (zv_tgv ((zStr.t (xR.lit hR 13 (by decide)))) rfl) (by omega) (Nat.le_of_ble_eq_true rfl) (x_eqW (S := S) hF (by omega) (xR.lit hR 13 (by decide)) hw.1 (v := 0) (zbo_neg (by decide)) ?_)
  show zEv d 266 18 [.ref r, .int (Int32.ofNat at0), .ref w, .int (Int32.ofNat deep), .int 2, .retAddr 0, .retAddr 0] [.int 0] S post
  refine zv_br ht rfl rfl rfl (fun h => absurd h (by decide)) (fun _ => ?_)
  refine zv_c1 ht rfl rfl ?_
  refine zv_c2 (L' := [.ref r, .int (Int32.ofNat at0), .ref w, .int (Int32.ofNat deep), .int 3, .retAddr 0, .retAddr 0]) ht rfl rfl ?_
  refine zv_c1 ht rfl rfl (zv_c1 ht rfl rfl (zv_c1 ht rfl rfl ?_))
  refine zv_br ht rfl rfl rfl (fun h => absurd h (by decide)) (fun _ => ?_)
  refine zv_c1 ht rfl rfl ?_
  have C14 : ∀ (pst13 : Outcome × zS → Prop), (pst13 (.returned (some (.ref 4294967324)), S)) → zCall (d - 1) 8 [.int 3] S pst13 := by
    intro pst13 k16
    have ht15 : ztab 8 = ztb8 := rfl
    show zEv (d - 1) 8 0 [.int 3] [] S pst13
    refine zv_c1 ht15 rfl rfl ?_
    refine zv_sw ht15 rfl rfl rfl rfl rfl ?_
    refine And.intro (fun h => absurd h (by decide)) (fun _ => ?_)
    refine And.intro (fun h => absurd h (by decide)) (fun _ => ?_)
    refine And.intro (fun h => absurd h (by decide)) (fun _ => ?_)
    refine zv_c1 ht15 rfl rfl ?_
    exact zv_rt ht15 rfl rfl rfl rfl k16
  refine zv_cl ht rfl rfl rfl rfl (by omega) (Nat.le_of_ble_eq_true rfl) (C14 _ ?_)
  show zEv d 266 14 [.ref r, .int (Int32.ofNat at0), .ref w, .int (Int32.ofNat deep), .int 3, .retAddr 0, .retAddr 0] [.ref 4294967324] S post
  refine zv_c1 ht rfl rfl ?_
  refine zv_cl ht rfl rfl rfl (zv_tgv ((zStr.t (xR.lit hR 14 (by decide)))) rfl) (by omega) (Nat.le_of_ble_eq_true rfl) (x_eqW (S := S) hF (by omega) (xR.lit hR 14 (by decide)) hw.1 (v := 1) (zbo_pos rfl) ?_)
  show zEv d 266 18 [.ref r, .int (Int32.ofNat at0), .ref w, .int (Int32.ofNat deep), .int 3, .retAddr 0, .retAddr 0] [.int 1] S post
  refine zv_br ht rfl rfl rfl (fun _ => ?_) (fun h => absurd (by decide) h)
  refine zv_c1 ht rfl rfl (zv_c1 ht rfl rfl (zv_c1 ht rfl rfl (zv_c1 ht rfl rfl ?_)))
  refine zv_cl ht rfl rfl rfl (zv_tgv (hR.1.2.2.2.1) rfl) (by omega) (Nat.le_of_ble_eq_true rfl) (x_begins (S := S) (tp := tp) (sz := sz) (r := r) (p := at0) (dp := deep) (m := 1) (dq := deep) (two := false) hF (by omega) hR (by omega) (by omega) (by omega) (by omega) rfl rfl (fun S17 nd17 hF17 e17 k17 p17 g17 b17 c17 d17 => ?_) (fun S18 q18 hF18 e18 k18 x18 g18 => ?_))
  · show zEv d 266 31 [.ref r, .int (Int32.ofNat at0), .ref w, .int (Int32.ofNat deep), .int 3, .retAddr 0, .retAddr 0] [] S17 post
    refine zv_c1 ht rfl rfl (zv_c1 ht rfl rfl ?_)
    refine zv_ei (x := Int32.ofNat at0) ht rfl rfl (zhas_of (p17.1.2.2.2.1) rfl) p17.1.1 ?_
    refine zv_c1 ht rfl rfl ?_
    refine zv_cl ht rfl rfl rfl (zv_tgv (Eq.trans (zKE.T k17 (Or.inl (show w < gN S from by omega))) (zStr.t hw.1)) rfl) (by omega) (Nat.le_of_ble_eq_true rfl) (x_len (S := S17) hF17 (by omega) (xWd.k hw (zKE.tr zKE.rf (zKE.w k17 (show gN S ≤ gN S from by omega) (fun _ h => h) (fun _ h => h)))).1 (n := 7) (by decide) ?_)
    show zEv d 266 40 [.ref r, .int (Int32.ofNat at0), .ref w, .int (Int32.ofNat deep), .int 3, .retAddr 0, .retAddr 0] [.int 7, .int (Int32.ofNat at0), .ref r] S17 post
    refine zv_e1 (x := Int32.ofNat (at0 + 7)) ht rfl rfl (zi_addE (a := at0) (b := 7) rfl rfl) ?_
    refine zv_ci (S' := sI S17 133 r (Int32.ofNat (at0 + 7))) ht rfl rfl ⟨(zhas_of (p17.1.2.2.2.1) rfl), (show r < gN S17 from by omega)⟩ ?_
    refine zv_c1 ht rfl rfl (zv_c1 ht rfl rfl (zv_c1 ht rfl rfl ?_))
    refine zv_cl ht rfl rfl rfl (zv_tgv (p17.1.2.2.2.1) rfl) (by omega) (Nat.le_of_ble_eq_true rfl) (xEnd.use (g := gN S17) (z := gZ S17) rfl rfl (x_image (S := sI S17 133 r (Int32.ofNat (at0 + 7))) (r := r) (rec := rec) (deep := deep) (p := at0) (k := 9) hF17 (by omega) (xR_at p17 (by omega)) (by omega) (by omega) (by omega)) (fun S19 a19 y19 at19 nd19 hF19 e19 k19 t19 p19 g19 c19 => ?_) (fun S20 q20 kk20 z20 hF20 e20 k20 x20 g20 => ?_))
    · show zEv d 266 51 [.ref r, .int (Int32.ofNat at0), .ref w, .int (Int32.ofNat deep), .int 3, .retAddr 0, .retAddr 0] [.ref a19] S19 post
      exact zv_rt ht rfl rfl rfl rfl (h1 S17 nd17 hF17 e17 k17 p17 g17 b17 c17 d17 S19 a19 y19 at19 nd19 hF19 e19 k19 t19 p19 g19 c19)
    · exact (h2 S17 nd17 hF17 e17 k17 p17 g17 b17 c17 d17 S20 q20 kk20 z20 hF20 e20 k20 x20 g20)
  · exact (h3 S18 q18 hF18 e18 k18 x18 g18)

theorem ot23 {d : Nat} {S : zS} (hF : zFin true S) (hd : 4 ≤ d) {tp : Nat → Nat} {sz at0 nd r : Nat} {rec : Nat → Nat → Nat → pE (zNd × Nat × Nat)} {K : Nat} {w : Nat} (deep : Nat) (hR : xR tp sz S r at0 nd) (hs0 : sz ≤ 300) (ha0 : at0 ≤ sz) (hr1 : 1639 ≤ r) (hr2 : r < gN S) (hN : gN S + 30 * (sz - at0) ≤ 1700000) (hdp : deep < 1000) (hnd : nd ≤ 80) (hK : K + 3 ≤ d) (hK2 : 12 ≤ d) (hmono : pMono rec) (hRd : ∀ dp d', deep ≤ 24 → dp = deep + 1 → K ≤ d' → xRd tp sz d' dp rec) (hw : xWd S w (ztn 23)) (hwN : w < gN S) (hwl : at0 + 5 ≤ sz) {post : Outcome × zS → Prop} (h1 : ∀ S21 : zS, ∀ nd21 : Nat, (zFin true S21) → (pRead at0 deep nd false = .ok nd21) → (xFr S S21) → (xR tp sz S21 r at0 nd21) → (gN S ≤ gN S21 ∧ gN S21 ≤ gN S + 0 ∧ gZ S21 ≤ gZ S + 0) → (at0 ≤ sz) → (nd21 ≤ 80) → (deep ≤ 24) → ∀ S23 : zS, (zFin true S23) → (pWant tp sz 40 (at0 + 5) = .ok (at0 + 6)) → (xFr (sI S21 133 r (Int32.ofNat (at0 + 5))) S23) → (xR tp sz S23 r (at0 + 6) nd21) → (gN (sI S21 133 r (Int32.ofNat (at0 + 5))) ≤ gN S23 ∧ gN S23 ≤ gN (sI S21 133 r (Int32.ofNat (at0 + 5))) + 0 ∧ gZ S23 ≤ gZ (sI S21 133 r (Int32.ofNat (at0 + 5))) + 0) → ((at0 + 6) ≤ sz) → ∀ S25 : zS, ∀ a25 : Nat, ∀ y25 : zNd, ∀ at25 : Nat, ∀ nd25 : Nat, (zFin true S25) → (rec (deep + 1) (at0 + 6) nd21 = .ok (y25, at25, nd25)) → (xFr S23 S25) → (xTl (gN S23) S25 y25 a25) → (xR tp sz S25 r at25 nd25) → (gN S23 ≤ gN S25 ∧ gN S25 + 30 * (sz - at25) ≤ gN S23 + 30 * (sz - (at0 + 6)) ∧ gZ S25 + 150 * (sz - at25) ≤ gZ S23 + 150 * (sz - (at0 + 6))) → (at25 ≤ sz ∧ gN S23 ≤ a25 ∧ a25 < gN S25 ∧ (at0 + 6) < at25 ∧ nd25 ≤ 80) → ∀ S27 : zS, (zFin true S27) → (pWant tp sz 44 at25 = .ok (at25 + 1)) → (xFr S25 S27) → (xR tp sz S27 r (at25 + 1) nd25) → (gN S25 ≤ gN S27 ∧ gN S27 ≤ gN S25 + 0 ∧ gZ S27 ≤ gZ S25 + 0) → ((at25 + 1) ≤ sz) → ∀ S29 : zS, ∀ a29 : Nat, ∀ y29 : zNd, ∀ at29 : Nat, ∀ nd29 : Nat, (zFin true S29) → (rec (deep + 1) (at25 + 1) nd25 = .ok (y29, at29, nd29)) → (xFr S27 S29) → (xTl (gN S27) S29 y29 a29) → (xR tp sz S29 r at29 nd29) → (gN S27 ≤ gN S29 ∧ gN S29 + 30 * (sz - at29) ≤ gN S27 + 30 * (sz - (at25 + 1)) ∧ gZ S29 + 150 * (sz - at29) ≤ gZ S27 + 150 * (sz - (at25 + 1))) → (at29 ≤ sz ∧ gN S27 ≤ a29 ∧ a29 < gN S29 ∧ (at25 + 1) < at29 ∧ nd29 ≤ 80) → ∀ S31 : zS, (zFin true S31) → (pWant tp sz 41 at29 = .ok (at29 + 1)) → (xFr S29 S31) → (xR tp sz S31 r (at29 + 1) nd29) → (gN S29 ≤ gN S31 ∧ gN S31 ≤ gN S29 + 0 ∧ gZ S31 ≤ gZ S29 + 0) → ((at29 + 1) ≤ sz) → ∀ S44 : zS, (zFin true S44) → (pJ (tN 11 0 [] at0 [y25, y29]) = .ok (tN 11 0 [] at0 [y25, y29])) → (xJd (sP (sP (sI (sI (sP (sNew S31 20 0 (zslots 20)) 190 (gN S31) (some 0)) 144 (gN S31) (Int32.ofNat at0)) 187 (gN S31) 0) 188 (gN S31) (some a25)) 189 (gN S31) (some a29)) (gN S31) S44) → (xTl (gN S) S44 (tN 11 0 [] at0 [y25, y29]) (gN S31)) → (xR tp sz S44 r (at29 + 1) nd29) → (gN S44 = gN S31 + 1 ∧ gZ S44 = gZ S31 + 20) → post (.returned (some (.ref (gN S31))), S44)) (h2 : ∀ S21 : zS, ∀ nd21 : Nat, (zFin true S21) → (pRead at0 deep nd false = .ok nd21) → (xFr S S21) → (xR tp sz S21 r at0 nd21) → (gN S ≤ gN S21 ∧ gN S21 ≤ gN S + 0 ∧ gZ S21 ≤ gZ S + 0) → (at0 ≤ sz) → (nd21 ≤ 80) → (deep ≤ 24) → ∀ S23 : zS, (zFin true S23) → (pWant tp sz 40 (at0 + 5) = .ok (at0 + 6)) → (xFr (sI S21 133 r (Int32.ofNat (at0 + 5))) S23) → (xR tp sz S23 r (at0 + 6) nd21) → (gN (sI S21 133 r (Int32.ofNat (at0 + 5))) ≤ gN S23 ∧ gN S23 ≤ gN (sI S21 133 r (Int32.ofNat (at0 + 5))) + 0 ∧ gZ S23 ≤ gZ (sI S21 133 r (Int32.ofNat (at0 + 5))) + 0) → ((at0 + 6) ≤ sz) → ∀ S25 : zS, ∀ a25 : Nat, ∀ y25 : zNd, ∀ at25 : Nat, ∀ nd25 : Nat, (zFin true S25) → (rec (deep + 1) (at0 + 6) nd21 = .ok (y25, at25, nd25)) → (xFr S23 S25) → (xTl (gN S23) S25 y25 a25) → (xR tp sz S25 r at25 nd25) → (gN S23 ≤ gN S25 ∧ gN S25 + 30 * (sz - at25) ≤ gN S23 + 30 * (sz - (at0 + 6)) ∧ gZ S25 + 150 * (sz - at25) ≤ gZ S23 + 150 * (sz - (at0 + 6))) → (at25 ≤ sz ∧ gN S23 ≤ a25 ∧ a25 < gN S25 ∧ (at0 + 6) < at25 ∧ nd25 ≤ 80) → ∀ S27 : zS, (zFin true S27) → (pWant tp sz 44 at25 = .ok (at25 + 1)) → (xFr S25 S27) → (xR tp sz S27 r (at25 + 1) nd25) → (gN S25 ≤ gN S27 ∧ gN S27 ≤ gN S25 + 0 ∧ gZ S27 ≤ gZ S25 + 0) → ((at25 + 1) ≤ sz) → ∀ S29 : zS, ∀ a29 : Nat, ∀ y29 : zNd, ∀ at29 : Nat, ∀ nd29 : Nat, (zFin true S29) → (rec (deep + 1) (at25 + 1) nd25 = .ok (y29, at29, nd29)) → (xFr S27 S29) → (xTl (gN S27) S29 y29 a29) → (xR tp sz S29 r at29 nd29) → (gN S27 ≤ gN S29 ∧ gN S29 + 30 * (sz - at29) ≤ gN S27 + 30 * (sz - (at25 + 1)) ∧ gZ S29 + 150 * (sz - at29) ≤ gZ S27 + 150 * (sz - (at25 + 1))) → (at29 ≤ sz ∧ gN S27 ≤ a29 ∧ a29 < gN S29 ∧ (at25 + 1) < at29 ∧ nd29 ≤ 80) → ∀ S31 : zS, (zFin true S31) → (pWant tp sz 41 at29 = .ok (at29 + 1)) → (xFr S29 S31) → (xR tp sz S31 r (at29 + 1) nd29) → (gN S29 ≤ gN S31 ∧ gN S31 ≤ gN S29 + 0 ∧ gZ S31 ≤ gZ S29 + 0) → ((at29 + 1) ≤ sz) → ∀ S45 : zS, ∀ q45 : Nat, (zFin true S45) → (pJ (tN 11 0 [] at0 [y25, y29]) = .error (3, at0)) → (xFn (sP (sP (sI (sI (sP (sNew S31 20 0 (zslots 20)) 190 (gN S31) (some 0)) 144 (gN S31) (Int32.ofNat at0)) 187 (gN S31) 0) 188 (gN S31) (some a25)) 189 (gN S31) (some a29)) (gN S31) S45) → (xFl S45 q45 3 at0) → (gN S45 = gN S31 + 1 + 1 ∧ gZ S45 ≤ gZ S31 + 20 + 3) → post (.threw q45, S45)) (h3 : ∀ S21 : zS, ∀ nd21 : Nat, (zFin true S21) → (pRead at0 deep nd false = .ok nd21) → (xFr S S21) → (xR tp sz S21 r at0 nd21) → (gN S ≤ gN S21 ∧ gN S21 ≤ gN S + 0 ∧ gZ S21 ≤ gZ S + 0) → (at0 ≤ sz) → (nd21 ≤ 80) → (deep ≤ 24) → ∀ S23 : zS, (zFin true S23) → (pWant tp sz 40 (at0 + 5) = .ok (at0 + 6)) → (xFr (sI S21 133 r (Int32.ofNat (at0 + 5))) S23) → (xR tp sz S23 r (at0 + 6) nd21) → (gN (sI S21 133 r (Int32.ofNat (at0 + 5))) ≤ gN S23 ∧ gN S23 ≤ gN (sI S21 133 r (Int32.ofNat (at0 + 5))) + 0 ∧ gZ S23 ≤ gZ (sI S21 133 r (Int32.ofNat (at0 + 5))) + 0) → ((at0 + 6) ≤ sz) → ∀ S25 : zS, ∀ a25 : Nat, ∀ y25 : zNd, ∀ at25 : Nat, ∀ nd25 : Nat, (zFin true S25) → (rec (deep + 1) (at0 + 6) nd21 = .ok (y25, at25, nd25)) → (xFr S23 S25) → (xTl (gN S23) S25 y25 a25) → (xR tp sz S25 r at25 nd25) → (gN S23 ≤ gN S25 ∧ gN S25 + 30 * (sz - at25) ≤ gN S23 + 30 * (sz - (at0 + 6)) ∧ gZ S25 + 150 * (sz - at25) ≤ gZ S23 + 150 * (sz - (at0 + 6))) → (at25 ≤ sz ∧ gN S23 ≤ a25 ∧ a25 < gN S25 ∧ (at0 + 6) < at25 ∧ nd25 ≤ 80) → ∀ S27 : zS, (zFin true S27) → (pWant tp sz 44 at25 = .ok (at25 + 1)) → (xFr S25 S27) → (xR tp sz S27 r (at25 + 1) nd25) → (gN S25 ≤ gN S27 ∧ gN S27 ≤ gN S25 + 0 ∧ gZ S27 ≤ gZ S25 + 0) → ((at25 + 1) ≤ sz) → ∀ S29 : zS, ∀ a29 : Nat, ∀ y29 : zNd, ∀ at29 : Nat, ∀ nd29 : Nat, (zFin true S29) → (rec (deep + 1) (at25 + 1) nd25 = .ok (y29, at29, nd29)) → (xFr S27 S29) → (xTl (gN S27) S29 y29 a29) → (xR tp sz S29 r at29 nd29) → (gN S27 ≤ gN S29 ∧ gN S29 + 30 * (sz - at29) ≤ gN S27 + 30 * (sz - (at25 + 1)) ∧ gZ S29 + 150 * (sz - at29) ≤ gZ S27 + 150 * (sz - (at25 + 1))) → (at29 ≤ sz ∧ gN S27 ≤ a29 ∧ a29 < gN S29 ∧ (at25 + 1) < at29 ∧ nd29 ≤ 80) → ∀ S32 : zS, ∀ q32 : Nat, (zFin true S32) → (pWant tp sz 41 at29 = .error (1, at29)) → (xFr S29 S32) → (xFl S32 q32 1 at29) → (gN S29 ≤ gN S32 ∧ gN S32 ≤ gN S29 + 1 ∧ gZ S32 ≤ gZ S29 + 3) → post (.threw q32, S32)) (h4 : ∀ S21 : zS, ∀ nd21 : Nat, (zFin true S21) → (pRead at0 deep nd false = .ok nd21) → (xFr S S21) → (xR tp sz S21 r at0 nd21) → (gN S ≤ gN S21 ∧ gN S21 ≤ gN S + 0 ∧ gZ S21 ≤ gZ S + 0) → (at0 ≤ sz) → (nd21 ≤ 80) → (deep ≤ 24) → ∀ S23 : zS, (zFin true S23) → (pWant tp sz 40 (at0 + 5) = .ok (at0 + 6)) → (xFr (sI S21 133 r (Int32.ofNat (at0 + 5))) S23) → (xR tp sz S23 r (at0 + 6) nd21) → (gN (sI S21 133 r (Int32.ofNat (at0 + 5))) ≤ gN S23 ∧ gN S23 ≤ gN (sI S21 133 r (Int32.ofNat (at0 + 5))) + 0 ∧ gZ S23 ≤ gZ (sI S21 133 r (Int32.ofNat (at0 + 5))) + 0) → ((at0 + 6) ≤ sz) → ∀ S25 : zS, ∀ a25 : Nat, ∀ y25 : zNd, ∀ at25 : Nat, ∀ nd25 : Nat, (zFin true S25) → (rec (deep + 1) (at0 + 6) nd21 = .ok (y25, at25, nd25)) → (xFr S23 S25) → (xTl (gN S23) S25 y25 a25) → (xR tp sz S25 r at25 nd25) → (gN S23 ≤ gN S25 ∧ gN S25 + 30 * (sz - at25) ≤ gN S23 + 30 * (sz - (at0 + 6)) ∧ gZ S25 + 150 * (sz - at25) ≤ gZ S23 + 150 * (sz - (at0 + 6))) → (at25 ≤ sz ∧ gN S23 ≤ a25 ∧ a25 < gN S25 ∧ (at0 + 6) < at25 ∧ nd25 ≤ 80) → ∀ S27 : zS, (zFin true S27) → (pWant tp sz 44 at25 = .ok (at25 + 1)) → (xFr S25 S27) → (xR tp sz S27 r (at25 + 1) nd25) → (gN S25 ≤ gN S27 ∧ gN S27 ≤ gN S25 + 0 ∧ gZ S27 ≤ gZ S25 + 0) → ((at25 + 1) ≤ sz) → ∀ S30 : zS, ∀ q30 : Nat, ∀ kk30 : Nat, ∀ z30 : Nat, (zFin true S30) → (rec (deep + 1) (at25 + 1) nd25 = .error (kk30, z30)) → (xFr S27 S30) → (xFl S30 q30 kk30 z30) → (gN S27 ≤ gN S30 ∧ gN S30 ≤ gN S27 + 30 * (sz - (at25 + 1)) + 60 ∧ gZ S30 ≤ gZ S27 + 150 * (sz - (at25 + 1)) + 2000) → post (.threw q30, S30)) (h5 : ∀ S21 : zS, ∀ nd21 : Nat, (zFin true S21) → (pRead at0 deep nd false = .ok nd21) → (xFr S S21) → (xR tp sz S21 r at0 nd21) → (gN S ≤ gN S21 ∧ gN S21 ≤ gN S + 0 ∧ gZ S21 ≤ gZ S + 0) → (at0 ≤ sz) → (nd21 ≤ 80) → (deep ≤ 24) → ∀ S23 : zS, (zFin true S23) → (pWant tp sz 40 (at0 + 5) = .ok (at0 + 6)) → (xFr (sI S21 133 r (Int32.ofNat (at0 + 5))) S23) → (xR tp sz S23 r (at0 + 6) nd21) → (gN (sI S21 133 r (Int32.ofNat (at0 + 5))) ≤ gN S23 ∧ gN S23 ≤ gN (sI S21 133 r (Int32.ofNat (at0 + 5))) + 0 ∧ gZ S23 ≤ gZ (sI S21 133 r (Int32.ofNat (at0 + 5))) + 0) → ((at0 + 6) ≤ sz) → ∀ S25 : zS, ∀ a25 : Nat, ∀ y25 : zNd, ∀ at25 : Nat, ∀ nd25 : Nat, (zFin true S25) → (rec (deep + 1) (at0 + 6) nd21 = .ok (y25, at25, nd25)) → (xFr S23 S25) → (xTl (gN S23) S25 y25 a25) → (xR tp sz S25 r at25 nd25) → (gN S23 ≤ gN S25 ∧ gN S25 + 30 * (sz - at25) ≤ gN S23 + 30 * (sz - (at0 + 6)) ∧ gZ S25 + 150 * (sz - at25) ≤ gZ S23 + 150 * (sz - (at0 + 6))) → (at25 ≤ sz ∧ gN S23 ≤ a25 ∧ a25 < gN S25 ∧ (at0 + 6) < at25 ∧ nd25 ≤ 80) → ∀ S28 : zS, ∀ q28 : Nat, (zFin true S28) → (pWant tp sz 44 at25 = .error (1, at25)) → (xFr S25 S28) → (xFl S28 q28 1 at25) → (gN S25 ≤ gN S28 ∧ gN S28 ≤ gN S25 + 1 ∧ gZ S28 ≤ gZ S25 + 3) → post (.threw q28, S28)) (h6 : ∀ S21 : zS, ∀ nd21 : Nat, (zFin true S21) → (pRead at0 deep nd false = .ok nd21) → (xFr S S21) → (xR tp sz S21 r at0 nd21) → (gN S ≤ gN S21 ∧ gN S21 ≤ gN S + 0 ∧ gZ S21 ≤ gZ S + 0) → (at0 ≤ sz) → (nd21 ≤ 80) → (deep ≤ 24) → ∀ S23 : zS, (zFin true S23) → (pWant tp sz 40 (at0 + 5) = .ok (at0 + 6)) → (xFr (sI S21 133 r (Int32.ofNat (at0 + 5))) S23) → (xR tp sz S23 r (at0 + 6) nd21) → (gN (sI S21 133 r (Int32.ofNat (at0 + 5))) ≤ gN S23 ∧ gN S23 ≤ gN (sI S21 133 r (Int32.ofNat (at0 + 5))) + 0 ∧ gZ S23 ≤ gZ (sI S21 133 r (Int32.ofNat (at0 + 5))) + 0) → ((at0 + 6) ≤ sz) → ∀ S26 : zS, ∀ q26 : Nat, ∀ kk26 : Nat, ∀ z26 : Nat, (zFin true S26) → (rec (deep + 1) (at0 + 6) nd21 = .error (kk26, z26)) → (xFr S23 S26) → (xFl S26 q26 kk26 z26) → (gN S23 ≤ gN S26 ∧ gN S26 ≤ gN S23 + 30 * (sz - (at0 + 6)) + 60 ∧ gZ S26 ≤ gZ S23 + 150 * (sz - (at0 + 6)) + 2000) → post (.threw q26, S26)) (h7 : ∀ S21 : zS, ∀ nd21 : Nat, (zFin true S21) → (pRead at0 deep nd false = .ok nd21) → (xFr S S21) → (xR tp sz S21 r at0 nd21) → (gN S ≤ gN S21 ∧ gN S21 ≤ gN S + 0 ∧ gZ S21 ≤ gZ S + 0) → (at0 ≤ sz) → (nd21 ≤ 80) → (deep ≤ 24) → ∀ S24 : zS, ∀ q24 : Nat, (zFin true S24) → (pWant tp sz 40 (at0 + 5) = .error (1, at0 + 5)) → (xFr (sI S21 133 r (Int32.ofNat (at0 + 5))) S24) → (xFl S24 q24 1 (at0 + 5)) → (gN (sI S21 133 r (Int32.ofNat (at0 + 5))) ≤ gN S24 ∧ gN S24 ≤ gN (sI S21 133 r (Int32.ofNat (at0 + 5))) + 1 ∧ gZ S24 ≤ gZ (sI S21 133 r (Int32.ofNat (at0 + 5))) + 3) → post (.threw q24, S24)) (h8 : ∀ S22 : zS, ∀ q22 : Nat, (zFin true S22) → (pRead at0 deep nd false = .error (2, at0)) → (xFr S S22) → (xFl S22 q22 2 at0) → (gN S ≤ gN S22 ∧ gN S22 ≤ gN S + 1 ∧ gZ S22 ≤ gZ S + 3) → post (.threw q22, S22)) : zCall d 266 [.ref r, .int (Int32.ofNat at0), .ref w, .int (Int32.ofNat deep)] S post := by
  have ht : ztab 266 = ztb266 := rfl
  show zEv d 266 0 [.ref r, .int (Int32.ofNat at0), .ref w, .int (Int32.ofNat deep), .retAddr 0, .retAddr 0, .retAddr 0] [] S post
  refine zv_c1 ht rfl rfl ?_
  refine zv_c2 (L' := [.ref r, .int (Int32.ofNat at0), .ref w, .int (Int32.ofNat deep), .int 0, .retAddr 0, .retAddr 0]) ht rfl rfl ?_
  refine zv_c1 ht rfl rfl (zv_c1 ht rfl rfl ?_)
  refine zv_br ht rfl rfl rfl (fun h => absurd h (by decide)) (fun _ => ?_)
  refine zv_c1 ht rfl rfl ?_
  have C2 : ∀ (pst1 : Outcome × zS → Prop), (pst1 (.returned (some (.ref 4294967318)), S)) → zCall (d - 1) 8 [.int 0] S pst1 := by
    intro pst1 k4
    have ht3 : ztab 8 = ztb8 := rfl
    show zEv (d - 1) 8 0 [.int 0] [] S pst1
    refine zv_c1 ht3 rfl rfl ?_
    refine zv_sw ht3 rfl rfl rfl rfl rfl ?_
    refine And.intro (fun _ => ?_) (fun h => absurd (by decide) h)
    refine zv_c1 ht3 rfl rfl ?_
    exact zv_rt ht3 rfl rfl rfl rfl k4
  refine zv_cl ht rfl rfl rfl rfl (by omega) (Nat.le_of_ble_eq_true rfl) (C2 _ ?_)
  show zEv d 266 14 [.ref r, .int (Int32.ofNat at0), .ref w, .int (Int32.ofNat deep), .int 0, .retAddr 0, .retAddr 0] [.ref 4294967318] S post
  refine zv_c1 ht rfl rfl ?_
  refine zv_cl ht rfl rfl rfl (zv_tgv ((zStr.t (xR.lit hR 11 (by decide)))) rfl) (by omega) (Nat.le_of_ble_eq_true rfl) (x_eqW (S := S) hF (by omega) (xR.lit hR 11 (by decide)) hw.1 (v := 0) (zbo_neg (by decide)) ?_)
  show zEv d 266 18 [.ref r, .int (Int32.ofNat at0), .ref w, .int (Int32.ofNat deep), .int 0, .retAddr 0, .retAddr 0] [.int 0] S post
  refine zv_br ht rfl rfl rfl (fun h => absurd h (by decide)) (fun _ => ?_)
  refine zv_c1 ht rfl rfl ?_
  refine zv_c2 (L' := [.ref r, .int (Int32.ofNat at0), .ref w, .int (Int32.ofNat deep), .int 1, .retAddr 0, .retAddr 0]) ht rfl rfl ?_
  refine zv_c1 ht rfl rfl (zv_c1 ht rfl rfl (zv_c1 ht rfl rfl ?_))
  refine zv_br ht rfl rfl rfl (fun h => absurd h (by decide)) (fun _ => ?_)
  refine zv_c1 ht rfl rfl ?_
  have C6 : ∀ (pst5 : Outcome × zS → Prop), (pst5 (.returned (some (.ref 4294967320)), S)) → zCall (d - 1) 8 [.int 1] S pst5 := by
    intro pst5 k8
    have ht7 : ztab 8 = ztb8 := rfl
    show zEv (d - 1) 8 0 [.int 1] [] S pst5
    refine zv_c1 ht7 rfl rfl ?_
    refine zv_sw ht7 rfl rfl rfl rfl rfl ?_
    refine And.intro (fun h => absurd h (by decide)) (fun _ => ?_)
    refine And.intro (fun _ => ?_) (fun h => absurd (by decide) h)
    refine zv_c1 ht7 rfl rfl ?_
    exact zv_rt ht7 rfl rfl rfl rfl k8
  refine zv_cl ht rfl rfl rfl rfl (by omega) (Nat.le_of_ble_eq_true rfl) (C6 _ ?_)
  show zEv d 266 14 [.ref r, .int (Int32.ofNat at0), .ref w, .int (Int32.ofNat deep), .int 1, .retAddr 0, .retAddr 0] [.ref 4294967320] S post
  refine zv_c1 ht rfl rfl ?_
  refine zv_cl ht rfl rfl rfl (zv_tgv ((zStr.t (xR.lit hR 12 (by decide)))) rfl) (by omega) (Nat.le_of_ble_eq_true rfl) (x_eqW (S := S) hF (by omega) (xR.lit hR 12 (by decide)) hw.1 (v := 0) (zbo_neg (by decide)) ?_)
  show zEv d 266 18 [.ref r, .int (Int32.ofNat at0), .ref w, .int (Int32.ofNat deep), .int 1, .retAddr 0, .retAddr 0] [.int 0] S post
  refine zv_br ht rfl rfl rfl (fun h => absurd h (by decide)) (fun _ => ?_)
  refine zv_c1 ht rfl rfl ?_
  refine zv_c2 (L' := [.ref r, .int (Int32.ofNat at0), .ref w, .int (Int32.ofNat deep), .int 2, .retAddr 0, .retAddr 0]) ht rfl rfl ?_
  refine zv_c1 ht rfl rfl (zv_c1 ht rfl rfl (zv_c1 ht rfl rfl ?_))
  refine zv_br ht rfl rfl rfl (fun h => absurd h (by decide)) (fun _ => ?_)
  refine zv_c1 ht rfl rfl ?_
  have C10 : ∀ (pst9 : Outcome × zS → Prop), (pst9 (.returned (some (.ref 4294967322)), S)) → zCall (d - 1) 8 [.int 2] S pst9 := by
    intro pst9 k12
    have ht11 : ztab 8 = ztb8 := rfl
    show zEv (d - 1) 8 0 [.int 2] [] S pst9
    refine zv_c1 ht11 rfl rfl ?_
    refine zv_sw ht11 rfl rfl rfl rfl rfl ?_
    refine And.intro (fun h => absurd h (by decide)) (fun _ => ?_)
    refine And.intro (fun h => absurd h (by decide)) (fun _ => ?_)
    refine And.intro (fun _ => ?_) (fun h => absurd (by decide) h)
    refine zv_c1 ht11 rfl rfl ?_
    exact zv_rt ht11 rfl rfl rfl rfl k12
  refine zv_cl ht rfl rfl rfl rfl (by omega) (Nat.le_of_ble_eq_true rfl) (C10 _ ?_)
  show zEv d 266 14 [.ref r, .int (Int32.ofNat at0), .ref w, .int (Int32.ofNat deep), .int 2, .retAddr 0, .retAddr 0] [.ref 4294967322] S post
  refine zv_c1 ht rfl rfl ?_
  refine zv_cl ht rfl rfl rfl (zv_tgv ((zStr.t (xR.lit hR 13 (by decide)))) rfl) (by omega) (Nat.le_of_ble_eq_true rfl) (x_eqW (S := S) hF (by omega) (xR.lit hR 13 (by decide)) hw.1 (v := 0) (zbo_neg (by decide)) ?_)
  show zEv d 266 18 [.ref r, .int (Int32.ofNat at0), .ref w, .int (Int32.ofNat deep), .int 2, .retAddr 0, .retAddr 0] [.int 0] S post
  refine zv_br ht rfl rfl rfl (fun h => absurd h (by decide)) (fun _ => ?_)
  refine zv_c1 ht rfl rfl ?_
  refine zv_c2 (L' := [.ref r, .int (Int32.ofNat at0), .ref w, .int (Int32.ofNat deep), .int 3, .retAddr 0, .retAddr 0]) ht rfl rfl ?_
  refine zv_c1 ht rfl rfl (zv_c1 ht rfl rfl (zv_c1 ht rfl rfl ?_))
  refine zv_br ht rfl rfl rfl (fun h => absurd h (by decide)) (fun _ => ?_)
  refine zv_c1 ht rfl rfl ?_
  have C14 : ∀ (pst13 : Outcome × zS → Prop), (pst13 (.returned (some (.ref 4294967324)), S)) → zCall (d - 1) 8 [.int 3] S pst13 := by
    intro pst13 k16
    have ht15 : ztab 8 = ztb8 := rfl
    show zEv (d - 1) 8 0 [.int 3] [] S pst13
    refine zv_c1 ht15 rfl rfl ?_
    refine zv_sw ht15 rfl rfl rfl rfl rfl ?_
    refine And.intro (fun h => absurd h (by decide)) (fun _ => ?_)
    refine And.intro (fun h => absurd h (by decide)) (fun _ => ?_)
    refine And.intro (fun h => absurd h (by decide)) (fun _ => ?_)
    refine zv_c1 ht15 rfl rfl ?_
    exact zv_rt ht15 rfl rfl rfl rfl k16
  refine zv_cl ht rfl rfl rfl rfl (by omega) (Nat.le_of_ble_eq_true rfl) (C14 _ ?_)
  show zEv d 266 14 [.ref r, .int (Int32.ofNat at0), .ref w, .int (Int32.ofNat deep), .int 3, .retAddr 0, .retAddr 0] [.ref 4294967324] S post
  refine zv_c1 ht rfl rfl ?_
  refine zv_cl ht rfl rfl rfl (zv_tgv ((zStr.t (xR.lit hR 14 (by decide)))) rfl) (by omega) (Nat.le_of_ble_eq_true rfl) (x_eqW (S := S) hF (by omega) (xR.lit hR 14 (by decide)) hw.1 (v := 0) (zbo_neg (by decide)) ?_)
  show zEv d 266 18 [.ref r, .int (Int32.ofNat at0), .ref w, .int (Int32.ofNat deep), .int 3, .retAddr 0, .retAddr 0] [.int 0] S post
  refine zv_br ht rfl rfl rfl (fun h => absurd h (by decide)) (fun _ => ?_)
  refine zv_c1 ht rfl rfl ?_
  refine zv_c2 (L' := [.ref r, .int (Int32.ofNat at0), .ref w, .int (Int32.ofNat deep), .int 4, .retAddr 0, .retAddr 0]) ht rfl rfl ?_
  refine zv_c1 ht rfl rfl (zv_c1 ht rfl rfl (zv_c1 ht rfl rfl ?_))
  refine zv_br ht rfl rfl rfl (fun _ => ?_) (fun h => absurd (by decide) h)
  refine zv_c1 ht rfl rfl ?_
  refine zv_c2 (L' := [.ref r, .int (Int32.ofNat at0), .ref w, .int (Int32.ofNat deep), .int 0, .retAddr 0, .retAddr 0]) ht rfl rfl ?_
  refine zv_c1 ht rfl rfl (zv_c1 ht rfl rfl ?_)
  refine zv_br ht rfl rfl rfl (fun h => absurd h (by decide)) (fun _ => ?_)
  refine zv_c1 ht rfl rfl ?_
  have C18 : ∀ (pst17 : Outcome × zS → Prop), (pst17 (.returned (some (.ref 4294967342)), S)) → zCall (d - 1) 11 [.int 0] S pst17 := by
    intro pst17 k20
    have ht19 : ztab 11 = ztb11 := rfl
    show zEv (d - 1) 11 0 [.int 0] [] S pst17
    refine zv_c1 ht19 rfl rfl ?_
    refine zv_sw ht19 rfl rfl rfl rfl rfl ?_
    refine And.intro (fun _ => ?_) (fun h => absurd (by decide) h)
    refine zv_c1 ht19 rfl rfl ?_
    exact zv_rt ht19 rfl rfl rfl rfl k20
  refine zv_cl ht rfl rfl rfl rfl (by omega) (Nat.le_of_ble_eq_true rfl) (C18 _ ?_)
  show zEv d 266 73 [.ref r, .int (Int32.ofNat at0), .ref w, .int (Int32.ofNat deep), .int 0, .retAddr 0, .retAddr 0] [.ref 4294967342] S post
  refine zv_c1 ht rfl rfl ?_
  refine zv_cl ht rfl rfl rfl (zv_tgv ((zStr.t (xR.lit hR 23 (by decide)))) rfl) (by omega) (Nat.le_of_ble_eq_true rfl) (x_eqW (S := S) hF (by omega) (xR.lit hR 23 (by decide)) hw.1 (v := 1) (zbo_pos rfl) ?_)
  show zEv d 266 77 [.ref r, .int (Int32.ofNat at0), .ref w, .int (Int32.ofNat deep), .int 0, .retAddr 0, .retAddr 0] [.int 1] S post
  refine zv_br ht rfl rfl rfl (fun _ => ?_) (fun h => absurd (by decide) h)
  refine zv_c1 ht rfl rfl (zv_c1 ht rfl rfl (zv_c1 ht rfl rfl (zv_c1 ht rfl rfl ?_)))
  refine zv_cl ht rfl rfl rfl (zv_tgv (hR.1.2.2.2.1) rfl) (by omega) (Nat.le_of_ble_eq_true rfl) (x_begins (S := S) (tp := tp) (sz := sz) (r := r) (p := at0) (dp := deep) (m := 1) (dq := deep) (two := false) hF (by omega) hR (by omega) (by omega) (by omega) (by omega) rfl rfl (fun S21 nd21 hF21 e21 k21 p21 g21 b21 c21 d21 => ?_) (fun S22 q22 hF22 e22 k22 x22 g22 => ?_))
  · show zEv d 266 90 [.ref r, .int (Int32.ofNat at0), .ref w, .int (Int32.ofNat deep), .int 0, .retAddr 0, .retAddr 0] [] S21 post
    refine zv_c1 ht rfl rfl (zv_c1 ht rfl rfl ?_)
    refine zv_ei (x := Int32.ofNat at0) ht rfl rfl (zhas_of (p21.1.2.2.2.1) rfl) p21.1.1 ?_
    refine zv_c1 ht rfl rfl ?_
    refine zv_cl ht rfl rfl rfl (zv_tgv (Eq.trans (zKE.T k21 (Or.inl (show w < gN S from by omega))) (zStr.t hw.1)) rfl) (by omega) (Nat.le_of_ble_eq_true rfl) (x_len (S := S21) hF21 (by omega) (xWd.k hw (zKE.tr zKE.rf (zKE.w k21 (show gN S ≤ gN S from by omega) (fun _ h => h) (fun _ h => h)))).1 (n := 5) (by decide) ?_)
    show zEv d 266 99 [.ref r, .int (Int32.ofNat at0), .ref w, .int (Int32.ofNat deep), .int 0, .retAddr 0, .retAddr 0] [.int 5, .int (Int32.ofNat at0), .ref r] S21 post
    refine zv_e1 (x := Int32.ofNat (at0 + 5)) ht rfl rfl (zi_addE (a := at0) (b := 5) rfl rfl) ?_
    refine zv_ci (S' := sI S21 133 r (Int32.ofNat (at0 + 5))) ht rfl rfl ⟨(zhas_of (p21.1.2.2.2.1) rfl), (show r < gN S21 from by omega)⟩ ?_
    refine zv_c1 ht rfl rfl (zv_c1 ht rfl rfl ?_)
    refine zv_cl ht rfl rfl rfl (zv_tgv (p21.1.2.2.2.1) rfl) (by omega) (Nat.le_of_ble_eq_true rfl) (x_take (S := sI S21 133 r (Int32.ofNat (at0 + 5))) (tp := tp) (sz := sz) (r := r) (w := 40) hF21 (by omega) (xR_at p21 (by omega)) (by omega) (by omega) (by omega) (fun S23 hF23 e23 k23 p23 g23 b23 => ?_) (fun S24 q24 hF24 e24 k24 x24 g24 => ?_))
    · show zEv d 266 109 [.ref r, .int (Int32.ofNat at0), .ref w, .int (Int32.ofNat deep), .int 0, .retAddr 0, .retAddr 0] [] S23 post
      refine zv_c1 ht rfl rfl (zv_c1 ht rfl rfl (zv_c1 ht rfl rfl ?_))
      refine zv_e1 (x := Int32.ofNat (deep + 1)) ht rfl rfl (zi_addE (a := deep) (b := 1) rfl rfl) ?_
      refine zv_cl ht rfl rfl rfl (zv_tgv (p23.1.2.2.2.1) rfl) (by omega) (Nat.le_of_ble_eq_true rfl) (xEnd.useM (g := gN S23) (z := gZ S23) rfl rfl (fun q hq => hmono _ _ _ q (by omega) hq) (xRd.use (hRd (deep + 1) _ (by omega) rfl (by omega)) (S := S23) (r := r) hF23 p23 (by omega) (by omega)) (fun S25 a25 y25 at25 nd25 hF25 e25 k25 t25 p25 g25 c25 => ?_) (fun S26 q26 kk26 z26 hF26 e26 k26 x26 g26 => ?_))
      · show zEv d 266 116 [.ref r, .int (Int32.ofNat at0), .ref w, .int (Int32.ofNat deep), .int 0, .retAddr 0, .retAddr 0] [.ref a25] S25 post
        refine zv_c2 (L' := [.ref r, .int (Int32.ofNat at0), .ref w, .int (Int32.ofNat deep), .int 0, .ref a25, .retAddr 0]) ht rfl rfl ?_
        refine zv_c1 ht rfl rfl (zv_c1 ht rfl rfl ?_)
        refine zv_cl ht rfl rfl rfl (zv_tgv (p25.1.2.2.2.1) rfl) (by omega) (Nat.le_of_ble_eq_true rfl) (x_take (S := S25) (tp := tp) (sz := sz) (r := r) (w := 44) hF25 (by omega) p25 (by omega) (by omega) (by omega) (fun S27 hF27 e27 k27 p27 g27 b27 => ?_) (fun S28 q28 hF28 e28 k28 x28 g28 => ?_))
        · show zEv d 266 124 [.ref r, .int (Int32.ofNat at0), .ref w, .int (Int32.ofNat deep), .int 0, .ref a25, .retAddr 0] [] S27 post
          refine zv_c1 ht rfl rfl (zv_c1 ht rfl rfl (zv_c1 ht rfl rfl ?_))
          refine zv_e1 (x := Int32.ofNat (deep + 1)) ht rfl rfl (zi_addE (a := deep) (b := 1) rfl rfl) ?_
          refine zv_cl ht rfl rfl rfl (zv_tgv (p27.1.2.2.2.1) rfl) (by omega) (Nat.le_of_ble_eq_true rfl) (xEnd.useM (g := gN S27) (z := gZ S27) rfl rfl (fun q hq => hmono _ _ _ q (by omega) hq) (xRd.use (hRd (deep + 1) _ (by omega) rfl (by omega)) (S := S27) (r := r) hF27 p27 (by omega) (by omega)) (fun S29 a29 y29 at29 nd29 hF29 e29 k29 t29 p29 g29 c29 => ?_) (fun S30 q30 kk30 z30 hF30 e30 k30 x30 g30 => ?_))
          · show zEv d 266 131 [.ref r, .int (Int32.ofNat at0), .ref w, .int (Int32.ofNat deep), .int 0, .ref a25, .retAddr 0] [.ref a29] S29 post
            refine zv_c2 (L' := [.ref r, .int (Int32.ofNat at0), .ref w, .int (Int32.ofNat deep), .int 0, .ref a25, .ref a29]) ht rfl rfl ?_
            refine zv_c1 ht rfl rfl (zv_c1 ht rfl rfl ?_)
            refine zv_cl ht rfl rfl rfl (zv_tgv (p29.1.2.2.2.1) rfl) (by omega) (Nat.le_of_ble_eq_true rfl) (x_take (S := S29) (tp := tp) (sz := sz) (r := r) (w := 41) hF29 (by omega) p29 (by omega) (by omega) (by omega) (fun S31 hF31 e31 k31 p31 g31 b31 => ?_) (fun S32 q32 hF32 e32 k32 x32 g32 => ?_))
            · show zEv d 266 139 [.ref r, .int (Int32.ofNat at0), .ref w, .int (Int32.ofNat deep), .int 0, .ref a25, .ref a29] [] S31 post
              refine zv_c1 ht rfl rfl ?_
              refine zv_ci (st' := [.ref (gN S31), .ref r]) (S' := sNew S31 20 0 (zslots 20)) ht rfl rfl (znew_ok (show 1639 ≤ gN S31 from by omega) (show gN S31 < 2000000 from by omega)) ?_
              refine zv_c1 ht rfl rfl (zv_c1 ht rfl rfl ?_)
              refine zv_g3 (q := 0) ht rfl (zFin_new hF31) rfl rfl (zhas_of (Eq.trans (ztyp_new (S := S31) (t := 20) (n := 0) (s := zslots 20) (show r ≠ gN S31 from by omega)) p31.1.2.2.2.1) rfl) (Eq.trans (gP_new (S := S31) (t := 20) (n := 0) (s := zslots 20) (show r ≠ gN S31 from by omega)) p31.1.2.2.2.2) ?_
              refine zv_c1 ht rfl rfl (zv_c1 ht rfl rfl (zv_c1 ht rfl rfl (zv_c1 ht rfl rfl ?_)))
              have C34 : ∀ (pst33 : Outcome × zS → Prop), (pst33 (.returned none, sP (sP (sI (sI (sP (sNew S31 20 0 (zslots 20)) 190 (gN S31) (some 0)) 144 (gN S31) (Int32.ofNat at0)) 187 (gN S31) 0) 188 (gN S31) (some a25)) 189 (gN S31) (some a29))) → zCall (d - 1) 373 [.ref (gN S31), .ref 0, .int (Int32.ofNat at0), .int 0, .ref a25, .ref a29] (sNew S31 20 0 (zslots 20)) pst33 := by
                intro pst33 k40
                have ht35 : ztab 373 = ztb373 := rfl
                show zEv (d - 1) 373 0 [.ref (gN S31), .ref 0, .int (Int32.ofNat at0), .int 0, .ref a25, .ref a29] [] (sNew S31 20 0 (zslots 20)) pst33
                refine zv_c1 ht35 rfl rfl (zv_c1 ht35 rfl rfl ?_)
                refine zv_ci (S' := sP (sNew S31 20 0 (zslots 20)) 190 (gN S31) (some 0)) ht35 rfl rfl ⟨(zhas_of (ztyp_new_at (S := S31) (t := 20) (n := 0) (s := zslots 20) (show 1639 ≤ gN S31 from by omega)) rfl), (show gN S31 < gN S31 + 1 from by omega)⟩ ?_
                refine zv_c1 ht35 rfl rfl (zv_c1 ht35 rfl rfl (zv_c1 ht35 rfl rfl ?_))
                have C37 : ∀ (pst36 : Outcome × zS → Prop), (pst36 (.returned none, sI (sP (sNew S31 20 0 (zslots 20)) 190 (gN S31) (some 0)) 144 (gN S31) (Int32.ofNat at0))) → zCall ((d - 1) - 1) 280 [.ref (gN S31), .ref 0, .int (Int32.ofNat at0)] (sP (sNew S31 20 0 (zslots 20)) 190 (gN S31) (some 0)) pst36 := by
                  intro pst36 k39
                  have ht38 : ztab 280 = ztb280 := rfl
                  show zEv ((d - 1) - 1) 280 0 [.ref (gN S31), .ref 0, .int (Int32.ofNat at0)] [] (sP (sNew S31 20 0 (zslots 20)) 190 (gN S31) (some 0)) pst36
                  refine zv_c1 ht38 rfl rfl (zv_c1 ht38 rfl rfl ?_)
                  refine zv_ci (S' := sP (sNew S31 20 0 (zslots 20)) 190 (gN S31) (some 0)) ht38 rfl rfl (zk5 (ztyp_new_at (S := S31) (t := 20) (n := 0) (s := zslots 20) (show 1639 ≤ gN S31 from by omega)) rfl (show gN S31 < gN S31 + 1 from by omega) rfl gP_sP_at) ?_
                  refine zv_c1 ht38 rfl rfl (zv_c1 ht38 rfl rfl (zv_c1 ht38 rfl rfl (zv_c1 ht38 rfl rfl ?_)))
                  refine zv_ci (S' := sI (sP (sNew S31 20 0 (zslots 20)) 190 (gN S31) (some 0)) 144 (gN S31) (Int32.ofNat at0)) ht38 rfl rfl ⟨(zhas_of (ztyp_new_at (S := S31) (t := 20) (n := 0) (s := zslots 20) (show 1639 ≤ gN S31 from by omega)) rfl), (show gN S31 < gN S31 + 1 from by omega)⟩ ?_
                  exact zv_rt ht38 rfl rfl rfl rfl k39
                refine zv_cl ht35 rfl rfl rfl rfl (by omega) (Nat.le_of_ble_eq_true rfl) (C37 _ ?_)
                show zEv (d - 1) 373 11 [.ref (gN S31), .ref 0, .int (Int32.ofNat at0), .int 0, .ref a25, .ref a29] [] (sI (sP (sNew S31 20 0 (zslots 20)) 190 (gN S31) (some 0)) 144 (gN S31) (Int32.ofNat at0)) pst33
                refine zv_c1 ht35 rfl rfl (zv_c1 ht35 rfl rfl ?_)
                refine zv_ci (S' := sI (sI (sP (sNew S31 20 0 (zslots 20)) 190 (gN S31) (some 0)) 144 (gN S31) (Int32.ofNat at0)) 187 (gN S31) 0) ht35 rfl rfl ⟨(zhas_of (ztyp_new_at (S := S31) (t := 20) (n := 0) (s := zslots 20) (show 1639 ≤ gN S31 from by omega)) rfl), (show gN S31 < gN S31 + 1 from by omega)⟩ ?_
                refine zv_c1 ht35 rfl rfl (zv_c1 ht35 rfl rfl ?_)
                refine zv_ci (S' := sP (sI (sI (sP (sNew S31 20 0 (zslots 20)) 190 (gN S31) (some 0)) 144 (gN S31) (Int32.ofNat at0)) 187 (gN S31) 0) 188 (gN S31) (some a25)) ht35 rfl rfl ⟨(zhas_of (ztyp_new_at (S := S31) (t := 20) (n := 0) (s := zslots 20) (show 1639 ≤ gN S31 from by omega)) rfl), (show gN S31 < gN S31 + 1 from by omega)⟩ ?_
                refine zv_c1 ht35 rfl rfl (zv_c1 ht35 rfl rfl ?_)
                refine zv_ci (S' := sP (sP (sI (sI (sP (sNew S31 20 0 (zslots 20)) 190 (gN S31) (some 0)) 144 (gN S31) (Int32.ofNat at0)) 187 (gN S31) 0) 188 (gN S31) (some a25)) 189 (gN S31) (some a29)) ht35 rfl rfl ⟨(zhas_of (ztyp_new_at (S := S31) (t := 20) (n := 0) (s := zslots 20) (show 1639 ≤ gN S31 from by omega)) rfl), (show gN S31 < gN S31 + 1 from by omega)⟩ ?_
                exact zv_rt ht35 rfl rfl rfl rfl k40
              refine zv_cl ht rfl rfl rfl rfl (by omega) (Nat.le_of_ble_eq_true rfl) (C34 _ ?_)
              show zEv d 266 158 [.ref r, .int (Int32.ofNat at0), .ref w, .int (Int32.ofNat deep), .int 0, .ref a25, .ref a29] [.ref (gN S31), .ref r] (sP (sP (sI (sI (sP (sNew S31 20 0 (zslots 20)) 190 (gN S31) (some 0)) 144 (gN S31) (Int32.ofNat at0)) 187 (gN S31) 0) 188 (gN S31) (some a25)) 189 (gN S31) (some a29)) post
              have C42 : ∀ (pst41 : Outcome × zS → Prop), (∀ S44 : zS, (zFin true S44) → (pJ (tN 11 0 [] at0 [y25, y29]) = .ok (tN 11 0 [] at0 [y25, y29])) → (xJd (sP (sP (sI (sI (sP (sNew S31 20 0 (zslots 20)) 190 (gN S31) (some 0)) 144 (gN S31) (Int32.ofNat at0)) 187 (gN S31) 0) 188 (gN S31) (some a25)) 189 (gN S31) (some a29)) (gN S31) S44) → (xTl (gN S) S44 (tN 11 0 [] at0 [y25, y29]) (gN S31)) → (xR tp sz S44 r (at29 + 1) nd29) → (gN S44 = gN S31 + 1 ∧ gZ S44 = gZ S31 + 20) → pst41 (.returned (some (.ref (gN S31))), S44)) → (∀ S45 : zS, ∀ q45 : Nat, (zFin true S45) → (pJ (tN 11 0 [] at0 [y25, y29]) = .error (3, at0)) → (xFn (sP (sP (sI (sI (sP (sNew S31 20 0 (zslots 20)) 190 (gN S31) (some 0)) 144 (gN S31) (Int32.ofNat at0)) 187 (gN S31) 0) 188 (gN S31) (some a25)) 189 (gN S31) (some a29)) (gN S31) S45) → (xFl S45 q45 3 at0) → (gN S45 = gN S31 + 1 + 1 ∧ gZ S45 ≤ gZ S31 + 20 + 3) → pst41 (.threw q45, S45)) → zCall (d - 1) 253 [.ref r, .ref (gN S31)] (sP (sP (sI (sI (sP (sNew S31 20 0 (zslots 20)) 190 (gN S31) (some 0)) 144 (gN S31) (Int32.ofNat at0)) 187 (gN S31) 0) 188 (gN S31) (some a25)) 189 (gN S31) (some a29)) pst41 := by
                intro pst41 k46 k47
                have ht43 : ztab 253 = ztb253 := rfl
                show zEv (d - 1) 253 0 [.ref r, .ref (gN S31)] [] (sP (sP (sI (sI (sP (sNew S31 20 0 (zslots 20)) 190 (gN S31) (some 0)) 144 (gN S31) (Int32.ofNat at0)) 187 (gN S31) 0) 188 (gN S31) (some a25)) 189 (gN S31) (some a29)) pst41
                refine zv_c1 ht43 rfl rfl ?_
                refine zv_cl ht43 rfl rfl rfl (zv_tgm (ztyp_new_at (S := S31) (t := 20) (n := 0) (s := zslots 20) (show 1639 ≤ gN S31 from by omega)) rfl) (by omega) (Nat.le_of_ble_eq_true rfl) (x_judgeR (S := sP (sP (sI (sI (sP (sNew S31 20 0 (zslots 20)) 190 (gN S31) (some 0)) 144 (gN S31) (Int32.ofNat at0)) 187 (gN S31) 0) 188 (gN S31) (some a25)) 189 (gN S31) (some a29)) (tp := tp) (sz := sz) (r := r) (a := gN S31) (k := 11) (v := 0) (p := at0) (ks := []) (js := [a25, a29]) (cs := [y25, y29]) (g := gN S31 + 1) (lo := gN S) (zFin_sP (zFin_sP (zFin_sP (zFin_new hF31) rfl) rfl) rfl) (by omega) (by omega) (by omega) (by omega) (by omega) rfl (xOwn_P (by decide) (ztyp_new_at (S := S31) (t := 20) (n := 0) (s := zslots 20) (show 1639 ≤ gN S31 from by omega)) (gI_sI_at) (gP_sP_at) (gP_sP_at)) ⟨a25, _, rfl, (xTl.ch t25 (zKE.tr (zKE.tr (zKE.tr (zKE.tr (zKE.tr (zKE.tr (zKE.tr (zKE.tr (zKE.tr zKE.rf (zKE.w k27 (show gN S25 ≤ gN S25 from by omega) (fun _ h => h) (fun _ h => h))) (zKE.w k29 (show gN S25 ≤ gN S27 from by omega) (fun _ h => h) (fun _ h => h))) (zKE.w k31 (show gN S25 ≤ gN S29 from by omega) (fun _ h => h) (fun _ h => h))) (zKE_new (show gN S25 ≤ gN S31 ∧ gN S31 < zLB from ⟨by omega, by have hLB : zLB = 4294967296 := rfl; omega⟩))) (zKE_sP (Or.inr (Or.inr ⟨by omega, by have hLB : zLB = 4294967296 := rfl; omega⟩)))) (zKE_sI (Or.inr (Or.inr ⟨by omega, by have hLB : zLB = 4294967296 := rfl; omega⟩)))) (zKE_sI (Or.inr (Or.inr ⟨by omega, by have hLB : zLB = 4294967296 := rfl; omega⟩)))) (zKE_sP (Or.inr (Or.inr ⟨by omega, by have hLB : zLB = 4294967296 := rfl; omega⟩)))) (zKE_sP (Or.inr (Or.inr ⟨by omega, by have hLB : zLB = 4294967296 := rfl; omega⟩)))) (by omega) (by intro j h1 h2; omega)), ⟨a29, _, rfl, (xTl.ch t29 (zKE.tr (zKE.tr (zKE.tr (zKE.tr (zKE.tr (zKE.tr (zKE.tr zKE.rf (zKE.w k31 (show gN S29 ≤ gN S29 from by omega) (fun _ h => h) (fun _ h => h))) (zKE_new (show gN S29 ≤ gN S31 ∧ gN S31 < zLB from ⟨by omega, by have hLB : zLB = 4294967296 := rfl; omega⟩))) (zKE_sP (Or.inr (Or.inr ⟨by omega, by have hLB : zLB = 4294967296 := rfl; omega⟩)))) (zKE_sI (Or.inr (Or.inr ⟨by omega, by have hLB : zLB = 4294967296 := rfl; omega⟩)))) (zKE_sI (Or.inr (Or.inr ⟨by omega, by have hLB : zLB = 4294967296 := rfl; omega⟩)))) (zKE_sP (Or.inr (Or.inr ⟨by omega, by have hLB : zLB = 4294967296 := rfl; omega⟩)))) (zKE_sP (Or.inr (Or.inr ⟨by omega, by have hLB : zLB = 4294967296 := rfl; omega⟩)))) (by omega) (by intro j h1 h2; omega)), rfl⟩⟩ (by decide) (by omega) (gI_sI_at) (gI_new_at (S := S31) (t := 20) (n := 0) (s := zslots 20)) (gI_new_at (S := S31) (t := 20) (n := 0) (s := zslots 20)) (xR.ke (Fs := []) p31 (zKE.tr (zKE.tr (zKE.tr (zKE.tr (zKE.tr (zKE.tr zKE.rf (zKE_new (show gN S31 ≤ gN S31 ∧ gN S31 < zLB from ⟨by omega, by have hLB : zLB = 4294967296 := rfl; omega⟩))) (zKE_sP (Or.inr (Or.inr ⟨by omega, by have hLB : zLB = 4294967296 := rfl; omega⟩)))) (zKE_sI (Or.inr (Or.inr ⟨by omega, by have hLB : zLB = 4294967296 := rfl; omega⟩)))) (zKE_sI (Or.inr (Or.inr ⟨by omega, by have hLB : zLB = 4294967296 := rfl; omega⟩)))) (zKE_sP (Or.inr (Or.inr ⟨by omega, by have hLB : zLB = 4294967296 := rfl; omega⟩)))) (zKE_sP (Or.inr (Or.inr ⟨by omega, by have hLB : zLB = 4294967296 := rfl; omega⟩)))) (by omega) (by decide)) (by omega) (fun S44 hF44 e44 j44 t44 p44 g44 => ?_) (fun S45 q45 hF45 e45 k45 x45 g45 => ?_))
                · show zEv (d - 1) 253 4 [.ref r, .ref (gN S31)] [] S44 pst41
                  refine zv_c1 ht43 rfl rfl ?_
                  exact zv_rt ht43 rfl rfl rfl rfl (k46 S44 hF44 e44 j44 t44 p44 g44)
                · exact (k47 S45 q45 hF45 e45 k45 x45 g45)
              refine zv_cl ht rfl rfl rfl (zv_tgv (Eq.trans (ztyp_new (S := S31) (t := 20) (n := 0) (s := zslots 20) (show r ≠ gN S31 from by omega)) p31.1.2.2.2.1) rfl) (by omega) (Nat.le_of_ble_eq_true rfl) (C42 _ (fun S44 hF44 e44 j44 t44 p44 g44 => ?_) (fun S45 q45 hF45 e45 k45 x45 g45 => ?_))
              · show zEv d 266 161 [.ref r, .int (Int32.ofNat at0), .ref w, .int (Int32.ofNat deep), .int 0, .ref a25, .ref a29] [.ref (gN S31)] S44 post
                exact zv_rt ht rfl rfl rfl rfl (h1 S21 nd21 hF21 e21 k21 p21 g21 b21 c21 d21 S23 hF23 e23 k23 p23 g23 b23 S25 a25 y25 at25 nd25 hF25 e25 k25 t25 p25 g25 c25 S27 hF27 e27 k27 p27 g27 b27 S29 a29 y29 at29 nd29 hF29 e29 k29 t29 p29 g29 c29 S31 hF31 e31 k31 p31 g31 b31 S44 hF44 e44 j44 t44 p44 g44)
              · exact (h2 S21 nd21 hF21 e21 k21 p21 g21 b21 c21 d21 S23 hF23 e23 k23 p23 g23 b23 S25 a25 y25 at25 nd25 hF25 e25 k25 t25 p25 g25 c25 S27 hF27 e27 k27 p27 g27 b27 S29 a29 y29 at29 nd29 hF29 e29 k29 t29 p29 g29 c29 S31 hF31 e31 k31 p31 g31 b31 S45 q45 hF45 e45 k45 x45 g45)
            · exact (h3 S21 nd21 hF21 e21 k21 p21 g21 b21 c21 d21 S23 hF23 e23 k23 p23 g23 b23 S25 a25 y25 at25 nd25 hF25 e25 k25 t25 p25 g25 c25 S27 hF27 e27 k27 p27 g27 b27 S29 a29 y29 at29 nd29 hF29 e29 k29 t29 p29 g29 c29 S32 q32 hF32 e32 k32 x32 g32)
          · exact (h4 S21 nd21 hF21 e21 k21 p21 g21 b21 c21 d21 S23 hF23 e23 k23 p23 g23 b23 S25 a25 y25 at25 nd25 hF25 e25 k25 t25 p25 g25 c25 S27 hF27 e27 k27 p27 g27 b27 S30 q30 kk30 z30 hF30 e30 k30 x30 g30)
        · exact (h5 S21 nd21 hF21 e21 k21 p21 g21 b21 c21 d21 S23 hF23 e23 k23 p23 g23 b23 S25 a25 y25 at25 nd25 hF25 e25 k25 t25 p25 g25 c25 S28 q28 hF28 e28 k28 x28 g28)
      · exact (h6 S21 nd21 hF21 e21 k21 p21 g21 b21 c21 d21 S23 hF23 e23 k23 p23 g23 b23 S26 q26 kk26 z26 hF26 e26 k26 x26 g26)
    · exact (h7 S21 nd21 hF21 e21 k21 p21 g21 b21 c21 d21 S24 q24 hF24 e24 k24 x24 g24)
  · exact (h8 S22 q22 hF22 e22 k22 x22 g22)

theorem ot24 {d : Nat} {S : zS} (hF : zFin true S) (hd : 4 ≤ d) {tp : Nat → Nat} {sz at0 nd r : Nat} {rec : Nat → Nat → Nat → pE (zNd × Nat × Nat)} {K : Nat} {w : Nat} (deep : Nat) (hR : xR tp sz S r at0 nd) (hs0 : sz ≤ 300) (ha0 : at0 ≤ sz) (hr1 : 1639 ≤ r) (hr2 : r < gN S) (hN : gN S + 30 * (sz - at0) ≤ 1700000) (hdp : deep < 1000) (hnd : nd ≤ 80) (hK : K + 3 ≤ d) (hK2 : 12 ≤ d) (hmono : pMono rec) (hRd : ∀ dp d', deep ≤ 24 → dp = deep + 1 → K ≤ d' → xRd tp sz d' dp rec) (hw : xWd S w (ztn 24)) (hwN : w < gN S) (hwl : at0 + 5 ≤ sz) {post : Outcome × zS → Prop} (h1 : ∀ S25 : zS, ∀ nd25 : Nat, (zFin true S25) → (pRead at0 deep nd false = .ok nd25) → (xFr S S25) → (xR tp sz S25 r at0 nd25) → (gN S ≤ gN S25 ∧ gN S25 ≤ gN S + 0 ∧ gZ S25 ≤ gZ S + 0) → (at0 ≤ sz) → (nd25 ≤ 80) → (deep ≤ 24) → ∀ S27 : zS, (zFin true S27) → (pWant tp sz 40 (at0 + 5) = .ok (at0 + 6)) → (xFr (sI S25 133 r (Int32.ofNat (at0 + 5))) S27) → (xR tp sz S27 r (at0 + 6) nd25) → (gN (sI S25 133 r (Int32.ofNat (at0 + 5))) ≤ gN S27 ∧ gN S27 ≤ gN (sI S25 133 r (Int32.ofNat (at0 + 5))) + 0 ∧ gZ S27 ≤ gZ (sI S25 133 r (Int32.ofNat (at0 + 5))) + 0) → ((at0 + 6) ≤ sz) → ∀ S29 : zS, ∀ a29 : Nat, ∀ y29 : zNd, ∀ at29 : Nat, ∀ nd29 : Nat, (zFin true S29) → (rec (deep + 1) (at0 + 6) nd25 = .ok (y29, at29, nd29)) → (xFr S27 S29) → (xTl (gN S27) S29 y29 a29) → (xR tp sz S29 r at29 nd29) → (gN S27 ≤ gN S29 ∧ gN S29 + 30 * (sz - at29) ≤ gN S27 + 30 * (sz - (at0 + 6)) ∧ gZ S29 + 150 * (sz - at29) ≤ gZ S27 + 150 * (sz - (at0 + 6))) → (at29 ≤ sz ∧ gN S27 ≤ a29 ∧ a29 < gN S29 ∧ (at0 + 6) < at29 ∧ nd29 ≤ 80) → ∀ S31 : zS, (zFin true S31) → (pWant tp sz 44 at29 = .ok (at29 + 1)) → (xFr S29 S31) → (xR tp sz S31 r (at29 + 1) nd29) → (gN S29 ≤ gN S31 ∧ gN S31 ≤ gN S29 + 0 ∧ gZ S31 ≤ gZ S29 + 0) → ((at29 + 1) ≤ sz) → ∀ S33 : zS, ∀ a33 : Nat, ∀ y33 : zNd, ∀ at33 : Nat, ∀ nd33 : Nat, (zFin true S33) → (rec (deep + 1) (at29 + 1) nd29 = .ok (y33, at33, nd33)) → (xFr S31 S33) → (xTl (gN S31) S33 y33 a33) → (xR tp sz S33 r at33 nd33) → (gN S31 ≤ gN S33 ∧ gN S33 + 30 * (sz - at33) ≤ gN S31 + 30 * (sz - (at29 + 1)) ∧ gZ S33 + 150 * (sz - at33) ≤ gZ S31 + 150 * (sz - (at29 + 1))) → (at33 ≤ sz ∧ gN S31 ≤ a33 ∧ a33 < gN S33 ∧ (at29 + 1) < at33 ∧ nd33 ≤ 80) → ∀ S35 : zS, (zFin true S35) → (pWant tp sz 41 at33 = .ok (at33 + 1)) → (xFr S33 S35) → (xR tp sz S35 r (at33 + 1) nd33) → (gN S33 ≤ gN S35 ∧ gN S35 ≤ gN S33 + 0 ∧ gZ S35 ≤ gZ S33 + 0) → ((at33 + 1) ≤ sz) → ∀ S48 : zS, (zFin true S48) → (pJ (tN 12 0 [] at0 [y29, y33]) = .ok (tN 12 0 [] at0 [y29, y33])) → (xJd (sP (sP (sI (sI (sP (sNew S35 20 0 (zslots 20)) 190 (gN S35) (some 0)) 144 (gN S35) (Int32.ofNat at0)) 187 (gN S35) 1) 188 (gN S35) (some a29)) 189 (gN S35) (some a33)) (gN S35) S48) → (xTl (gN S) S48 (tN 12 0 [] at0 [y29, y33]) (gN S35)) → (xR tp sz S48 r (at33 + 1) nd33) → (gN S48 = gN S35 + 1 ∧ gZ S48 = gZ S35 + 20) → post (.returned (some (.ref (gN S35))), S48)) (h2 : ∀ S25 : zS, ∀ nd25 : Nat, (zFin true S25) → (pRead at0 deep nd false = .ok nd25) → (xFr S S25) → (xR tp sz S25 r at0 nd25) → (gN S ≤ gN S25 ∧ gN S25 ≤ gN S + 0 ∧ gZ S25 ≤ gZ S + 0) → (at0 ≤ sz) → (nd25 ≤ 80) → (deep ≤ 24) → ∀ S27 : zS, (zFin true S27) → (pWant tp sz 40 (at0 + 5) = .ok (at0 + 6)) → (xFr (sI S25 133 r (Int32.ofNat (at0 + 5))) S27) → (xR tp sz S27 r (at0 + 6) nd25) → (gN (sI S25 133 r (Int32.ofNat (at0 + 5))) ≤ gN S27 ∧ gN S27 ≤ gN (sI S25 133 r (Int32.ofNat (at0 + 5))) + 0 ∧ gZ S27 ≤ gZ (sI S25 133 r (Int32.ofNat (at0 + 5))) + 0) → ((at0 + 6) ≤ sz) → ∀ S29 : zS, ∀ a29 : Nat, ∀ y29 : zNd, ∀ at29 : Nat, ∀ nd29 : Nat, (zFin true S29) → (rec (deep + 1) (at0 + 6) nd25 = .ok (y29, at29, nd29)) → (xFr S27 S29) → (xTl (gN S27) S29 y29 a29) → (xR tp sz S29 r at29 nd29) → (gN S27 ≤ gN S29 ∧ gN S29 + 30 * (sz - at29) ≤ gN S27 + 30 * (sz - (at0 + 6)) ∧ gZ S29 + 150 * (sz - at29) ≤ gZ S27 + 150 * (sz - (at0 + 6))) → (at29 ≤ sz ∧ gN S27 ≤ a29 ∧ a29 < gN S29 ∧ (at0 + 6) < at29 ∧ nd29 ≤ 80) → ∀ S31 : zS, (zFin true S31) → (pWant tp sz 44 at29 = .ok (at29 + 1)) → (xFr S29 S31) → (xR tp sz S31 r (at29 + 1) nd29) → (gN S29 ≤ gN S31 ∧ gN S31 ≤ gN S29 + 0 ∧ gZ S31 ≤ gZ S29 + 0) → ((at29 + 1) ≤ sz) → ∀ S33 : zS, ∀ a33 : Nat, ∀ y33 : zNd, ∀ at33 : Nat, ∀ nd33 : Nat, (zFin true S33) → (rec (deep + 1) (at29 + 1) nd29 = .ok (y33, at33, nd33)) → (xFr S31 S33) → (xTl (gN S31) S33 y33 a33) → (xR tp sz S33 r at33 nd33) → (gN S31 ≤ gN S33 ∧ gN S33 + 30 * (sz - at33) ≤ gN S31 + 30 * (sz - (at29 + 1)) ∧ gZ S33 + 150 * (sz - at33) ≤ gZ S31 + 150 * (sz - (at29 + 1))) → (at33 ≤ sz ∧ gN S31 ≤ a33 ∧ a33 < gN S33 ∧ (at29 + 1) < at33 ∧ nd33 ≤ 80) → ∀ S35 : zS, (zFin true S35) → (pWant tp sz 41 at33 = .ok (at33 + 1)) → (xFr S33 S35) → (xR tp sz S35 r (at33 + 1) nd33) → (gN S33 ≤ gN S35 ∧ gN S35 ≤ gN S33 + 0 ∧ gZ S35 ≤ gZ S33 + 0) → ((at33 + 1) ≤ sz) → ∀ S49 : zS, ∀ q49 : Nat, (zFin true S49) → (pJ (tN 12 0 [] at0 [y29, y33]) = .error (3, at0)) → (xFn (sP (sP (sI (sI (sP (sNew S35 20 0 (zslots 20)) 190 (gN S35) (some 0)) 144 (gN S35) (Int32.ofNat at0)) 187 (gN S35) 1) 188 (gN S35) (some a29)) 189 (gN S35) (some a33)) (gN S35) S49) → (xFl S49 q49 3 at0) → (gN S49 = gN S35 + 1 + 1 ∧ gZ S49 ≤ gZ S35 + 20 + 3) → post (.threw q49, S49)) (h3 : ∀ S25 : zS, ∀ nd25 : Nat, (zFin true S25) → (pRead at0 deep nd false = .ok nd25) → (xFr S S25) → (xR tp sz S25 r at0 nd25) → (gN S ≤ gN S25 ∧ gN S25 ≤ gN S + 0 ∧ gZ S25 ≤ gZ S + 0) → (at0 ≤ sz) → (nd25 ≤ 80) → (deep ≤ 24) → ∀ S27 : zS, (zFin true S27) → (pWant tp sz 40 (at0 + 5) = .ok (at0 + 6)) → (xFr (sI S25 133 r (Int32.ofNat (at0 + 5))) S27) → (xR tp sz S27 r (at0 + 6) nd25) → (gN (sI S25 133 r (Int32.ofNat (at0 + 5))) ≤ gN S27 ∧ gN S27 ≤ gN (sI S25 133 r (Int32.ofNat (at0 + 5))) + 0 ∧ gZ S27 ≤ gZ (sI S25 133 r (Int32.ofNat (at0 + 5))) + 0) → ((at0 + 6) ≤ sz) → ∀ S29 : zS, ∀ a29 : Nat, ∀ y29 : zNd, ∀ at29 : Nat, ∀ nd29 : Nat, (zFin true S29) → (rec (deep + 1) (at0 + 6) nd25 = .ok (y29, at29, nd29)) → (xFr S27 S29) → (xTl (gN S27) S29 y29 a29) → (xR tp sz S29 r at29 nd29) → (gN S27 ≤ gN S29 ∧ gN S29 + 30 * (sz - at29) ≤ gN S27 + 30 * (sz - (at0 + 6)) ∧ gZ S29 + 150 * (sz - at29) ≤ gZ S27 + 150 * (sz - (at0 + 6))) → (at29 ≤ sz ∧ gN S27 ≤ a29 ∧ a29 < gN S29 ∧ (at0 + 6) < at29 ∧ nd29 ≤ 80) → ∀ S31 : zS, (zFin true S31) → (pWant tp sz 44 at29 = .ok (at29 + 1)) → (xFr S29 S31) → (xR tp sz S31 r (at29 + 1) nd29) → (gN S29 ≤ gN S31 ∧ gN S31 ≤ gN S29 + 0 ∧ gZ S31 ≤ gZ S29 + 0) → ((at29 + 1) ≤ sz) → ∀ S33 : zS, ∀ a33 : Nat, ∀ y33 : zNd, ∀ at33 : Nat, ∀ nd33 : Nat, (zFin true S33) → (rec (deep + 1) (at29 + 1) nd29 = .ok (y33, at33, nd33)) → (xFr S31 S33) → (xTl (gN S31) S33 y33 a33) → (xR tp sz S33 r at33 nd33) → (gN S31 ≤ gN S33 ∧ gN S33 + 30 * (sz - at33) ≤ gN S31 + 30 * (sz - (at29 + 1)) ∧ gZ S33 + 150 * (sz - at33) ≤ gZ S31 + 150 * (sz - (at29 + 1))) → (at33 ≤ sz ∧ gN S31 ≤ a33 ∧ a33 < gN S33 ∧ (at29 + 1) < at33 ∧ nd33 ≤ 80) → ∀ S36 : zS, ∀ q36 : Nat, (zFin true S36) → (pWant tp sz 41 at33 = .error (1, at33)) → (xFr S33 S36) → (xFl S36 q36 1 at33) → (gN S33 ≤ gN S36 ∧ gN S36 ≤ gN S33 + 1 ∧ gZ S36 ≤ gZ S33 + 3) → post (.threw q36, S36)) (h4 : ∀ S25 : zS, ∀ nd25 : Nat, (zFin true S25) → (pRead at0 deep nd false = .ok nd25) → (xFr S S25) → (xR tp sz S25 r at0 nd25) → (gN S ≤ gN S25 ∧ gN S25 ≤ gN S + 0 ∧ gZ S25 ≤ gZ S + 0) → (at0 ≤ sz) → (nd25 ≤ 80) → (deep ≤ 24) → ∀ S27 : zS, (zFin true S27) → (pWant tp sz 40 (at0 + 5) = .ok (at0 + 6)) → (xFr (sI S25 133 r (Int32.ofNat (at0 + 5))) S27) → (xR tp sz S27 r (at0 + 6) nd25) → (gN (sI S25 133 r (Int32.ofNat (at0 + 5))) ≤ gN S27 ∧ gN S27 ≤ gN (sI S25 133 r (Int32.ofNat (at0 + 5))) + 0 ∧ gZ S27 ≤ gZ (sI S25 133 r (Int32.ofNat (at0 + 5))) + 0) → ((at0 + 6) ≤ sz) → ∀ S29 : zS, ∀ a29 : Nat, ∀ y29 : zNd, ∀ at29 : Nat, ∀ nd29 : Nat, (zFin true S29) → (rec (deep + 1) (at0 + 6) nd25 = .ok (y29, at29, nd29)) → (xFr S27 S29) → (xTl (gN S27) S29 y29 a29) → (xR tp sz S29 r at29 nd29) → (gN S27 ≤ gN S29 ∧ gN S29 + 30 * (sz - at29) ≤ gN S27 + 30 * (sz - (at0 + 6)) ∧ gZ S29 + 150 * (sz - at29) ≤ gZ S27 + 150 * (sz - (at0 + 6))) → (at29 ≤ sz ∧ gN S27 ≤ a29 ∧ a29 < gN S29 ∧ (at0 + 6) < at29 ∧ nd29 ≤ 80) → ∀ S31 : zS, (zFin true S31) → (pWant tp sz 44 at29 = .ok (at29 + 1)) → (xFr S29 S31) → (xR tp sz S31 r (at29 + 1) nd29) → (gN S29 ≤ gN S31 ∧ gN S31 ≤ gN S29 + 0 ∧ gZ S31 ≤ gZ S29 + 0) → ((at29 + 1) ≤ sz) → ∀ S34 : zS, ∀ q34 : Nat, ∀ kk34 : Nat, ∀ z34 : Nat, (zFin true S34) → (rec (deep + 1) (at29 + 1) nd29 = .error (kk34, z34)) → (xFr S31 S34) → (xFl S34 q34 kk34 z34) → (gN S31 ≤ gN S34 ∧ gN S34 ≤ gN S31 + 30 * (sz - (at29 + 1)) + 60 ∧ gZ S34 ≤ gZ S31 + 150 * (sz - (at29 + 1)) + 2000) → post (.threw q34, S34)) (h5 : ∀ S25 : zS, ∀ nd25 : Nat, (zFin true S25) → (pRead at0 deep nd false = .ok nd25) → (xFr S S25) → (xR tp sz S25 r at0 nd25) → (gN S ≤ gN S25 ∧ gN S25 ≤ gN S + 0 ∧ gZ S25 ≤ gZ S + 0) → (at0 ≤ sz) → (nd25 ≤ 80) → (deep ≤ 24) → ∀ S27 : zS, (zFin true S27) → (pWant tp sz 40 (at0 + 5) = .ok (at0 + 6)) → (xFr (sI S25 133 r (Int32.ofNat (at0 + 5))) S27) → (xR tp sz S27 r (at0 + 6) nd25) → (gN (sI S25 133 r (Int32.ofNat (at0 + 5))) ≤ gN S27 ∧ gN S27 ≤ gN (sI S25 133 r (Int32.ofNat (at0 + 5))) + 0 ∧ gZ S27 ≤ gZ (sI S25 133 r (Int32.ofNat (at0 + 5))) + 0) → ((at0 + 6) ≤ sz) → ∀ S29 : zS, ∀ a29 : Nat, ∀ y29 : zNd, ∀ at29 : Nat, ∀ nd29 : Nat, (zFin true S29) → (rec (deep + 1) (at0 + 6) nd25 = .ok (y29, at29, nd29)) → (xFr S27 S29) → (xTl (gN S27) S29 y29 a29) → (xR tp sz S29 r at29 nd29) → (gN S27 ≤ gN S29 ∧ gN S29 + 30 * (sz - at29) ≤ gN S27 + 30 * (sz - (at0 + 6)) ∧ gZ S29 + 150 * (sz - at29) ≤ gZ S27 + 150 * (sz - (at0 + 6))) → (at29 ≤ sz ∧ gN S27 ≤ a29 ∧ a29 < gN S29 ∧ (at0 + 6) < at29 ∧ nd29 ≤ 80) → ∀ S32 : zS, ∀ q32 : Nat, (zFin true S32) → (pWant tp sz 44 at29 = .error (1, at29)) → (xFr S29 S32) → (xFl S32 q32 1 at29) → (gN S29 ≤ gN S32 ∧ gN S32 ≤ gN S29 + 1 ∧ gZ S32 ≤ gZ S29 + 3) → post (.threw q32, S32)) (h6 : ∀ S25 : zS, ∀ nd25 : Nat, (zFin true S25) → (pRead at0 deep nd false = .ok nd25) → (xFr S S25) → (xR tp sz S25 r at0 nd25) → (gN S ≤ gN S25 ∧ gN S25 ≤ gN S + 0 ∧ gZ S25 ≤ gZ S + 0) → (at0 ≤ sz) → (nd25 ≤ 80) → (deep ≤ 24) → ∀ S27 : zS, (zFin true S27) → (pWant tp sz 40 (at0 + 5) = .ok (at0 + 6)) → (xFr (sI S25 133 r (Int32.ofNat (at0 + 5))) S27) → (xR tp sz S27 r (at0 + 6) nd25) → (gN (sI S25 133 r (Int32.ofNat (at0 + 5))) ≤ gN S27 ∧ gN S27 ≤ gN (sI S25 133 r (Int32.ofNat (at0 + 5))) + 0 ∧ gZ S27 ≤ gZ (sI S25 133 r (Int32.ofNat (at0 + 5))) + 0) → ((at0 + 6) ≤ sz) → ∀ S30 : zS, ∀ q30 : Nat, ∀ kk30 : Nat, ∀ z30 : Nat, (zFin true S30) → (rec (deep + 1) (at0 + 6) nd25 = .error (kk30, z30)) → (xFr S27 S30) → (xFl S30 q30 kk30 z30) → (gN S27 ≤ gN S30 ∧ gN S30 ≤ gN S27 + 30 * (sz - (at0 + 6)) + 60 ∧ gZ S30 ≤ gZ S27 + 150 * (sz - (at0 + 6)) + 2000) → post (.threw q30, S30)) (h7 : ∀ S25 : zS, ∀ nd25 : Nat, (zFin true S25) → (pRead at0 deep nd false = .ok nd25) → (xFr S S25) → (xR tp sz S25 r at0 nd25) → (gN S ≤ gN S25 ∧ gN S25 ≤ gN S + 0 ∧ gZ S25 ≤ gZ S + 0) → (at0 ≤ sz) → (nd25 ≤ 80) → (deep ≤ 24) → ∀ S28 : zS, ∀ q28 : Nat, (zFin true S28) → (pWant tp sz 40 (at0 + 5) = .error (1, at0 + 5)) → (xFr (sI S25 133 r (Int32.ofNat (at0 + 5))) S28) → (xFl S28 q28 1 (at0 + 5)) → (gN (sI S25 133 r (Int32.ofNat (at0 + 5))) ≤ gN S28 ∧ gN S28 ≤ gN (sI S25 133 r (Int32.ofNat (at0 + 5))) + 1 ∧ gZ S28 ≤ gZ (sI S25 133 r (Int32.ofNat (at0 + 5))) + 3) → post (.threw q28, S28)) (h8 : ∀ S26 : zS, ∀ q26 : Nat, (zFin true S26) → (pRead at0 deep nd false = .error (2, at0)) → (xFr S S26) → (xFl S26 q26 2 at0) → (gN S ≤ gN S26 ∧ gN S26 ≤ gN S + 1 ∧ gZ S26 ≤ gZ S + 3) → post (.threw q26, S26)) : zCall d 266 [.ref r, .int (Int32.ofNat at0), .ref w, .int (Int32.ofNat deep)] S post := by
  have ht : ztab 266 = ztb266 := rfl
  show zEv d 266 0 [.ref r, .int (Int32.ofNat at0), .ref w, .int (Int32.ofNat deep), .retAddr 0, .retAddr 0, .retAddr 0] [] S post
  refine zv_c1 ht rfl rfl ?_
  refine zv_c2 (L' := [.ref r, .int (Int32.ofNat at0), .ref w, .int (Int32.ofNat deep), .int 0, .retAddr 0, .retAddr 0]) ht rfl rfl ?_
  refine zv_c1 ht rfl rfl (zv_c1 ht rfl rfl ?_)
  refine zv_br ht rfl rfl rfl (fun h => absurd h (by decide)) (fun _ => ?_)
  refine zv_c1 ht rfl rfl ?_
  have C2 : ∀ (pst1 : Outcome × zS → Prop), (pst1 (.returned (some (.ref 4294967318)), S)) → zCall (d - 1) 8 [.int 0] S pst1 := by
    intro pst1 k4
    have ht3 : ztab 8 = ztb8 := rfl
    show zEv (d - 1) 8 0 [.int 0] [] S pst1
    refine zv_c1 ht3 rfl rfl ?_
    refine zv_sw ht3 rfl rfl rfl rfl rfl ?_
    refine And.intro (fun _ => ?_) (fun h => absurd (by decide) h)
    refine zv_c1 ht3 rfl rfl ?_
    exact zv_rt ht3 rfl rfl rfl rfl k4
  refine zv_cl ht rfl rfl rfl rfl (by omega) (Nat.le_of_ble_eq_true rfl) (C2 _ ?_)
  show zEv d 266 14 [.ref r, .int (Int32.ofNat at0), .ref w, .int (Int32.ofNat deep), .int 0, .retAddr 0, .retAddr 0] [.ref 4294967318] S post
  refine zv_c1 ht rfl rfl ?_
  refine zv_cl ht rfl rfl rfl (zv_tgv ((zStr.t (xR.lit hR 11 (by decide)))) rfl) (by omega) (Nat.le_of_ble_eq_true rfl) (x_eqW (S := S) hF (by omega) (xR.lit hR 11 (by decide)) hw.1 (v := 0) (zbo_neg (by decide)) ?_)
  show zEv d 266 18 [.ref r, .int (Int32.ofNat at0), .ref w, .int (Int32.ofNat deep), .int 0, .retAddr 0, .retAddr 0] [.int 0] S post
  refine zv_br ht rfl rfl rfl (fun h => absurd h (by decide)) (fun _ => ?_)
  refine zv_c1 ht rfl rfl ?_
  refine zv_c2 (L' := [.ref r, .int (Int32.ofNat at0), .ref w, .int (Int32.ofNat deep), .int 1, .retAddr 0, .retAddr 0]) ht rfl rfl ?_
  refine zv_c1 ht rfl rfl (zv_c1 ht rfl rfl (zv_c1 ht rfl rfl ?_))
  refine zv_br ht rfl rfl rfl (fun h => absurd h (by decide)) (fun _ => ?_)
  refine zv_c1 ht rfl rfl ?_
  have C6 : ∀ (pst5 : Outcome × zS → Prop), (pst5 (.returned (some (.ref 4294967320)), S)) → zCall (d - 1) 8 [.int 1] S pst5 := by
    intro pst5 k8
    have ht7 : ztab 8 = ztb8 := rfl
    show zEv (d - 1) 8 0 [.int 1] [] S pst5
    refine zv_c1 ht7 rfl rfl ?_
    refine zv_sw ht7 rfl rfl rfl rfl rfl ?_
    refine And.intro (fun h => absurd h (by decide)) (fun _ => ?_)
    refine And.intro (fun _ => ?_) (fun h => absurd (by decide) h)
    refine zv_c1 ht7 rfl rfl ?_
    exact zv_rt ht7 rfl rfl rfl rfl k8
  refine zv_cl ht rfl rfl rfl rfl (by omega) (Nat.le_of_ble_eq_true rfl) (C6 _ ?_)
  show zEv d 266 14 [.ref r, .int (Int32.ofNat at0), .ref w, .int (Int32.ofNat deep), .int 1, .retAddr 0, .retAddr 0] [.ref 4294967320] S post
  refine zv_c1 ht rfl rfl ?_
  refine zv_cl ht rfl rfl rfl (zv_tgv ((zStr.t (xR.lit hR 12 (by decide)))) rfl) (by omega) (Nat.le_of_ble_eq_true rfl) (x_eqW (S := S) hF (by omega) (xR.lit hR 12 (by decide)) hw.1 (v := 0) (zbo_neg (by decide)) ?_)
  show zEv d 266 18 [.ref r, .int (Int32.ofNat at0), .ref w, .int (Int32.ofNat deep), .int 1, .retAddr 0, .retAddr 0] [.int 0] S post
  refine zv_br ht rfl rfl rfl (fun h => absurd h (by decide)) (fun _ => ?_)
  refine zv_c1 ht rfl rfl ?_
  refine zv_c2 (L' := [.ref r, .int (Int32.ofNat at0), .ref w, .int (Int32.ofNat deep), .int 2, .retAddr 0, .retAddr 0]) ht rfl rfl ?_
  refine zv_c1 ht rfl rfl (zv_c1 ht rfl rfl (zv_c1 ht rfl rfl ?_))
  refine zv_br ht rfl rfl rfl (fun h => absurd h (by decide)) (fun _ => ?_)
  refine zv_c1 ht rfl rfl ?_
  have C10 : ∀ (pst9 : Outcome × zS → Prop), (pst9 (.returned (some (.ref 4294967322)), S)) → zCall (d - 1) 8 [.int 2] S pst9 := by
    intro pst9 k12
    have ht11 : ztab 8 = ztb8 := rfl
    show zEv (d - 1) 8 0 [.int 2] [] S pst9
    refine zv_c1 ht11 rfl rfl ?_
    refine zv_sw ht11 rfl rfl rfl rfl rfl ?_
    refine And.intro (fun h => absurd h (by decide)) (fun _ => ?_)
    refine And.intro (fun h => absurd h (by decide)) (fun _ => ?_)
    refine And.intro (fun _ => ?_) (fun h => absurd (by decide) h)
    refine zv_c1 ht11 rfl rfl ?_
    exact zv_rt ht11 rfl rfl rfl rfl k12
  refine zv_cl ht rfl rfl rfl rfl (by omega) (Nat.le_of_ble_eq_true rfl) (C10 _ ?_)
  show zEv d 266 14 [.ref r, .int (Int32.ofNat at0), .ref w, .int (Int32.ofNat deep), .int 2, .retAddr 0, .retAddr 0] [.ref 4294967322] S post
  refine zv_c1 ht rfl rfl ?_
  refine zv_cl ht rfl rfl rfl (zv_tgv ((zStr.t (xR.lit hR 13 (by decide)))) rfl) (by omega) (Nat.le_of_ble_eq_true rfl) (x_eqW (S := S) hF (by omega) (xR.lit hR 13 (by decide)) hw.1 (v := 0) (zbo_neg (by decide)) ?_)
  show zEv d 266 18 [.ref r, .int (Int32.ofNat at0), .ref w, .int (Int32.ofNat deep), .int 2, .retAddr 0, .retAddr 0] [.int 0] S post
  refine zv_br ht rfl rfl rfl (fun h => absurd h (by decide)) (fun _ => ?_)
  refine zv_c1 ht rfl rfl ?_
  refine zv_c2 (L' := [.ref r, .int (Int32.ofNat at0), .ref w, .int (Int32.ofNat deep), .int 3, .retAddr 0, .retAddr 0]) ht rfl rfl ?_
  refine zv_c1 ht rfl rfl (zv_c1 ht rfl rfl (zv_c1 ht rfl rfl ?_))
  refine zv_br ht rfl rfl rfl (fun h => absurd h (by decide)) (fun _ => ?_)
  refine zv_c1 ht rfl rfl ?_
  have C14 : ∀ (pst13 : Outcome × zS → Prop), (pst13 (.returned (some (.ref 4294967324)), S)) → zCall (d - 1) 8 [.int 3] S pst13 := by
    intro pst13 k16
    have ht15 : ztab 8 = ztb8 := rfl
    show zEv (d - 1) 8 0 [.int 3] [] S pst13
    refine zv_c1 ht15 rfl rfl ?_
    refine zv_sw ht15 rfl rfl rfl rfl rfl ?_
    refine And.intro (fun h => absurd h (by decide)) (fun _ => ?_)
    refine And.intro (fun h => absurd h (by decide)) (fun _ => ?_)
    refine And.intro (fun h => absurd h (by decide)) (fun _ => ?_)
    refine zv_c1 ht15 rfl rfl ?_
    exact zv_rt ht15 rfl rfl rfl rfl k16
  refine zv_cl ht rfl rfl rfl rfl (by omega) (Nat.le_of_ble_eq_true rfl) (C14 _ ?_)
  show zEv d 266 14 [.ref r, .int (Int32.ofNat at0), .ref w, .int (Int32.ofNat deep), .int 3, .retAddr 0, .retAddr 0] [.ref 4294967324] S post
  refine zv_c1 ht rfl rfl ?_
  refine zv_cl ht rfl rfl rfl (zv_tgv ((zStr.t (xR.lit hR 14 (by decide)))) rfl) (by omega) (Nat.le_of_ble_eq_true rfl) (x_eqW (S := S) hF (by omega) (xR.lit hR 14 (by decide)) hw.1 (v := 0) (zbo_neg (by decide)) ?_)
  show zEv d 266 18 [.ref r, .int (Int32.ofNat at0), .ref w, .int (Int32.ofNat deep), .int 3, .retAddr 0, .retAddr 0] [.int 0] S post
  refine zv_br ht rfl rfl rfl (fun h => absurd h (by decide)) (fun _ => ?_)
  refine zv_c1 ht rfl rfl ?_
  refine zv_c2 (L' := [.ref r, .int (Int32.ofNat at0), .ref w, .int (Int32.ofNat deep), .int 4, .retAddr 0, .retAddr 0]) ht rfl rfl ?_
  refine zv_c1 ht rfl rfl (zv_c1 ht rfl rfl (zv_c1 ht rfl rfl ?_))
  refine zv_br ht rfl rfl rfl (fun _ => ?_) (fun h => absurd (by decide) h)
  refine zv_c1 ht rfl rfl ?_
  refine zv_c2 (L' := [.ref r, .int (Int32.ofNat at0), .ref w, .int (Int32.ofNat deep), .int 0, .retAddr 0, .retAddr 0]) ht rfl rfl ?_
  refine zv_c1 ht rfl rfl (zv_c1 ht rfl rfl ?_)
  refine zv_br ht rfl rfl rfl (fun h => absurd h (by decide)) (fun _ => ?_)
  refine zv_c1 ht rfl rfl ?_
  have C18 : ∀ (pst17 : Outcome × zS → Prop), (pst17 (.returned (some (.ref 4294967342)), S)) → zCall (d - 1) 11 [.int 0] S pst17 := by
    intro pst17 k20
    have ht19 : ztab 11 = ztb11 := rfl
    show zEv (d - 1) 11 0 [.int 0] [] S pst17
    refine zv_c1 ht19 rfl rfl ?_
    refine zv_sw ht19 rfl rfl rfl rfl rfl ?_
    refine And.intro (fun _ => ?_) (fun h => absurd (by decide) h)
    refine zv_c1 ht19 rfl rfl ?_
    exact zv_rt ht19 rfl rfl rfl rfl k20
  refine zv_cl ht rfl rfl rfl rfl (by omega) (Nat.le_of_ble_eq_true rfl) (C18 _ ?_)
  show zEv d 266 73 [.ref r, .int (Int32.ofNat at0), .ref w, .int (Int32.ofNat deep), .int 0, .retAddr 0, .retAddr 0] [.ref 4294967342] S post
  refine zv_c1 ht rfl rfl ?_
  refine zv_cl ht rfl rfl rfl (zv_tgv ((zStr.t (xR.lit hR 23 (by decide)))) rfl) (by omega) (Nat.le_of_ble_eq_true rfl) (x_eqW (S := S) hF (by omega) (xR.lit hR 23 (by decide)) hw.1 (v := 0) (zbo_neg (by decide)) ?_)
  show zEv d 266 77 [.ref r, .int (Int32.ofNat at0), .ref w, .int (Int32.ofNat deep), .int 0, .retAddr 0, .retAddr 0] [.int 0] S post
  refine zv_br ht rfl rfl rfl (fun h => absurd h (by decide)) (fun _ => ?_)
  refine zv_c1 ht rfl rfl ?_
  refine zv_c2 (L' := [.ref r, .int (Int32.ofNat at0), .ref w, .int (Int32.ofNat deep), .int 1, .retAddr 0, .retAddr 0]) ht rfl rfl ?_
  refine zv_c1 ht rfl rfl (zv_c1 ht rfl rfl (zv_c1 ht rfl rfl ?_))
  refine zv_br ht rfl rfl rfl (fun h => absurd h (by decide)) (fun _ => ?_)
  refine zv_c1 ht rfl rfl ?_
  have C22 : ∀ (pst21 : Outcome × zS → Prop), (pst21 (.returned (some (.ref 4294967344)), S)) → zCall (d - 1) 11 [.int 1] S pst21 := by
    intro pst21 k24
    have ht23 : ztab 11 = ztb11 := rfl
    show zEv (d - 1) 11 0 [.int 1] [] S pst21
    refine zv_c1 ht23 rfl rfl ?_
    refine zv_sw ht23 rfl rfl rfl rfl rfl ?_
    refine And.intro (fun h => absurd h (by decide)) (fun _ => ?_)
    refine And.intro (fun _ => ?_) (fun h => absurd (by decide) h)
    refine zv_c1 ht23 rfl rfl ?_
    exact zv_rt ht23 rfl rfl rfl rfl k24
  refine zv_cl ht rfl rfl rfl rfl (by omega) (Nat.le_of_ble_eq_true rfl) (C22 _ ?_)
  show zEv d 266 73 [.ref r, .int (Int32.ofNat at0), .ref w, .int (Int32.ofNat deep), .int 1, .retAddr 0, .retAddr 0] [.ref 4294967344] S post
  refine zv_c1 ht rfl rfl ?_
  refine zv_cl ht rfl rfl rfl (zv_tgv ((zStr.t (xR.lit hR 24 (by decide)))) rfl) (by omega) (Nat.le_of_ble_eq_true rfl) (x_eqW (S := S) hF (by omega) (xR.lit hR 24 (by decide)) hw.1 (v := 1) (zbo_pos rfl) ?_)
  show zEv d 266 77 [.ref r, .int (Int32.ofNat at0), .ref w, .int (Int32.ofNat deep), .int 1, .retAddr 0, .retAddr 0] [.int 1] S post
  refine zv_br ht rfl rfl rfl (fun _ => ?_) (fun h => absurd (by decide) h)
  refine zv_c1 ht rfl rfl (zv_c1 ht rfl rfl (zv_c1 ht rfl rfl (zv_c1 ht rfl rfl ?_)))
  refine zv_cl ht rfl rfl rfl (zv_tgv (hR.1.2.2.2.1) rfl) (by omega) (Nat.le_of_ble_eq_true rfl) (x_begins (S := S) (tp := tp) (sz := sz) (r := r) (p := at0) (dp := deep) (m := 1) (dq := deep) (two := false) hF (by omega) hR (by omega) (by omega) (by omega) (by omega) rfl rfl (fun S25 nd25 hF25 e25 k25 p25 g25 b25 c25 d25 => ?_) (fun S26 q26 hF26 e26 k26 x26 g26 => ?_))
  · show zEv d 266 90 [.ref r, .int (Int32.ofNat at0), .ref w, .int (Int32.ofNat deep), .int 1, .retAddr 0, .retAddr 0] [] S25 post
    refine zv_c1 ht rfl rfl (zv_c1 ht rfl rfl ?_)
    refine zv_ei (x := Int32.ofNat at0) ht rfl rfl (zhas_of (p25.1.2.2.2.1) rfl) p25.1.1 ?_
    refine zv_c1 ht rfl rfl ?_
    refine zv_cl ht rfl rfl rfl (zv_tgv (Eq.trans (zKE.T k25 (Or.inl (show w < gN S from by omega))) (zStr.t hw.1)) rfl) (by omega) (Nat.le_of_ble_eq_true rfl) (x_len (S := S25) hF25 (by omega) (xWd.k hw (zKE.tr zKE.rf (zKE.w k25 (show gN S ≤ gN S from by omega) (fun _ h => h) (fun _ h => h)))).1 (n := 5) (by decide) ?_)
    show zEv d 266 99 [.ref r, .int (Int32.ofNat at0), .ref w, .int (Int32.ofNat deep), .int 1, .retAddr 0, .retAddr 0] [.int 5, .int (Int32.ofNat at0), .ref r] S25 post
    refine zv_e1 (x := Int32.ofNat (at0 + 5)) ht rfl rfl (zi_addE (a := at0) (b := 5) rfl rfl) ?_
    refine zv_ci (S' := sI S25 133 r (Int32.ofNat (at0 + 5))) ht rfl rfl ⟨(zhas_of (p25.1.2.2.2.1) rfl), (show r < gN S25 from by omega)⟩ ?_
    refine zv_c1 ht rfl rfl (zv_c1 ht rfl rfl ?_)
    refine zv_cl ht rfl rfl rfl (zv_tgv (p25.1.2.2.2.1) rfl) (by omega) (Nat.le_of_ble_eq_true rfl) (x_take (S := sI S25 133 r (Int32.ofNat (at0 + 5))) (tp := tp) (sz := sz) (r := r) (w := 40) hF25 (by omega) (xR_at p25 (by omega)) (by omega) (by omega) (by omega) (fun S27 hF27 e27 k27 p27 g27 b27 => ?_) (fun S28 q28 hF28 e28 k28 x28 g28 => ?_))
    · show zEv d 266 109 [.ref r, .int (Int32.ofNat at0), .ref w, .int (Int32.ofNat deep), .int 1, .retAddr 0, .retAddr 0] [] S27 post
      refine zv_c1 ht rfl rfl (zv_c1 ht rfl rfl (zv_c1 ht rfl rfl ?_))
      refine zv_e1 (x := Int32.ofNat (deep + 1)) ht rfl rfl (zi_addE (a := deep) (b := 1) rfl rfl) ?_
      refine zv_cl ht rfl rfl rfl (zv_tgv (p27.1.2.2.2.1) rfl) (by omega) (Nat.le_of_ble_eq_true rfl) (xEnd.useM (g := gN S27) (z := gZ S27) rfl rfl (fun q hq => hmono _ _ _ q (by omega) hq) (xRd.use (hRd (deep + 1) _ (by omega) rfl (by omega)) (S := S27) (r := r) hF27 p27 (by omega) (by omega)) (fun S29 a29 y29 at29 nd29 hF29 e29 k29 t29 p29 g29 c29 => ?_) (fun S30 q30 kk30 z30 hF30 e30 k30 x30 g30 => ?_))
      · show zEv d 266 116 [.ref r, .int (Int32.ofNat at0), .ref w, .int (Int32.ofNat deep), .int 1, .retAddr 0, .retAddr 0] [.ref a29] S29 post
        refine zv_c2 (L' := [.ref r, .int (Int32.ofNat at0), .ref w, .int (Int32.ofNat deep), .int 1, .ref a29, .retAddr 0]) ht rfl rfl ?_
        refine zv_c1 ht rfl rfl (zv_c1 ht rfl rfl ?_)
        refine zv_cl ht rfl rfl rfl (zv_tgv (p29.1.2.2.2.1) rfl) (by omega) (Nat.le_of_ble_eq_true rfl) (x_take (S := S29) (tp := tp) (sz := sz) (r := r) (w := 44) hF29 (by omega) p29 (by omega) (by omega) (by omega) (fun S31 hF31 e31 k31 p31 g31 b31 => ?_) (fun S32 q32 hF32 e32 k32 x32 g32 => ?_))
        · show zEv d 266 124 [.ref r, .int (Int32.ofNat at0), .ref w, .int (Int32.ofNat deep), .int 1, .ref a29, .retAddr 0] [] S31 post
          refine zv_c1 ht rfl rfl (zv_c1 ht rfl rfl (zv_c1 ht rfl rfl ?_))
          refine zv_e1 (x := Int32.ofNat (deep + 1)) ht rfl rfl (zi_addE (a := deep) (b := 1) rfl rfl) ?_
          refine zv_cl ht rfl rfl rfl (zv_tgv (p31.1.2.2.2.1) rfl) (by omega) (Nat.le_of_ble_eq_true rfl) (xEnd.useM (g := gN S31) (z := gZ S31) rfl rfl (fun q hq => hmono _ _ _ q (by omega) hq) (xRd.use (hRd (deep + 1) _ (by omega) rfl (by omega)) (S := S31) (r := r) hF31 p31 (by omega) (by omega)) (fun S33 a33 y33 at33 nd33 hF33 e33 k33 t33 p33 g33 c33 => ?_) (fun S34 q34 kk34 z34 hF34 e34 k34 x34 g34 => ?_))
          · show zEv d 266 131 [.ref r, .int (Int32.ofNat at0), .ref w, .int (Int32.ofNat deep), .int 1, .ref a29, .retAddr 0] [.ref a33] S33 post
            refine zv_c2 (L' := [.ref r, .int (Int32.ofNat at0), .ref w, .int (Int32.ofNat deep), .int 1, .ref a29, .ref a33]) ht rfl rfl ?_
            refine zv_c1 ht rfl rfl (zv_c1 ht rfl rfl ?_)
            refine zv_cl ht rfl rfl rfl (zv_tgv (p33.1.2.2.2.1) rfl) (by omega) (Nat.le_of_ble_eq_true rfl) (x_take (S := S33) (tp := tp) (sz := sz) (r := r) (w := 41) hF33 (by omega) p33 (by omega) (by omega) (by omega) (fun S35 hF35 e35 k35 p35 g35 b35 => ?_) (fun S36 q36 hF36 e36 k36 x36 g36 => ?_))
            · show zEv d 266 139 [.ref r, .int (Int32.ofNat at0), .ref w, .int (Int32.ofNat deep), .int 1, .ref a29, .ref a33] [] S35 post
              refine zv_c1 ht rfl rfl ?_
              refine zv_ci (st' := [.ref (gN S35), .ref r]) (S' := sNew S35 20 0 (zslots 20)) ht rfl rfl (znew_ok (show 1639 ≤ gN S35 from by omega) (show gN S35 < 2000000 from by omega)) ?_
              refine zv_c1 ht rfl rfl (zv_c1 ht rfl rfl ?_)
              refine zv_g3 (q := 0) ht rfl (zFin_new hF35) rfl rfl (zhas_of (Eq.trans (ztyp_new (S := S35) (t := 20) (n := 0) (s := zslots 20) (show r ≠ gN S35 from by omega)) p35.1.2.2.2.1) rfl) (Eq.trans (gP_new (S := S35) (t := 20) (n := 0) (s := zslots 20) (show r ≠ gN S35 from by omega)) p35.1.2.2.2.2) ?_
              refine zv_c1 ht rfl rfl (zv_c1 ht rfl rfl (zv_c1 ht rfl rfl (zv_c1 ht rfl rfl ?_)))
              have C38 : ∀ (pst37 : Outcome × zS → Prop), (pst37 (.returned none, sP (sP (sI (sI (sP (sNew S35 20 0 (zslots 20)) 190 (gN S35) (some 0)) 144 (gN S35) (Int32.ofNat at0)) 187 (gN S35) 1) 188 (gN S35) (some a29)) 189 (gN S35) (some a33))) → zCall (d - 1) 373 [.ref (gN S35), .ref 0, .int (Int32.ofNat at0), .int 1, .ref a29, .ref a33] (sNew S35 20 0 (zslots 20)) pst37 := by
                intro pst37 k44
                have ht39 : ztab 373 = ztb373 := rfl
                show zEv (d - 1) 373 0 [.ref (gN S35), .ref 0, .int (Int32.ofNat at0), .int 1, .ref a29, .ref a33] [] (sNew S35 20 0 (zslots 20)) pst37
                refine zv_c1 ht39 rfl rfl (zv_c1 ht39 rfl rfl ?_)
                refine zv_ci (S' := sP (sNew S35 20 0 (zslots 20)) 190 (gN S35) (some 0)) ht39 rfl rfl ⟨(zhas_of (ztyp_new_at (S := S35) (t := 20) (n := 0) (s := zslots 20) (show 1639 ≤ gN S35 from by omega)) rfl), (show gN S35 < gN S35 + 1 from by omega)⟩ ?_
                refine zv_c1 ht39 rfl rfl (zv_c1 ht39 rfl rfl (zv_c1 ht39 rfl rfl ?_))
                have C41 : ∀ (pst40 : Outcome × zS → Prop), (pst40 (.returned none, sI (sP (sNew S35 20 0 (zslots 20)) 190 (gN S35) (some 0)) 144 (gN S35) (Int32.ofNat at0))) → zCall ((d - 1) - 1) 280 [.ref (gN S35), .ref 0, .int (Int32.ofNat at0)] (sP (sNew S35 20 0 (zslots 20)) 190 (gN S35) (some 0)) pst40 := by
                  intro pst40 k43
                  have ht42 : ztab 280 = ztb280 := rfl
                  show zEv ((d - 1) - 1) 280 0 [.ref (gN S35), .ref 0, .int (Int32.ofNat at0)] [] (sP (sNew S35 20 0 (zslots 20)) 190 (gN S35) (some 0)) pst40
                  refine zv_c1 ht42 rfl rfl (zv_c1 ht42 rfl rfl ?_)
                  refine zv_ci (S' := sP (sNew S35 20 0 (zslots 20)) 190 (gN S35) (some 0)) ht42 rfl rfl (zk5 (ztyp_new_at (S := S35) (t := 20) (n := 0) (s := zslots 20) (show 1639 ≤ gN S35 from by omega)) rfl (show gN S35 < gN S35 + 1 from by omega) rfl gP_sP_at) ?_
                  refine zv_c1 ht42 rfl rfl (zv_c1 ht42 rfl rfl (zv_c1 ht42 rfl rfl (zv_c1 ht42 rfl rfl ?_)))
                  refine zv_ci (S' := sI (sP (sNew S35 20 0 (zslots 20)) 190 (gN S35) (some 0)) 144 (gN S35) (Int32.ofNat at0)) ht42 rfl rfl ⟨(zhas_of (ztyp_new_at (S := S35) (t := 20) (n := 0) (s := zslots 20) (show 1639 ≤ gN S35 from by omega)) rfl), (show gN S35 < gN S35 + 1 from by omega)⟩ ?_
                  exact zv_rt ht42 rfl rfl rfl rfl k43
                refine zv_cl ht39 rfl rfl rfl rfl (by omega) (Nat.le_of_ble_eq_true rfl) (C41 _ ?_)
                show zEv (d - 1) 373 11 [.ref (gN S35), .ref 0, .int (Int32.ofNat at0), .int 1, .ref a29, .ref a33] [] (sI (sP (sNew S35 20 0 (zslots 20)) 190 (gN S35) (some 0)) 144 (gN S35) (Int32.ofNat at0)) pst37
                refine zv_c1 ht39 rfl rfl (zv_c1 ht39 rfl rfl ?_)
                refine zv_ci (S' := sI (sI (sP (sNew S35 20 0 (zslots 20)) 190 (gN S35) (some 0)) 144 (gN S35) (Int32.ofNat at0)) 187 (gN S35) 1) ht39 rfl rfl ⟨(zhas_of (ztyp_new_at (S := S35) (t := 20) (n := 0) (s := zslots 20) (show 1639 ≤ gN S35 from by omega)) rfl), (show gN S35 < gN S35 + 1 from by omega)⟩ ?_
                refine zv_c1 ht39 rfl rfl (zv_c1 ht39 rfl rfl ?_)
                refine zv_ci (S' := sP (sI (sI (sP (sNew S35 20 0 (zslots 20)) 190 (gN S35) (some 0)) 144 (gN S35) (Int32.ofNat at0)) 187 (gN S35) 1) 188 (gN S35) (some a29)) ht39 rfl rfl ⟨(zhas_of (ztyp_new_at (S := S35) (t := 20) (n := 0) (s := zslots 20) (show 1639 ≤ gN S35 from by omega)) rfl), (show gN S35 < gN S35 + 1 from by omega)⟩ ?_
                refine zv_c1 ht39 rfl rfl (zv_c1 ht39 rfl rfl ?_)
                refine zv_ci (S' := sP (sP (sI (sI (sP (sNew S35 20 0 (zslots 20)) 190 (gN S35) (some 0)) 144 (gN S35) (Int32.ofNat at0)) 187 (gN S35) 1) 188 (gN S35) (some a29)) 189 (gN S35) (some a33)) ht39 rfl rfl ⟨(zhas_of (ztyp_new_at (S := S35) (t := 20) (n := 0) (s := zslots 20) (show 1639 ≤ gN S35 from by omega)) rfl), (show gN S35 < gN S35 + 1 from by omega)⟩ ?_
                exact zv_rt ht39 rfl rfl rfl rfl k44
              refine zv_cl ht rfl rfl rfl rfl (by omega) (Nat.le_of_ble_eq_true rfl) (C38 _ ?_)
              show zEv d 266 158 [.ref r, .int (Int32.ofNat at0), .ref w, .int (Int32.ofNat deep), .int 1, .ref a29, .ref a33] [.ref (gN S35), .ref r] (sP (sP (sI (sI (sP (sNew S35 20 0 (zslots 20)) 190 (gN S35) (some 0)) 144 (gN S35) (Int32.ofNat at0)) 187 (gN S35) 1) 188 (gN S35) (some a29)) 189 (gN S35) (some a33)) post
              have C46 : ∀ (pst45 : Outcome × zS → Prop), (∀ S48 : zS, (zFin true S48) → (pJ (tN 12 0 [] at0 [y29, y33]) = .ok (tN 12 0 [] at0 [y29, y33])) → (xJd (sP (sP (sI (sI (sP (sNew S35 20 0 (zslots 20)) 190 (gN S35) (some 0)) 144 (gN S35) (Int32.ofNat at0)) 187 (gN S35) 1) 188 (gN S35) (some a29)) 189 (gN S35) (some a33)) (gN S35) S48) → (xTl (gN S) S48 (tN 12 0 [] at0 [y29, y33]) (gN S35)) → (xR tp sz S48 r (at33 + 1) nd33) → (gN S48 = gN S35 + 1 ∧ gZ S48 = gZ S35 + 20) → pst45 (.returned (some (.ref (gN S35))), S48)) → (∀ S49 : zS, ∀ q49 : Nat, (zFin true S49) → (pJ (tN 12 0 [] at0 [y29, y33]) = .error (3, at0)) → (xFn (sP (sP (sI (sI (sP (sNew S35 20 0 (zslots 20)) 190 (gN S35) (some 0)) 144 (gN S35) (Int32.ofNat at0)) 187 (gN S35) 1) 188 (gN S35) (some a29)) 189 (gN S35) (some a33)) (gN S35) S49) → (xFl S49 q49 3 at0) → (gN S49 = gN S35 + 1 + 1 ∧ gZ S49 ≤ gZ S35 + 20 + 3) → pst45 (.threw q49, S49)) → zCall (d - 1) 253 [.ref r, .ref (gN S35)] (sP (sP (sI (sI (sP (sNew S35 20 0 (zslots 20)) 190 (gN S35) (some 0)) 144 (gN S35) (Int32.ofNat at0)) 187 (gN S35) 1) 188 (gN S35) (some a29)) 189 (gN S35) (some a33)) pst45 := by
                intro pst45 k50 k51
                have ht47 : ztab 253 = ztb253 := rfl
                show zEv (d - 1) 253 0 [.ref r, .ref (gN S35)] [] (sP (sP (sI (sI (sP (sNew S35 20 0 (zslots 20)) 190 (gN S35) (some 0)) 144 (gN S35) (Int32.ofNat at0)) 187 (gN S35) 1) 188 (gN S35) (some a29)) 189 (gN S35) (some a33)) pst45
                refine zv_c1 ht47 rfl rfl ?_
                refine zv_cl ht47 rfl rfl rfl (zv_tgm (ztyp_new_at (S := S35) (t := 20) (n := 0) (s := zslots 20) (show 1639 ≤ gN S35 from by omega)) rfl) (by omega) (Nat.le_of_ble_eq_true rfl) (x_judgeR (S := sP (sP (sI (sI (sP (sNew S35 20 0 (zslots 20)) 190 (gN S35) (some 0)) 144 (gN S35) (Int32.ofNat at0)) 187 (gN S35) 1) 188 (gN S35) (some a29)) 189 (gN S35) (some a33)) (tp := tp) (sz := sz) (r := r) (a := gN S35) (k := 12) (v := 0) (p := at0) (ks := []) (js := [a29, a33]) (cs := [y29, y33]) (g := gN S35 + 1) (lo := gN S) (zFin_sP (zFin_sP (zFin_sP (zFin_new hF35) rfl) rfl) rfl) (by omega) (by omega) (by omega) (by omega) (by omega) rfl (xOwn_P (by decide) (ztyp_new_at (S := S35) (t := 20) (n := 0) (s := zslots 20) (show 1639 ≤ gN S35 from by omega)) (gI_sI_at) (gP_sP_at) (gP_sP_at)) ⟨a29, _, rfl, (xTl.ch t29 (zKE.tr (zKE.tr (zKE.tr (zKE.tr (zKE.tr (zKE.tr (zKE.tr (zKE.tr (zKE.tr zKE.rf (zKE.w k31 (show gN S29 ≤ gN S29 from by omega) (fun _ h => h) (fun _ h => h))) (zKE.w k33 (show gN S29 ≤ gN S31 from by omega) (fun _ h => h) (fun _ h => h))) (zKE.w k35 (show gN S29 ≤ gN S33 from by omega) (fun _ h => h) (fun _ h => h))) (zKE_new (show gN S29 ≤ gN S35 ∧ gN S35 < zLB from ⟨by omega, by have hLB : zLB = 4294967296 := rfl; omega⟩))) (zKE_sP (Or.inr (Or.inr ⟨by omega, by have hLB : zLB = 4294967296 := rfl; omega⟩)))) (zKE_sI (Or.inr (Or.inr ⟨by omega, by have hLB : zLB = 4294967296 := rfl; omega⟩)))) (zKE_sI (Or.inr (Or.inr ⟨by omega, by have hLB : zLB = 4294967296 := rfl; omega⟩)))) (zKE_sP (Or.inr (Or.inr ⟨by omega, by have hLB : zLB = 4294967296 := rfl; omega⟩)))) (zKE_sP (Or.inr (Or.inr ⟨by omega, by have hLB : zLB = 4294967296 := rfl; omega⟩)))) (by omega) (by intro j h1 h2; omega)), ⟨a33, _, rfl, (xTl.ch t33 (zKE.tr (zKE.tr (zKE.tr (zKE.tr (zKE.tr (zKE.tr (zKE.tr zKE.rf (zKE.w k35 (show gN S33 ≤ gN S33 from by omega) (fun _ h => h) (fun _ h => h))) (zKE_new (show gN S33 ≤ gN S35 ∧ gN S35 < zLB from ⟨by omega, by have hLB : zLB = 4294967296 := rfl; omega⟩))) (zKE_sP (Or.inr (Or.inr ⟨by omega, by have hLB : zLB = 4294967296 := rfl; omega⟩)))) (zKE_sI (Or.inr (Or.inr ⟨by omega, by have hLB : zLB = 4294967296 := rfl; omega⟩)))) (zKE_sI (Or.inr (Or.inr ⟨by omega, by have hLB : zLB = 4294967296 := rfl; omega⟩)))) (zKE_sP (Or.inr (Or.inr ⟨by omega, by have hLB : zLB = 4294967296 := rfl; omega⟩)))) (zKE_sP (Or.inr (Or.inr ⟨by omega, by have hLB : zLB = 4294967296 := rfl; omega⟩)))) (by omega) (by intro j h1 h2; omega)), rfl⟩⟩ (by decide) (by omega) (gI_sI_at) (gI_new_at (S := S35) (t := 20) (n := 0) (s := zslots 20)) (gI_new_at (S := S35) (t := 20) (n := 0) (s := zslots 20)) (xR.ke (Fs := []) p35 (zKE.tr (zKE.tr (zKE.tr (zKE.tr (zKE.tr (zKE.tr zKE.rf (zKE_new (show gN S35 ≤ gN S35 ∧ gN S35 < zLB from ⟨by omega, by have hLB : zLB = 4294967296 := rfl; omega⟩))) (zKE_sP (Or.inr (Or.inr ⟨by omega, by have hLB : zLB = 4294967296 := rfl; omega⟩)))) (zKE_sI (Or.inr (Or.inr ⟨by omega, by have hLB : zLB = 4294967296 := rfl; omega⟩)))) (zKE_sI (Or.inr (Or.inr ⟨by omega, by have hLB : zLB = 4294967296 := rfl; omega⟩)))) (zKE_sP (Or.inr (Or.inr ⟨by omega, by have hLB : zLB = 4294967296 := rfl; omega⟩)))) (zKE_sP (Or.inr (Or.inr ⟨by omega, by have hLB : zLB = 4294967296 := rfl; omega⟩)))) (by omega) (by decide)) (by omega) (fun S48 hF48 e48 j48 t48 p48 g48 => ?_) (fun S49 q49 hF49 e49 k49 x49 g49 => ?_))
                · show zEv (d - 1) 253 4 [.ref r, .ref (gN S35)] [] S48 pst45
                  refine zv_c1 ht47 rfl rfl ?_
                  exact zv_rt ht47 rfl rfl rfl rfl (k50 S48 hF48 e48 j48 t48 p48 g48)
                · exact (k51 S49 q49 hF49 e49 k49 x49 g49)
              refine zv_cl ht rfl rfl rfl (zv_tgv (Eq.trans (ztyp_new (S := S35) (t := 20) (n := 0) (s := zslots 20) (show r ≠ gN S35 from by omega)) p35.1.2.2.2.1) rfl) (by omega) (Nat.le_of_ble_eq_true rfl) (C46 _ (fun S48 hF48 e48 j48 t48 p48 g48 => ?_) (fun S49 q49 hF49 e49 k49 x49 g49 => ?_))
              · show zEv d 266 161 [.ref r, .int (Int32.ofNat at0), .ref w, .int (Int32.ofNat deep), .int 1, .ref a29, .ref a33] [.ref (gN S35)] S48 post
                exact zv_rt ht rfl rfl rfl rfl (h1 S25 nd25 hF25 e25 k25 p25 g25 b25 c25 d25 S27 hF27 e27 k27 p27 g27 b27 S29 a29 y29 at29 nd29 hF29 e29 k29 t29 p29 g29 c29 S31 hF31 e31 k31 p31 g31 b31 S33 a33 y33 at33 nd33 hF33 e33 k33 t33 p33 g33 c33 S35 hF35 e35 k35 p35 g35 b35 S48 hF48 e48 j48 t48 p48 g48)
              · exact (h2 S25 nd25 hF25 e25 k25 p25 g25 b25 c25 d25 S27 hF27 e27 k27 p27 g27 b27 S29 a29 y29 at29 nd29 hF29 e29 k29 t29 p29 g29 c29 S31 hF31 e31 k31 p31 g31 b31 S33 a33 y33 at33 nd33 hF33 e33 k33 t33 p33 g33 c33 S35 hF35 e35 k35 p35 g35 b35 S49 q49 hF49 e49 k49 x49 g49)
            · exact (h3 S25 nd25 hF25 e25 k25 p25 g25 b25 c25 d25 S27 hF27 e27 k27 p27 g27 b27 S29 a29 y29 at29 nd29 hF29 e29 k29 t29 p29 g29 c29 S31 hF31 e31 k31 p31 g31 b31 S33 a33 y33 at33 nd33 hF33 e33 k33 t33 p33 g33 c33 S36 q36 hF36 e36 k36 x36 g36)
          · exact (h4 S25 nd25 hF25 e25 k25 p25 g25 b25 c25 d25 S27 hF27 e27 k27 p27 g27 b27 S29 a29 y29 at29 nd29 hF29 e29 k29 t29 p29 g29 c29 S31 hF31 e31 k31 p31 g31 b31 S34 q34 kk34 z34 hF34 e34 k34 x34 g34)
        · exact (h5 S25 nd25 hF25 e25 k25 p25 g25 b25 c25 d25 S27 hF27 e27 k27 p27 g27 b27 S29 a29 y29 at29 nd29 hF29 e29 k29 t29 p29 g29 c29 S32 q32 hF32 e32 k32 x32 g32)
      · exact (h6 S25 nd25 hF25 e25 k25 p25 g25 b25 c25 d25 S27 hF27 e27 k27 p27 g27 b27 S30 q30 kk30 z30 hF30 e30 k30 x30 g30)
    · exact (h7 S25 nd25 hF25 e25 k25 p25 g25 b25 c25 d25 S28 q28 hF28 e28 k28 x28 g28)
  · exact (h8 S26 q26 hF26 e26 k26 x26 g26)

theorem ot25 {d : Nat} {S : zS} (hF : zFin true S) (hd : 4 ≤ d) {tp : Nat → Nat} {sz at0 nd r : Nat} {rec : Nat → Nat → Nat → pE (zNd × Nat × Nat)} {K : Nat} {w : Nat} (deep : Nat) (hR : xR tp sz S r at0 nd) (hs0 : sz ≤ 300) (ha0 : at0 ≤ sz) (hr1 : 1639 ≤ r) (hr2 : r < gN S) (hN : gN S + 30 * (sz - at0) ≤ 1700000) (hdp : deep < 1000) (hnd : nd ≤ 80) (hK : K + 3 ≤ d) (hK2 : 12 ≤ d) (hmono : pMono rec) (hRd : ∀ dp d', deep ≤ 24 → dp = deep + 1 → K ≤ d' → xRd tp sz d' dp rec) (hw : xWd S w (ztn 25)) (hwN : w < gN S) (hwl : at0 + 4 ≤ sz) {post : Outcome × zS → Prop} (h1 : ∀ S29 : zS, ∀ nd29 : Nat, (zFin true S29) → (pRead at0 deep nd false = .ok nd29) → (xFr S S29) → (xR tp sz S29 r at0 nd29) → (gN S ≤ gN S29 ∧ gN S29 ≤ gN S + 0 ∧ gZ S29 ≤ gZ S + 0) → (at0 ≤ sz) → (nd29 ≤ 80) → (deep ≤ 24) → ∀ S31 : zS, (zFin true S31) → (pWant tp sz 40 (at0 + 4) = .ok (at0 + 5)) → (xFr (sI S29 133 r (Int32.ofNat (at0 + 4))) S31) → (xR tp sz S31 r (at0 + 5) nd29) → (gN (sI S29 133 r (Int32.ofNat (at0 + 4))) ≤ gN S31 ∧ gN S31 ≤ gN (sI S29 133 r (Int32.ofNat (at0 + 4))) + 0 ∧ gZ S31 ≤ gZ (sI S29 133 r (Int32.ofNat (at0 + 4))) + 0) → ((at0 + 5) ≤ sz) → ∀ S33 : zS, ∀ a33 : Nat, ∀ y33 : zNd, ∀ at33 : Nat, ∀ nd33 : Nat, (zFin true S33) → (rec (deep + 1) (at0 + 5) nd29 = .ok (y33, at33, nd33)) → (xFr S31 S33) → (xTl (gN S31) S33 y33 a33) → (xR tp sz S33 r at33 nd33) → (gN S31 ≤ gN S33 ∧ gN S33 + 30 * (sz - at33) ≤ gN S31 + 30 * (sz - (at0 + 5)) ∧ gZ S33 + 150 * (sz - at33) ≤ gZ S31 + 150 * (sz - (at0 + 5))) → (at33 ≤ sz ∧ gN S31 ≤ a33 ∧ a33 < gN S33 ∧ (at0 + 5) < at33 ∧ nd33 ≤ 80) → ∀ S35 : zS, (zFin true S35) → (pWant tp sz 44 at33 = .ok (at33 + 1)) → (xFr S33 S35) → (xR tp sz S35 r (at33 + 1) nd33) → (gN S33 ≤ gN S35 ∧ gN S35 ≤ gN S33 + 0 ∧ gZ S35 ≤ gZ S33 + 0) → ((at33 + 1) ≤ sz) → ∀ S37 : zS, ∀ a37 : Nat, ∀ y37 : zNd, ∀ at37 : Nat, ∀ nd37 : Nat, (zFin true S37) → (rec (deep + 1) (at33 + 1) nd33 = .ok (y37, at37, nd37)) → (xFr S35 S37) → (xTl (gN S35) S37 y37 a37) → (xR tp sz S37 r at37 nd37) → (gN S35 ≤ gN S37 ∧ gN S37 + 30 * (sz - at37) ≤ gN S35 + 30 * (sz - (at33 + 1)) ∧ gZ S37 + 150 * (sz - at37) ≤ gZ S35 + 150 * (sz - (at33 + 1))) → (at37 ≤ sz ∧ gN S35 ≤ a37 ∧ a37 < gN S37 ∧ (at33 + 1) < at37 ∧ nd37 ≤ 80) → ∀ S39 : zS, (zFin true S39) → (pWant tp sz 41 at37 = .ok (at37 + 1)) → (xFr S37 S39) → (xR tp sz S39 r (at37 + 1) nd37) → (gN S37 ≤ gN S39 ∧ gN S39 ≤ gN S37 + 0 ∧ gZ S39 ≤ gZ S37 + 0) → ((at37 + 1) ≤ sz) → ∀ S52 : zS, (zFin true S52) → (pJ (tN 13 0 [] at0 [y33, y37]) = .ok (tN 13 0 [] at0 [y33, y37])) → (xJd (sP (sP (sI (sI (sP (sNew S39 20 0 (zslots 20)) 190 (gN S39) (some 0)) 144 (gN S39) (Int32.ofNat at0)) 187 (gN S39) 2) 188 (gN S39) (some a33)) 189 (gN S39) (some a37)) (gN S39) S52) → (xTl (gN S) S52 (tN 13 0 [] at0 [y33, y37]) (gN S39)) → (xR tp sz S52 r (at37 + 1) nd37) → (gN S52 = gN S39 + 1 ∧ gZ S52 = gZ S39 + 20) → post (.returned (some (.ref (gN S39))), S52)) (h2 : ∀ S29 : zS, ∀ nd29 : Nat, (zFin true S29) → (pRead at0 deep nd false = .ok nd29) → (xFr S S29) → (xR tp sz S29 r at0 nd29) → (gN S ≤ gN S29 ∧ gN S29 ≤ gN S + 0 ∧ gZ S29 ≤ gZ S + 0) → (at0 ≤ sz) → (nd29 ≤ 80) → (deep ≤ 24) → ∀ S31 : zS, (zFin true S31) → (pWant tp sz 40 (at0 + 4) = .ok (at0 + 5)) → (xFr (sI S29 133 r (Int32.ofNat (at0 + 4))) S31) → (xR tp sz S31 r (at0 + 5) nd29) → (gN (sI S29 133 r (Int32.ofNat (at0 + 4))) ≤ gN S31 ∧ gN S31 ≤ gN (sI S29 133 r (Int32.ofNat (at0 + 4))) + 0 ∧ gZ S31 ≤ gZ (sI S29 133 r (Int32.ofNat (at0 + 4))) + 0) → ((at0 + 5) ≤ sz) → ∀ S33 : zS, ∀ a33 : Nat, ∀ y33 : zNd, ∀ at33 : Nat, ∀ nd33 : Nat, (zFin true S33) → (rec (deep + 1) (at0 + 5) nd29 = .ok (y33, at33, nd33)) → (xFr S31 S33) → (xTl (gN S31) S33 y33 a33) → (xR tp sz S33 r at33 nd33) → (gN S31 ≤ gN S33 ∧ gN S33 + 30 * (sz - at33) ≤ gN S31 + 30 * (sz - (at0 + 5)) ∧ gZ S33 + 150 * (sz - at33) ≤ gZ S31 + 150 * (sz - (at0 + 5))) → (at33 ≤ sz ∧ gN S31 ≤ a33 ∧ a33 < gN S33 ∧ (at0 + 5) < at33 ∧ nd33 ≤ 80) → ∀ S35 : zS, (zFin true S35) → (pWant tp sz 44 at33 = .ok (at33 + 1)) → (xFr S33 S35) → (xR tp sz S35 r (at33 + 1) nd33) → (gN S33 ≤ gN S35 ∧ gN S35 ≤ gN S33 + 0 ∧ gZ S35 ≤ gZ S33 + 0) → ((at33 + 1) ≤ sz) → ∀ S37 : zS, ∀ a37 : Nat, ∀ y37 : zNd, ∀ at37 : Nat, ∀ nd37 : Nat, (zFin true S37) → (rec (deep + 1) (at33 + 1) nd33 = .ok (y37, at37, nd37)) → (xFr S35 S37) → (xTl (gN S35) S37 y37 a37) → (xR tp sz S37 r at37 nd37) → (gN S35 ≤ gN S37 ∧ gN S37 + 30 * (sz - at37) ≤ gN S35 + 30 * (sz - (at33 + 1)) ∧ gZ S37 + 150 * (sz - at37) ≤ gZ S35 + 150 * (sz - (at33 + 1))) → (at37 ≤ sz ∧ gN S35 ≤ a37 ∧ a37 < gN S37 ∧ (at33 + 1) < at37 ∧ nd37 ≤ 80) → ∀ S39 : zS, (zFin true S39) → (pWant tp sz 41 at37 = .ok (at37 + 1)) → (xFr S37 S39) → (xR tp sz S39 r (at37 + 1) nd37) → (gN S37 ≤ gN S39 ∧ gN S39 ≤ gN S37 + 0 ∧ gZ S39 ≤ gZ S37 + 0) → ((at37 + 1) ≤ sz) → ∀ S53 : zS, ∀ q53 : Nat, (zFin true S53) → (pJ (tN 13 0 [] at0 [y33, y37]) = .error (3, at0)) → (xFn (sP (sP (sI (sI (sP (sNew S39 20 0 (zslots 20)) 190 (gN S39) (some 0)) 144 (gN S39) (Int32.ofNat at0)) 187 (gN S39) 2) 188 (gN S39) (some a33)) 189 (gN S39) (some a37)) (gN S39) S53) → (xFl S53 q53 3 at0) → (gN S53 = gN S39 + 1 + 1 ∧ gZ S53 ≤ gZ S39 + 20 + 3) → post (.threw q53, S53)) (h3 : ∀ S29 : zS, ∀ nd29 : Nat, (zFin true S29) → (pRead at0 deep nd false = .ok nd29) → (xFr S S29) → (xR tp sz S29 r at0 nd29) → (gN S ≤ gN S29 ∧ gN S29 ≤ gN S + 0 ∧ gZ S29 ≤ gZ S + 0) → (at0 ≤ sz) → (nd29 ≤ 80) → (deep ≤ 24) → ∀ S31 : zS, (zFin true S31) → (pWant tp sz 40 (at0 + 4) = .ok (at0 + 5)) → (xFr (sI S29 133 r (Int32.ofNat (at0 + 4))) S31) → (xR tp sz S31 r (at0 + 5) nd29) → (gN (sI S29 133 r (Int32.ofNat (at0 + 4))) ≤ gN S31 ∧ gN S31 ≤ gN (sI S29 133 r (Int32.ofNat (at0 + 4))) + 0 ∧ gZ S31 ≤ gZ (sI S29 133 r (Int32.ofNat (at0 + 4))) + 0) → ((at0 + 5) ≤ sz) → ∀ S33 : zS, ∀ a33 : Nat, ∀ y33 : zNd, ∀ at33 : Nat, ∀ nd33 : Nat, (zFin true S33) → (rec (deep + 1) (at0 + 5) nd29 = .ok (y33, at33, nd33)) → (xFr S31 S33) → (xTl (gN S31) S33 y33 a33) → (xR tp sz S33 r at33 nd33) → (gN S31 ≤ gN S33 ∧ gN S33 + 30 * (sz - at33) ≤ gN S31 + 30 * (sz - (at0 + 5)) ∧ gZ S33 + 150 * (sz - at33) ≤ gZ S31 + 150 * (sz - (at0 + 5))) → (at33 ≤ sz ∧ gN S31 ≤ a33 ∧ a33 < gN S33 ∧ (at0 + 5) < at33 ∧ nd33 ≤ 80) → ∀ S35 : zS, (zFin true S35) → (pWant tp sz 44 at33 = .ok (at33 + 1)) → (xFr S33 S35) → (xR tp sz S35 r (at33 + 1) nd33) → (gN S33 ≤ gN S35 ∧ gN S35 ≤ gN S33 + 0 ∧ gZ S35 ≤ gZ S33 + 0) → ((at33 + 1) ≤ sz) → ∀ S37 : zS, ∀ a37 : Nat, ∀ y37 : zNd, ∀ at37 : Nat, ∀ nd37 : Nat, (zFin true S37) → (rec (deep + 1) (at33 + 1) nd33 = .ok (y37, at37, nd37)) → (xFr S35 S37) → (xTl (gN S35) S37 y37 a37) → (xR tp sz S37 r at37 nd37) → (gN S35 ≤ gN S37 ∧ gN S37 + 30 * (sz - at37) ≤ gN S35 + 30 * (sz - (at33 + 1)) ∧ gZ S37 + 150 * (sz - at37) ≤ gZ S35 + 150 * (sz - (at33 + 1))) → (at37 ≤ sz ∧ gN S35 ≤ a37 ∧ a37 < gN S37 ∧ (at33 + 1) < at37 ∧ nd37 ≤ 80) → ∀ S40 : zS, ∀ q40 : Nat, (zFin true S40) → (pWant tp sz 41 at37 = .error (1, at37)) → (xFr S37 S40) → (xFl S40 q40 1 at37) → (gN S37 ≤ gN S40 ∧ gN S40 ≤ gN S37 + 1 ∧ gZ S40 ≤ gZ S37 + 3) → post (.threw q40, S40)) (h4 : ∀ S29 : zS, ∀ nd29 : Nat, (zFin true S29) → (pRead at0 deep nd false = .ok nd29) → (xFr S S29) → (xR tp sz S29 r at0 nd29) → (gN S ≤ gN S29 ∧ gN S29 ≤ gN S + 0 ∧ gZ S29 ≤ gZ S + 0) → (at0 ≤ sz) → (nd29 ≤ 80) → (deep ≤ 24) → ∀ S31 : zS, (zFin true S31) → (pWant tp sz 40 (at0 + 4) = .ok (at0 + 5)) → (xFr (sI S29 133 r (Int32.ofNat (at0 + 4))) S31) → (xR tp sz S31 r (at0 + 5) nd29) → (gN (sI S29 133 r (Int32.ofNat (at0 + 4))) ≤ gN S31 ∧ gN S31 ≤ gN (sI S29 133 r (Int32.ofNat (at0 + 4))) + 0 ∧ gZ S31 ≤ gZ (sI S29 133 r (Int32.ofNat (at0 + 4))) + 0) → ((at0 + 5) ≤ sz) → ∀ S33 : zS, ∀ a33 : Nat, ∀ y33 : zNd, ∀ at33 : Nat, ∀ nd33 : Nat, (zFin true S33) → (rec (deep + 1) (at0 + 5) nd29 = .ok (y33, at33, nd33)) → (xFr S31 S33) → (xTl (gN S31) S33 y33 a33) → (xR tp sz S33 r at33 nd33) → (gN S31 ≤ gN S33 ∧ gN S33 + 30 * (sz - at33) ≤ gN S31 + 30 * (sz - (at0 + 5)) ∧ gZ S33 + 150 * (sz - at33) ≤ gZ S31 + 150 * (sz - (at0 + 5))) → (at33 ≤ sz ∧ gN S31 ≤ a33 ∧ a33 < gN S33 ∧ (at0 + 5) < at33 ∧ nd33 ≤ 80) → ∀ S35 : zS, (zFin true S35) → (pWant tp sz 44 at33 = .ok (at33 + 1)) → (xFr S33 S35) → (xR tp sz S35 r (at33 + 1) nd33) → (gN S33 ≤ gN S35 ∧ gN S35 ≤ gN S33 + 0 ∧ gZ S35 ≤ gZ S33 + 0) → ((at33 + 1) ≤ sz) → ∀ S38 : zS, ∀ q38 : Nat, ∀ kk38 : Nat, ∀ z38 : Nat, (zFin true S38) → (rec (deep + 1) (at33 + 1) nd33 = .error (kk38, z38)) → (xFr S35 S38) → (xFl S38 q38 kk38 z38) → (gN S35 ≤ gN S38 ∧ gN S38 ≤ gN S35 + 30 * (sz - (at33 + 1)) + 60 ∧ gZ S38 ≤ gZ S35 + 150 * (sz - (at33 + 1)) + 2000) → post (.threw q38, S38)) (h5 : ∀ S29 : zS, ∀ nd29 : Nat, (zFin true S29) → (pRead at0 deep nd false = .ok nd29) → (xFr S S29) → (xR tp sz S29 r at0 nd29) → (gN S ≤ gN S29 ∧ gN S29 ≤ gN S + 0 ∧ gZ S29 ≤ gZ S + 0) → (at0 ≤ sz) → (nd29 ≤ 80) → (deep ≤ 24) → ∀ S31 : zS, (zFin true S31) → (pWant tp sz 40 (at0 + 4) = .ok (at0 + 5)) → (xFr (sI S29 133 r (Int32.ofNat (at0 + 4))) S31) → (xR tp sz S31 r (at0 + 5) nd29) → (gN (sI S29 133 r (Int32.ofNat (at0 + 4))) ≤ gN S31 ∧ gN S31 ≤ gN (sI S29 133 r (Int32.ofNat (at0 + 4))) + 0 ∧ gZ S31 ≤ gZ (sI S29 133 r (Int32.ofNat (at0 + 4))) + 0) → ((at0 + 5) ≤ sz) → ∀ S33 : zS, ∀ a33 : Nat, ∀ y33 : zNd, ∀ at33 : Nat, ∀ nd33 : Nat, (zFin true S33) → (rec (deep + 1) (at0 + 5) nd29 = .ok (y33, at33, nd33)) → (xFr S31 S33) → (xTl (gN S31) S33 y33 a33) → (xR tp sz S33 r at33 nd33) → (gN S31 ≤ gN S33 ∧ gN S33 + 30 * (sz - at33) ≤ gN S31 + 30 * (sz - (at0 + 5)) ∧ gZ S33 + 150 * (sz - at33) ≤ gZ S31 + 150 * (sz - (at0 + 5))) → (at33 ≤ sz ∧ gN S31 ≤ a33 ∧ a33 < gN S33 ∧ (at0 + 5) < at33 ∧ nd33 ≤ 80) → ∀ S36 : zS, ∀ q36 : Nat, (zFin true S36) → (pWant tp sz 44 at33 = .error (1, at33)) → (xFr S33 S36) → (xFl S36 q36 1 at33) → (gN S33 ≤ gN S36 ∧ gN S36 ≤ gN S33 + 1 ∧ gZ S36 ≤ gZ S33 + 3) → post (.threw q36, S36)) (h6 : ∀ S29 : zS, ∀ nd29 : Nat, (zFin true S29) → (pRead at0 deep nd false = .ok nd29) → (xFr S S29) → (xR tp sz S29 r at0 nd29) → (gN S ≤ gN S29 ∧ gN S29 ≤ gN S + 0 ∧ gZ S29 ≤ gZ S + 0) → (at0 ≤ sz) → (nd29 ≤ 80) → (deep ≤ 24) → ∀ S31 : zS, (zFin true S31) → (pWant tp sz 40 (at0 + 4) = .ok (at0 + 5)) → (xFr (sI S29 133 r (Int32.ofNat (at0 + 4))) S31) → (xR tp sz S31 r (at0 + 5) nd29) → (gN (sI S29 133 r (Int32.ofNat (at0 + 4))) ≤ gN S31 ∧ gN S31 ≤ gN (sI S29 133 r (Int32.ofNat (at0 + 4))) + 0 ∧ gZ S31 ≤ gZ (sI S29 133 r (Int32.ofNat (at0 + 4))) + 0) → ((at0 + 5) ≤ sz) → ∀ S34 : zS, ∀ q34 : Nat, ∀ kk34 : Nat, ∀ z34 : Nat, (zFin true S34) → (rec (deep + 1) (at0 + 5) nd29 = .error (kk34, z34)) → (xFr S31 S34) → (xFl S34 q34 kk34 z34) → (gN S31 ≤ gN S34 ∧ gN S34 ≤ gN S31 + 30 * (sz - (at0 + 5)) + 60 ∧ gZ S34 ≤ gZ S31 + 150 * (sz - (at0 + 5)) + 2000) → post (.threw q34, S34)) (h7 : ∀ S29 : zS, ∀ nd29 : Nat, (zFin true S29) → (pRead at0 deep nd false = .ok nd29) → (xFr S S29) → (xR tp sz S29 r at0 nd29) → (gN S ≤ gN S29 ∧ gN S29 ≤ gN S + 0 ∧ gZ S29 ≤ gZ S + 0) → (at0 ≤ sz) → (nd29 ≤ 80) → (deep ≤ 24) → ∀ S32 : zS, ∀ q32 : Nat, (zFin true S32) → (pWant tp sz 40 (at0 + 4) = .error (1, at0 + 4)) → (xFr (sI S29 133 r (Int32.ofNat (at0 + 4))) S32) → (xFl S32 q32 1 (at0 + 4)) → (gN (sI S29 133 r (Int32.ofNat (at0 + 4))) ≤ gN S32 ∧ gN S32 ≤ gN (sI S29 133 r (Int32.ofNat (at0 + 4))) + 1 ∧ gZ S32 ≤ gZ (sI S29 133 r (Int32.ofNat (at0 + 4))) + 3) → post (.threw q32, S32)) (h8 : ∀ S30 : zS, ∀ q30 : Nat, (zFin true S30) → (pRead at0 deep nd false = .error (2, at0)) → (xFr S S30) → (xFl S30 q30 2 at0) → (gN S ≤ gN S30 ∧ gN S30 ≤ gN S + 1 ∧ gZ S30 ≤ gZ S + 3) → post (.threw q30, S30)) : zCall d 266 [.ref r, .int (Int32.ofNat at0), .ref w, .int (Int32.ofNat deep)] S post := by
  have ht : ztab 266 = ztb266 := rfl
  show zEv d 266 0 [.ref r, .int (Int32.ofNat at0), .ref w, .int (Int32.ofNat deep), .retAddr 0, .retAddr 0, .retAddr 0] [] S post
  refine zv_c1 ht rfl rfl ?_
  refine zv_c2 (L' := [.ref r, .int (Int32.ofNat at0), .ref w, .int (Int32.ofNat deep), .int 0, .retAddr 0, .retAddr 0]) ht rfl rfl ?_
  refine zv_c1 ht rfl rfl (zv_c1 ht rfl rfl ?_)
  refine zv_br ht rfl rfl rfl (fun h => absurd h (by decide)) (fun _ => ?_)
  refine zv_c1 ht rfl rfl ?_
  have C2 : ∀ (pst1 : Outcome × zS → Prop), (pst1 (.returned (some (.ref 4294967318)), S)) → zCall (d - 1) 8 [.int 0] S pst1 := by
    intro pst1 k4
    have ht3 : ztab 8 = ztb8 := rfl
    show zEv (d - 1) 8 0 [.int 0] [] S pst1
    refine zv_c1 ht3 rfl rfl ?_
    refine zv_sw ht3 rfl rfl rfl rfl rfl ?_
    refine And.intro (fun _ => ?_) (fun h => absurd (by decide) h)
    refine zv_c1 ht3 rfl rfl ?_
    exact zv_rt ht3 rfl rfl rfl rfl k4
  refine zv_cl ht rfl rfl rfl rfl (by omega) (Nat.le_of_ble_eq_true rfl) (C2 _ ?_)
  show zEv d 266 14 [.ref r, .int (Int32.ofNat at0), .ref w, .int (Int32.ofNat deep), .int 0, .retAddr 0, .retAddr 0] [.ref 4294967318] S post
  refine zv_c1 ht rfl rfl ?_
  refine zv_cl ht rfl rfl rfl (zv_tgv ((zStr.t (xR.lit hR 11 (by decide)))) rfl) (by omega) (Nat.le_of_ble_eq_true rfl) (x_eqW (S := S) hF (by omega) (xR.lit hR 11 (by decide)) hw.1 (v := 0) (zbo_neg (by decide)) ?_)
  show zEv d 266 18 [.ref r, .int (Int32.ofNat at0), .ref w, .int (Int32.ofNat deep), .int 0, .retAddr 0, .retAddr 0] [.int 0] S post
  refine zv_br ht rfl rfl rfl (fun h => absurd h (by decide)) (fun _ => ?_)
  refine zv_c1 ht rfl rfl ?_
  refine zv_c2 (L' := [.ref r, .int (Int32.ofNat at0), .ref w, .int (Int32.ofNat deep), .int 1, .retAddr 0, .retAddr 0]) ht rfl rfl ?_
  refine zv_c1 ht rfl rfl (zv_c1 ht rfl rfl (zv_c1 ht rfl rfl ?_))
  refine zv_br ht rfl rfl rfl (fun h => absurd h (by decide)) (fun _ => ?_)
  refine zv_c1 ht rfl rfl ?_
  have C6 : ∀ (pst5 : Outcome × zS → Prop), (pst5 (.returned (some (.ref 4294967320)), S)) → zCall (d - 1) 8 [.int 1] S pst5 := by
    intro pst5 k8
    have ht7 : ztab 8 = ztb8 := rfl
    show zEv (d - 1) 8 0 [.int 1] [] S pst5
    refine zv_c1 ht7 rfl rfl ?_
    refine zv_sw ht7 rfl rfl rfl rfl rfl ?_
    refine And.intro (fun h => absurd h (by decide)) (fun _ => ?_)
    refine And.intro (fun _ => ?_) (fun h => absurd (by decide) h)
    refine zv_c1 ht7 rfl rfl ?_
    exact zv_rt ht7 rfl rfl rfl rfl k8
  refine zv_cl ht rfl rfl rfl rfl (by omega) (Nat.le_of_ble_eq_true rfl) (C6 _ ?_)
  show zEv d 266 14 [.ref r, .int (Int32.ofNat at0), .ref w, .int (Int32.ofNat deep), .int 1, .retAddr 0, .retAddr 0] [.ref 4294967320] S post
  refine zv_c1 ht rfl rfl ?_
  refine zv_cl ht rfl rfl rfl (zv_tgv ((zStr.t (xR.lit hR 12 (by decide)))) rfl) (by omega) (Nat.le_of_ble_eq_true rfl) (x_eqW (S := S) hF (by omega) (xR.lit hR 12 (by decide)) hw.1 (v := 0) (zbo_neg (by decide)) ?_)
  show zEv d 266 18 [.ref r, .int (Int32.ofNat at0), .ref w, .int (Int32.ofNat deep), .int 1, .retAddr 0, .retAddr 0] [.int 0] S post
  refine zv_br ht rfl rfl rfl (fun h => absurd h (by decide)) (fun _ => ?_)
  refine zv_c1 ht rfl rfl ?_
  refine zv_c2 (L' := [.ref r, .int (Int32.ofNat at0), .ref w, .int (Int32.ofNat deep), .int 2, .retAddr 0, .retAddr 0]) ht rfl rfl ?_
  refine zv_c1 ht rfl rfl (zv_c1 ht rfl rfl (zv_c1 ht rfl rfl ?_))
  refine zv_br ht rfl rfl rfl (fun h => absurd h (by decide)) (fun _ => ?_)
  refine zv_c1 ht rfl rfl ?_
  have C10 : ∀ (pst9 : Outcome × zS → Prop), (pst9 (.returned (some (.ref 4294967322)), S)) → zCall (d - 1) 8 [.int 2] S pst9 := by
    intro pst9 k12
    have ht11 : ztab 8 = ztb8 := rfl
    show zEv (d - 1) 8 0 [.int 2] [] S pst9
    refine zv_c1 ht11 rfl rfl ?_
    refine zv_sw ht11 rfl rfl rfl rfl rfl ?_
    refine And.intro (fun h => absurd h (by decide)) (fun _ => ?_)
    refine And.intro (fun h => absurd h (by decide)) (fun _ => ?_)
    refine And.intro (fun _ => ?_) (fun h => absurd (by decide) h)
    refine zv_c1 ht11 rfl rfl ?_
    exact zv_rt ht11 rfl rfl rfl rfl k12
  refine zv_cl ht rfl rfl rfl rfl (by omega) (Nat.le_of_ble_eq_true rfl) (C10 _ ?_)
  show zEv d 266 14 [.ref r, .int (Int32.ofNat at0), .ref w, .int (Int32.ofNat deep), .int 2, .retAddr 0, .retAddr 0] [.ref 4294967322] S post
  refine zv_c1 ht rfl rfl ?_
  refine zv_cl ht rfl rfl rfl (zv_tgv ((zStr.t (xR.lit hR 13 (by decide)))) rfl) (by omega) (Nat.le_of_ble_eq_true rfl) (x_eqW (S := S) hF (by omega) (xR.lit hR 13 (by decide)) hw.1 (v := 0) (zbo_neg (by decide)) ?_)
  show zEv d 266 18 [.ref r, .int (Int32.ofNat at0), .ref w, .int (Int32.ofNat deep), .int 2, .retAddr 0, .retAddr 0] [.int 0] S post
  refine zv_br ht rfl rfl rfl (fun h => absurd h (by decide)) (fun _ => ?_)
  refine zv_c1 ht rfl rfl ?_
  refine zv_c2 (L' := [.ref r, .int (Int32.ofNat at0), .ref w, .int (Int32.ofNat deep), .int 3, .retAddr 0, .retAddr 0]) ht rfl rfl ?_
  refine zv_c1 ht rfl rfl (zv_c1 ht rfl rfl (zv_c1 ht rfl rfl ?_))
  refine zv_br ht rfl rfl rfl (fun h => absurd h (by decide)) (fun _ => ?_)
  refine zv_c1 ht rfl rfl ?_
  have C14 : ∀ (pst13 : Outcome × zS → Prop), (pst13 (.returned (some (.ref 4294967324)), S)) → zCall (d - 1) 8 [.int 3] S pst13 := by
    intro pst13 k16
    have ht15 : ztab 8 = ztb8 := rfl
    show zEv (d - 1) 8 0 [.int 3] [] S pst13
    refine zv_c1 ht15 rfl rfl ?_
    refine zv_sw ht15 rfl rfl rfl rfl rfl ?_
    refine And.intro (fun h => absurd h (by decide)) (fun _ => ?_)
    refine And.intro (fun h => absurd h (by decide)) (fun _ => ?_)
    refine And.intro (fun h => absurd h (by decide)) (fun _ => ?_)
    refine zv_c1 ht15 rfl rfl ?_
    exact zv_rt ht15 rfl rfl rfl rfl k16
  refine zv_cl ht rfl rfl rfl rfl (by omega) (Nat.le_of_ble_eq_true rfl) (C14 _ ?_)
  show zEv d 266 14 [.ref r, .int (Int32.ofNat at0), .ref w, .int (Int32.ofNat deep), .int 3, .retAddr 0, .retAddr 0] [.ref 4294967324] S post
  refine zv_c1 ht rfl rfl ?_
  refine zv_cl ht rfl rfl rfl (zv_tgv ((zStr.t (xR.lit hR 14 (by decide)))) rfl) (by omega) (Nat.le_of_ble_eq_true rfl) (x_eqW (S := S) hF (by omega) (xR.lit hR 14 (by decide)) hw.1 (v := 0) (zbo_neg (by decide)) ?_)
  show zEv d 266 18 [.ref r, .int (Int32.ofNat at0), .ref w, .int (Int32.ofNat deep), .int 3, .retAddr 0, .retAddr 0] [.int 0] S post
  refine zv_br ht rfl rfl rfl (fun h => absurd h (by decide)) (fun _ => ?_)
  refine zv_c1 ht rfl rfl ?_
  refine zv_c2 (L' := [.ref r, .int (Int32.ofNat at0), .ref w, .int (Int32.ofNat deep), .int 4, .retAddr 0, .retAddr 0]) ht rfl rfl ?_
  refine zv_c1 ht rfl rfl (zv_c1 ht rfl rfl (zv_c1 ht rfl rfl ?_))
  refine zv_br ht rfl rfl rfl (fun _ => ?_) (fun h => absurd (by decide) h)
  refine zv_c1 ht rfl rfl ?_
  refine zv_c2 (L' := [.ref r, .int (Int32.ofNat at0), .ref w, .int (Int32.ofNat deep), .int 0, .retAddr 0, .retAddr 0]) ht rfl rfl ?_
  refine zv_c1 ht rfl rfl (zv_c1 ht rfl rfl ?_)
  refine zv_br ht rfl rfl rfl (fun h => absurd h (by decide)) (fun _ => ?_)
  refine zv_c1 ht rfl rfl ?_
  have C18 : ∀ (pst17 : Outcome × zS → Prop), (pst17 (.returned (some (.ref 4294967342)), S)) → zCall (d - 1) 11 [.int 0] S pst17 := by
    intro pst17 k20
    have ht19 : ztab 11 = ztb11 := rfl
    show zEv (d - 1) 11 0 [.int 0] [] S pst17
    refine zv_c1 ht19 rfl rfl ?_
    refine zv_sw ht19 rfl rfl rfl rfl rfl ?_
    refine And.intro (fun _ => ?_) (fun h => absurd (by decide) h)
    refine zv_c1 ht19 rfl rfl ?_
    exact zv_rt ht19 rfl rfl rfl rfl k20
  refine zv_cl ht rfl rfl rfl rfl (by omega) (Nat.le_of_ble_eq_true rfl) (C18 _ ?_)
  show zEv d 266 73 [.ref r, .int (Int32.ofNat at0), .ref w, .int (Int32.ofNat deep), .int 0, .retAddr 0, .retAddr 0] [.ref 4294967342] S post
  refine zv_c1 ht rfl rfl ?_
  refine zv_cl ht rfl rfl rfl (zv_tgv ((zStr.t (xR.lit hR 23 (by decide)))) rfl) (by omega) (Nat.le_of_ble_eq_true rfl) (x_eqW (S := S) hF (by omega) (xR.lit hR 23 (by decide)) hw.1 (v := 0) (zbo_neg (by decide)) ?_)
  show zEv d 266 77 [.ref r, .int (Int32.ofNat at0), .ref w, .int (Int32.ofNat deep), .int 0, .retAddr 0, .retAddr 0] [.int 0] S post
  refine zv_br ht rfl rfl rfl (fun h => absurd h (by decide)) (fun _ => ?_)
  refine zv_c1 ht rfl rfl ?_
  refine zv_c2 (L' := [.ref r, .int (Int32.ofNat at0), .ref w, .int (Int32.ofNat deep), .int 1, .retAddr 0, .retAddr 0]) ht rfl rfl ?_
  refine zv_c1 ht rfl rfl (zv_c1 ht rfl rfl (zv_c1 ht rfl rfl ?_))
  refine zv_br ht rfl rfl rfl (fun h => absurd h (by decide)) (fun _ => ?_)
  refine zv_c1 ht rfl rfl ?_
  have C22 : ∀ (pst21 : Outcome × zS → Prop), (pst21 (.returned (some (.ref 4294967344)), S)) → zCall (d - 1) 11 [.int 1] S pst21 := by
    intro pst21 k24
    have ht23 : ztab 11 = ztb11 := rfl
    show zEv (d - 1) 11 0 [.int 1] [] S pst21
    refine zv_c1 ht23 rfl rfl ?_
    refine zv_sw ht23 rfl rfl rfl rfl rfl ?_
    refine And.intro (fun h => absurd h (by decide)) (fun _ => ?_)
    refine And.intro (fun _ => ?_) (fun h => absurd (by decide) h)
    refine zv_c1 ht23 rfl rfl ?_
    exact zv_rt ht23 rfl rfl rfl rfl k24
  refine zv_cl ht rfl rfl rfl rfl (by omega) (Nat.le_of_ble_eq_true rfl) (C22 _ ?_)
  show zEv d 266 73 [.ref r, .int (Int32.ofNat at0), .ref w, .int (Int32.ofNat deep), .int 1, .retAddr 0, .retAddr 0] [.ref 4294967344] S post
  refine zv_c1 ht rfl rfl ?_
  refine zv_cl ht rfl rfl rfl (zv_tgv ((zStr.t (xR.lit hR 24 (by decide)))) rfl) (by omega) (Nat.le_of_ble_eq_true rfl) (x_eqW (S := S) hF (by omega) (xR.lit hR 24 (by decide)) hw.1 (v := 0) (zbo_neg (by decide)) ?_)
  show zEv d 266 77 [.ref r, .int (Int32.ofNat at0), .ref w, .int (Int32.ofNat deep), .int 1, .retAddr 0, .retAddr 0] [.int 0] S post
  refine zv_br ht rfl rfl rfl (fun h => absurd h (by decide)) (fun _ => ?_)
  refine zv_c1 ht rfl rfl ?_
  refine zv_c2 (L' := [.ref r, .int (Int32.ofNat at0), .ref w, .int (Int32.ofNat deep), .int 2, .retAddr 0, .retAddr 0]) ht rfl rfl ?_
  refine zv_c1 ht rfl rfl (zv_c1 ht rfl rfl (zv_c1 ht rfl rfl ?_))
  refine zv_br ht rfl rfl rfl (fun h => absurd h (by decide)) (fun _ => ?_)
  refine zv_c1 ht rfl rfl ?_
  have C26 : ∀ (pst25 : Outcome × zS → Prop), (pst25 (.returned (some (.ref 4294967346)), S)) → zCall (d - 1) 11 [.int 2] S pst25 := by
    intro pst25 k28
    have ht27 : ztab 11 = ztb11 := rfl
    show zEv (d - 1) 11 0 [.int 2] [] S pst25
    refine zv_c1 ht27 rfl rfl ?_
    refine zv_sw ht27 rfl rfl rfl rfl rfl ?_
    refine And.intro (fun h => absurd h (by decide)) (fun _ => ?_)
    refine And.intro (fun h => absurd h (by decide)) (fun _ => ?_)
    refine And.intro (fun _ => ?_) (fun h => absurd (by decide) h)
    refine zv_c1 ht27 rfl rfl ?_
    exact zv_rt ht27 rfl rfl rfl rfl k28
  refine zv_cl ht rfl rfl rfl rfl (by omega) (Nat.le_of_ble_eq_true rfl) (C26 _ ?_)
  show zEv d 266 73 [.ref r, .int (Int32.ofNat at0), .ref w, .int (Int32.ofNat deep), .int 2, .retAddr 0, .retAddr 0] [.ref 4294967346] S post
  refine zv_c1 ht rfl rfl ?_
  refine zv_cl ht rfl rfl rfl (zv_tgv ((zStr.t (xR.lit hR 25 (by decide)))) rfl) (by omega) (Nat.le_of_ble_eq_true rfl) (x_eqW (S := S) hF (by omega) (xR.lit hR 25 (by decide)) hw.1 (v := 1) (zbo_pos rfl) ?_)
  show zEv d 266 77 [.ref r, .int (Int32.ofNat at0), .ref w, .int (Int32.ofNat deep), .int 2, .retAddr 0, .retAddr 0] [.int 1] S post
  refine zv_br ht rfl rfl rfl (fun _ => ?_) (fun h => absurd (by decide) h)
  refine zv_c1 ht rfl rfl (zv_c1 ht rfl rfl (zv_c1 ht rfl rfl (zv_c1 ht rfl rfl ?_)))
  refine zv_cl ht rfl rfl rfl (zv_tgv (hR.1.2.2.2.1) rfl) (by omega) (Nat.le_of_ble_eq_true rfl) (x_begins (S := S) (tp := tp) (sz := sz) (r := r) (p := at0) (dp := deep) (m := 1) (dq := deep) (two := false) hF (by omega) hR (by omega) (by omega) (by omega) (by omega) rfl rfl (fun S29 nd29 hF29 e29 k29 p29 g29 b29 c29 d29 => ?_) (fun S30 q30 hF30 e30 k30 x30 g30 => ?_))
  · show zEv d 266 90 [.ref r, .int (Int32.ofNat at0), .ref w, .int (Int32.ofNat deep), .int 2, .retAddr 0, .retAddr 0] [] S29 post
    refine zv_c1 ht rfl rfl (zv_c1 ht rfl rfl ?_)
    refine zv_ei (x := Int32.ofNat at0) ht rfl rfl (zhas_of (p29.1.2.2.2.1) rfl) p29.1.1 ?_
    refine zv_c1 ht rfl rfl ?_
    refine zv_cl ht rfl rfl rfl (zv_tgv (Eq.trans (zKE.T k29 (Or.inl (show w < gN S from by omega))) (zStr.t hw.1)) rfl) (by omega) (Nat.le_of_ble_eq_true rfl) (x_len (S := S29) hF29 (by omega) (xWd.k hw (zKE.tr zKE.rf (zKE.w k29 (show gN S ≤ gN S from by omega) (fun _ h => h) (fun _ h => h)))).1 (n := 4) (by decide) ?_)
    show zEv d 266 99 [.ref r, .int (Int32.ofNat at0), .ref w, .int (Int32.ofNat deep), .int 2, .retAddr 0, .retAddr 0] [.int 4, .int (Int32.ofNat at0), .ref r] S29 post
    refine zv_e1 (x := Int32.ofNat (at0 + 4)) ht rfl rfl (zi_addE (a := at0) (b := 4) rfl rfl) ?_
    refine zv_ci (S' := sI S29 133 r (Int32.ofNat (at0 + 4))) ht rfl rfl ⟨(zhas_of (p29.1.2.2.2.1) rfl), (show r < gN S29 from by omega)⟩ ?_
    refine zv_c1 ht rfl rfl (zv_c1 ht rfl rfl ?_)
    refine zv_cl ht rfl rfl rfl (zv_tgv (p29.1.2.2.2.1) rfl) (by omega) (Nat.le_of_ble_eq_true rfl) (x_take (S := sI S29 133 r (Int32.ofNat (at0 + 4))) (tp := tp) (sz := sz) (r := r) (w := 40) hF29 (by omega) (xR_at p29 (by omega)) (by omega) (by omega) (by omega) (fun S31 hF31 e31 k31 p31 g31 b31 => ?_) (fun S32 q32 hF32 e32 k32 x32 g32 => ?_))
    · show zEv d 266 109 [.ref r, .int (Int32.ofNat at0), .ref w, .int (Int32.ofNat deep), .int 2, .retAddr 0, .retAddr 0] [] S31 post
      refine zv_c1 ht rfl rfl (zv_c1 ht rfl rfl (zv_c1 ht rfl rfl ?_))
      refine zv_e1 (x := Int32.ofNat (deep + 1)) ht rfl rfl (zi_addE (a := deep) (b := 1) rfl rfl) ?_
      refine zv_cl ht rfl rfl rfl (zv_tgv (p31.1.2.2.2.1) rfl) (by omega) (Nat.le_of_ble_eq_true rfl) (xEnd.useM (g := gN S31) (z := gZ S31) rfl rfl (fun q hq => hmono _ _ _ q (by omega) hq) (xRd.use (hRd (deep + 1) _ (by omega) rfl (by omega)) (S := S31) (r := r) hF31 p31 (by omega) (by omega)) (fun S33 a33 y33 at33 nd33 hF33 e33 k33 t33 p33 g33 c33 => ?_) (fun S34 q34 kk34 z34 hF34 e34 k34 x34 g34 => ?_))
      · show zEv d 266 116 [.ref r, .int (Int32.ofNat at0), .ref w, .int (Int32.ofNat deep), .int 2, .retAddr 0, .retAddr 0] [.ref a33] S33 post
        refine zv_c2 (L' := [.ref r, .int (Int32.ofNat at0), .ref w, .int (Int32.ofNat deep), .int 2, .ref a33, .retAddr 0]) ht rfl rfl ?_
        refine zv_c1 ht rfl rfl (zv_c1 ht rfl rfl ?_)
        refine zv_cl ht rfl rfl rfl (zv_tgv (p33.1.2.2.2.1) rfl) (by omega) (Nat.le_of_ble_eq_true rfl) (x_take (S := S33) (tp := tp) (sz := sz) (r := r) (w := 44) hF33 (by omega) p33 (by omega) (by omega) (by omega) (fun S35 hF35 e35 k35 p35 g35 b35 => ?_) (fun S36 q36 hF36 e36 k36 x36 g36 => ?_))
        · show zEv d 266 124 [.ref r, .int (Int32.ofNat at0), .ref w, .int (Int32.ofNat deep), .int 2, .ref a33, .retAddr 0] [] S35 post
          refine zv_c1 ht rfl rfl (zv_c1 ht rfl rfl (zv_c1 ht rfl rfl ?_))
          refine zv_e1 (x := Int32.ofNat (deep + 1)) ht rfl rfl (zi_addE (a := deep) (b := 1) rfl rfl) ?_
          refine zv_cl ht rfl rfl rfl (zv_tgv (p35.1.2.2.2.1) rfl) (by omega) (Nat.le_of_ble_eq_true rfl) (xEnd.useM (g := gN S35) (z := gZ S35) rfl rfl (fun q hq => hmono _ _ _ q (by omega) hq) (xRd.use (hRd (deep + 1) _ (by omega) rfl (by omega)) (S := S35) (r := r) hF35 p35 (by omega) (by omega)) (fun S37 a37 y37 at37 nd37 hF37 e37 k37 t37 p37 g37 c37 => ?_) (fun S38 q38 kk38 z38 hF38 e38 k38 x38 g38 => ?_))
          · show zEv d 266 131 [.ref r, .int (Int32.ofNat at0), .ref w, .int (Int32.ofNat deep), .int 2, .ref a33, .retAddr 0] [.ref a37] S37 post
            refine zv_c2 (L' := [.ref r, .int (Int32.ofNat at0), .ref w, .int (Int32.ofNat deep), .int 2, .ref a33, .ref a37]) ht rfl rfl ?_
            refine zv_c1 ht rfl rfl (zv_c1 ht rfl rfl ?_)
            refine zv_cl ht rfl rfl rfl (zv_tgv (p37.1.2.2.2.1) rfl) (by omega) (Nat.le_of_ble_eq_true rfl) (x_take (S := S37) (tp := tp) (sz := sz) (r := r) (w := 41) hF37 (by omega) p37 (by omega) (by omega) (by omega) (fun S39 hF39 e39 k39 p39 g39 b39 => ?_) (fun S40 q40 hF40 e40 k40 x40 g40 => ?_))
            · show zEv d 266 139 [.ref r, .int (Int32.ofNat at0), .ref w, .int (Int32.ofNat deep), .int 2, .ref a33, .ref a37] [] S39 post
              refine zv_c1 ht rfl rfl ?_
              refine zv_ci (st' := [.ref (gN S39), .ref r]) (S' := sNew S39 20 0 (zslots 20)) ht rfl rfl (znew_ok (show 1639 ≤ gN S39 from by omega) (show gN S39 < 2000000 from by omega)) ?_
              refine zv_c1 ht rfl rfl (zv_c1 ht rfl rfl ?_)
              refine zv_g3 (q := 0) ht rfl (zFin_new hF39) rfl rfl (zhas_of (Eq.trans (ztyp_new (S := S39) (t := 20) (n := 0) (s := zslots 20) (show r ≠ gN S39 from by omega)) p39.1.2.2.2.1) rfl) (Eq.trans (gP_new (S := S39) (t := 20) (n := 0) (s := zslots 20) (show r ≠ gN S39 from by omega)) p39.1.2.2.2.2) ?_
              refine zv_c1 ht rfl rfl (zv_c1 ht rfl rfl (zv_c1 ht rfl rfl (zv_c1 ht rfl rfl ?_)))
              have C42 : ∀ (pst41 : Outcome × zS → Prop), (pst41 (.returned none, sP (sP (sI (sI (sP (sNew S39 20 0 (zslots 20)) 190 (gN S39) (some 0)) 144 (gN S39) (Int32.ofNat at0)) 187 (gN S39) 2) 188 (gN S39) (some a33)) 189 (gN S39) (some a37))) → zCall (d - 1) 373 [.ref (gN S39), .ref 0, .int (Int32.ofNat at0), .int 2, .ref a33, .ref a37] (sNew S39 20 0 (zslots 20)) pst41 := by
                intro pst41 k48
                have ht43 : ztab 373 = ztb373 := rfl
                show zEv (d - 1) 373 0 [.ref (gN S39), .ref 0, .int (Int32.ofNat at0), .int 2, .ref a33, .ref a37] [] (sNew S39 20 0 (zslots 20)) pst41
                refine zv_c1 ht43 rfl rfl (zv_c1 ht43 rfl rfl ?_)
                refine zv_ci (S' := sP (sNew S39 20 0 (zslots 20)) 190 (gN S39) (some 0)) ht43 rfl rfl ⟨(zhas_of (ztyp_new_at (S := S39) (t := 20) (n := 0) (s := zslots 20) (show 1639 ≤ gN S39 from by omega)) rfl), (show gN S39 < gN S39 + 1 from by omega)⟩ ?_
                refine zv_c1 ht43 rfl rfl (zv_c1 ht43 rfl rfl (zv_c1 ht43 rfl rfl ?_))
                have C45 : ∀ (pst44 : Outcome × zS → Prop), (pst44 (.returned none, sI (sP (sNew S39 20 0 (zslots 20)) 190 (gN S39) (some 0)) 144 (gN S39) (Int32.ofNat at0))) → zCall ((d - 1) - 1) 280 [.ref (gN S39), .ref 0, .int (Int32.ofNat at0)] (sP (sNew S39 20 0 (zslots 20)) 190 (gN S39) (some 0)) pst44 := by
                  intro pst44 k47
                  have ht46 : ztab 280 = ztb280 := rfl
                  show zEv ((d - 1) - 1) 280 0 [.ref (gN S39), .ref 0, .int (Int32.ofNat at0)] [] (sP (sNew S39 20 0 (zslots 20)) 190 (gN S39) (some 0)) pst44
                  refine zv_c1 ht46 rfl rfl (zv_c1 ht46 rfl rfl ?_)
                  refine zv_ci (S' := sP (sNew S39 20 0 (zslots 20)) 190 (gN S39) (some 0)) ht46 rfl rfl (zk5 (ztyp_new_at (S := S39) (t := 20) (n := 0) (s := zslots 20) (show 1639 ≤ gN S39 from by omega)) rfl (show gN S39 < gN S39 + 1 from by omega) rfl gP_sP_at) ?_
                  refine zv_c1 ht46 rfl rfl (zv_c1 ht46 rfl rfl (zv_c1 ht46 rfl rfl (zv_c1 ht46 rfl rfl ?_)))
                  refine zv_ci (S' := sI (sP (sNew S39 20 0 (zslots 20)) 190 (gN S39) (some 0)) 144 (gN S39) (Int32.ofNat at0)) ht46 rfl rfl ⟨(zhas_of (ztyp_new_at (S := S39) (t := 20) (n := 0) (s := zslots 20) (show 1639 ≤ gN S39 from by omega)) rfl), (show gN S39 < gN S39 + 1 from by omega)⟩ ?_
                  exact zv_rt ht46 rfl rfl rfl rfl k47
                refine zv_cl ht43 rfl rfl rfl rfl (by omega) (Nat.le_of_ble_eq_true rfl) (C45 _ ?_)
                show zEv (d - 1) 373 11 [.ref (gN S39), .ref 0, .int (Int32.ofNat at0), .int 2, .ref a33, .ref a37] [] (sI (sP (sNew S39 20 0 (zslots 20)) 190 (gN S39) (some 0)) 144 (gN S39) (Int32.ofNat at0)) pst41
                refine zv_c1 ht43 rfl rfl (zv_c1 ht43 rfl rfl ?_)
                refine zv_ci (S' := sI (sI (sP (sNew S39 20 0 (zslots 20)) 190 (gN S39) (some 0)) 144 (gN S39) (Int32.ofNat at0)) 187 (gN S39) 2) ht43 rfl rfl ⟨(zhas_of (ztyp_new_at (S := S39) (t := 20) (n := 0) (s := zslots 20) (show 1639 ≤ gN S39 from by omega)) rfl), (show gN S39 < gN S39 + 1 from by omega)⟩ ?_
                refine zv_c1 ht43 rfl rfl (zv_c1 ht43 rfl rfl ?_)
                refine zv_ci (S' := sP (sI (sI (sP (sNew S39 20 0 (zslots 20)) 190 (gN S39) (some 0)) 144 (gN S39) (Int32.ofNat at0)) 187 (gN S39) 2) 188 (gN S39) (some a33)) ht43 rfl rfl ⟨(zhas_of (ztyp_new_at (S := S39) (t := 20) (n := 0) (s := zslots 20) (show 1639 ≤ gN S39 from by omega)) rfl), (show gN S39 < gN S39 + 1 from by omega)⟩ ?_
                refine zv_c1 ht43 rfl rfl (zv_c1 ht43 rfl rfl ?_)
                refine zv_ci (S' := sP (sP (sI (sI (sP (sNew S39 20 0 (zslots 20)) 190 (gN S39) (some 0)) 144 (gN S39) (Int32.ofNat at0)) 187 (gN S39) 2) 188 (gN S39) (some a33)) 189 (gN S39) (some a37)) ht43 rfl rfl ⟨(zhas_of (ztyp_new_at (S := S39) (t := 20) (n := 0) (s := zslots 20) (show 1639 ≤ gN S39 from by omega)) rfl), (show gN S39 < gN S39 + 1 from by omega)⟩ ?_
                exact zv_rt ht43 rfl rfl rfl rfl k48
              refine zv_cl ht rfl rfl rfl rfl (by omega) (Nat.le_of_ble_eq_true rfl) (C42 _ ?_)
              show zEv d 266 158 [.ref r, .int (Int32.ofNat at0), .ref w, .int (Int32.ofNat deep), .int 2, .ref a33, .ref a37] [.ref (gN S39), .ref r] (sP (sP (sI (sI (sP (sNew S39 20 0 (zslots 20)) 190 (gN S39) (some 0)) 144 (gN S39) (Int32.ofNat at0)) 187 (gN S39) 2) 188 (gN S39) (some a33)) 189 (gN S39) (some a37)) post
              have C50 : ∀ (pst49 : Outcome × zS → Prop), (∀ S52 : zS, (zFin true S52) → (pJ (tN 13 0 [] at0 [y33, y37]) = .ok (tN 13 0 [] at0 [y33, y37])) → (xJd (sP (sP (sI (sI (sP (sNew S39 20 0 (zslots 20)) 190 (gN S39) (some 0)) 144 (gN S39) (Int32.ofNat at0)) 187 (gN S39) 2) 188 (gN S39) (some a33)) 189 (gN S39) (some a37)) (gN S39) S52) → (xTl (gN S) S52 (tN 13 0 [] at0 [y33, y37]) (gN S39)) → (xR tp sz S52 r (at37 + 1) nd37) → (gN S52 = gN S39 + 1 ∧ gZ S52 = gZ S39 + 20) → pst49 (.returned (some (.ref (gN S39))), S52)) → (∀ S53 : zS, ∀ q53 : Nat, (zFin true S53) → (pJ (tN 13 0 [] at0 [y33, y37]) = .error (3, at0)) → (xFn (sP (sP (sI (sI (sP (sNew S39 20 0 (zslots 20)) 190 (gN S39) (some 0)) 144 (gN S39) (Int32.ofNat at0)) 187 (gN S39) 2) 188 (gN S39) (some a33)) 189 (gN S39) (some a37)) (gN S39) S53) → (xFl S53 q53 3 at0) → (gN S53 = gN S39 + 1 + 1 ∧ gZ S53 ≤ gZ S39 + 20 + 3) → pst49 (.threw q53, S53)) → zCall (d - 1) 253 [.ref r, .ref (gN S39)] (sP (sP (sI (sI (sP (sNew S39 20 0 (zslots 20)) 190 (gN S39) (some 0)) 144 (gN S39) (Int32.ofNat at0)) 187 (gN S39) 2) 188 (gN S39) (some a33)) 189 (gN S39) (some a37)) pst49 := by
                intro pst49 k54 k55
                have ht51 : ztab 253 = ztb253 := rfl
                show zEv (d - 1) 253 0 [.ref r, .ref (gN S39)] [] (sP (sP (sI (sI (sP (sNew S39 20 0 (zslots 20)) 190 (gN S39) (some 0)) 144 (gN S39) (Int32.ofNat at0)) 187 (gN S39) 2) 188 (gN S39) (some a33)) 189 (gN S39) (some a37)) pst49
                refine zv_c1 ht51 rfl rfl ?_
                refine zv_cl ht51 rfl rfl rfl (zv_tgm (ztyp_new_at (S := S39) (t := 20) (n := 0) (s := zslots 20) (show 1639 ≤ gN S39 from by omega)) rfl) (by omega) (Nat.le_of_ble_eq_true rfl) (x_judgeR (S := sP (sP (sI (sI (sP (sNew S39 20 0 (zslots 20)) 190 (gN S39) (some 0)) 144 (gN S39) (Int32.ofNat at0)) 187 (gN S39) 2) 188 (gN S39) (some a33)) 189 (gN S39) (some a37)) (tp := tp) (sz := sz) (r := r) (a := gN S39) (k := 13) (v := 0) (p := at0) (ks := []) (js := [a33, a37]) (cs := [y33, y37]) (g := gN S39 + 1) (lo := gN S) (zFin_sP (zFin_sP (zFin_sP (zFin_new hF39) rfl) rfl) rfl) (by omega) (by omega) (by omega) (by omega) (by omega) rfl (xOwn_P (by decide) (ztyp_new_at (S := S39) (t := 20) (n := 0) (s := zslots 20) (show 1639 ≤ gN S39 from by omega)) (gI_sI_at) (gP_sP_at) (gP_sP_at)) ⟨a33, _, rfl, (xTl.ch t33 (zKE.tr (zKE.tr (zKE.tr (zKE.tr (zKE.tr (zKE.tr (zKE.tr (zKE.tr (zKE.tr zKE.rf (zKE.w k35 (show gN S33 ≤ gN S33 from by omega) (fun _ h => h) (fun _ h => h))) (zKE.w k37 (show gN S33 ≤ gN S35 from by omega) (fun _ h => h) (fun _ h => h))) (zKE.w k39 (show gN S33 ≤ gN S37 from by omega) (fun _ h => h) (fun _ h => h))) (zKE_new (show gN S33 ≤ gN S39 ∧ gN S39 < zLB from ⟨by omega, by have hLB : zLB = 4294967296 := rfl; omega⟩))) (zKE_sP (Or.inr (Or.inr ⟨by omega, by have hLB : zLB = 4294967296 := rfl; omega⟩)))) (zKE_sI (Or.inr (Or.inr ⟨by omega, by have hLB : zLB = 4294967296 := rfl; omega⟩)))) (zKE_sI (Or.inr (Or.inr ⟨by omega, by have hLB : zLB = 4294967296 := rfl; omega⟩)))) (zKE_sP (Or.inr (Or.inr ⟨by omega, by have hLB : zLB = 4294967296 := rfl; omega⟩)))) (zKE_sP (Or.inr (Or.inr ⟨by omega, by have hLB : zLB = 4294967296 := rfl; omega⟩)))) (by omega) (by intro j h1 h2; omega)), ⟨a37, _, rfl, (xTl.ch t37 (zKE.tr (zKE.tr (zKE.tr (zKE.tr (zKE.tr (zKE.tr (zKE.tr zKE.rf (zKE.w k39 (show gN S37 ≤ gN S37 from by omega) (fun _ h => h) (fun _ h => h))) (zKE_new (show gN S37 ≤ gN S39 ∧ gN S39 < zLB from ⟨by omega, by have hLB : zLB = 4294967296 := rfl; omega⟩))) (zKE_sP (Or.inr (Or.inr ⟨by omega, by have hLB : zLB = 4294967296 := rfl; omega⟩)))) (zKE_sI (Or.inr (Or.inr ⟨by omega, by have hLB : zLB = 4294967296 := rfl; omega⟩)))) (zKE_sI (Or.inr (Or.inr ⟨by omega, by have hLB : zLB = 4294967296 := rfl; omega⟩)))) (zKE_sP (Or.inr (Or.inr ⟨by omega, by have hLB : zLB = 4294967296 := rfl; omega⟩)))) (zKE_sP (Or.inr (Or.inr ⟨by omega, by have hLB : zLB = 4294967296 := rfl; omega⟩)))) (by omega) (by intro j h1 h2; omega)), rfl⟩⟩ (by decide) (by omega) (gI_sI_at) (gI_new_at (S := S39) (t := 20) (n := 0) (s := zslots 20)) (gI_new_at (S := S39) (t := 20) (n := 0) (s := zslots 20)) (xR.ke (Fs := []) p39 (zKE.tr (zKE.tr (zKE.tr (zKE.tr (zKE.tr (zKE.tr zKE.rf (zKE_new (show gN S39 ≤ gN S39 ∧ gN S39 < zLB from ⟨by omega, by have hLB : zLB = 4294967296 := rfl; omega⟩))) (zKE_sP (Or.inr (Or.inr ⟨by omega, by have hLB : zLB = 4294967296 := rfl; omega⟩)))) (zKE_sI (Or.inr (Or.inr ⟨by omega, by have hLB : zLB = 4294967296 := rfl; omega⟩)))) (zKE_sI (Or.inr (Or.inr ⟨by omega, by have hLB : zLB = 4294967296 := rfl; omega⟩)))) (zKE_sP (Or.inr (Or.inr ⟨by omega, by have hLB : zLB = 4294967296 := rfl; omega⟩)))) (zKE_sP (Or.inr (Or.inr ⟨by omega, by have hLB : zLB = 4294967296 := rfl; omega⟩)))) (by omega) (by decide)) (by omega) (fun S52 hF52 e52 j52 t52 p52 g52 => ?_) (fun S53 q53 hF53 e53 k53 x53 g53 => ?_))
                · show zEv (d - 1) 253 4 [.ref r, .ref (gN S39)] [] S52 pst49
                  refine zv_c1 ht51 rfl rfl ?_
                  exact zv_rt ht51 rfl rfl rfl rfl (k54 S52 hF52 e52 j52 t52 p52 g52)
                · exact (k55 S53 q53 hF53 e53 k53 x53 g53)
              refine zv_cl ht rfl rfl rfl (zv_tgv (Eq.trans (ztyp_new (S := S39) (t := 20) (n := 0) (s := zslots 20) (show r ≠ gN S39 from by omega)) p39.1.2.2.2.1) rfl) (by omega) (Nat.le_of_ble_eq_true rfl) (C50 _ (fun S52 hF52 e52 j52 t52 p52 g52 => ?_) (fun S53 q53 hF53 e53 k53 x53 g53 => ?_))
              · show zEv d 266 161 [.ref r, .int (Int32.ofNat at0), .ref w, .int (Int32.ofNat deep), .int 2, .ref a33, .ref a37] [.ref (gN S39)] S52 post
                exact zv_rt ht rfl rfl rfl rfl (h1 S29 nd29 hF29 e29 k29 p29 g29 b29 c29 d29 S31 hF31 e31 k31 p31 g31 b31 S33 a33 y33 at33 nd33 hF33 e33 k33 t33 p33 g33 c33 S35 hF35 e35 k35 p35 g35 b35 S37 a37 y37 at37 nd37 hF37 e37 k37 t37 p37 g37 c37 S39 hF39 e39 k39 p39 g39 b39 S52 hF52 e52 j52 t52 p52 g52)
              · exact (h2 S29 nd29 hF29 e29 k29 p29 g29 b29 c29 d29 S31 hF31 e31 k31 p31 g31 b31 S33 a33 y33 at33 nd33 hF33 e33 k33 t33 p33 g33 c33 S35 hF35 e35 k35 p35 g35 b35 S37 a37 y37 at37 nd37 hF37 e37 k37 t37 p37 g37 c37 S39 hF39 e39 k39 p39 g39 b39 S53 q53 hF53 e53 k53 x53 g53)
            · exact (h3 S29 nd29 hF29 e29 k29 p29 g29 b29 c29 d29 S31 hF31 e31 k31 p31 g31 b31 S33 a33 y33 at33 nd33 hF33 e33 k33 t33 p33 g33 c33 S35 hF35 e35 k35 p35 g35 b35 S37 a37 y37 at37 nd37 hF37 e37 k37 t37 p37 g37 c37 S40 q40 hF40 e40 k40 x40 g40)
          · exact (h4 S29 nd29 hF29 e29 k29 p29 g29 b29 c29 d29 S31 hF31 e31 k31 p31 g31 b31 S33 a33 y33 at33 nd33 hF33 e33 k33 t33 p33 g33 c33 S35 hF35 e35 k35 p35 g35 b35 S38 q38 kk38 z38 hF38 e38 k38 x38 g38)
        · exact (h5 S29 nd29 hF29 e29 k29 p29 g29 b29 c29 d29 S31 hF31 e31 k31 p31 g31 b31 S33 a33 y33 at33 nd33 hF33 e33 k33 t33 p33 g33 c33 S36 q36 hF36 e36 k36 x36 g36)
      · exact (h6 S29 nd29 hF29 e29 k29 p29 g29 b29 c29 d29 S31 hF31 e31 k31 p31 g31 b31 S34 q34 kk34 z34 hF34 e34 k34 x34 g34)
    · exact (h7 S29 nd29 hF29 e29 k29 p29 g29 b29 c29 d29 S32 q32 hF32 e32 k32 x32 g32)
  · exact (h8 S30 q30 hF30 e30 k30 x30 g30)

theorem ot26 {d : Nat} {S : zS} (hF : zFin true S) (hd : 4 ≤ d) {tp : Nat → Nat} {sz at0 nd r : Nat} {rec : Nat → Nat → Nat → pE (zNd × Nat × Nat)} {K : Nat} {w : Nat} (deep : Nat) (hR : xR tp sz S r at0 nd) (hs0 : sz ≤ 300) (ha0 : at0 ≤ sz) (hr1 : 1639 ≤ r) (hr2 : r < gN S) (hN : gN S + 30 * (sz - at0) ≤ 1700000) (hdp : deep < 1000) (hnd : nd ≤ 80) (hK : K + 3 ≤ d) (hK2 : 12 ≤ d) (hmono : pMono rec) (hRd : ∀ dp d', deep ≤ 24 → dp = deep + 1 → K ≤ d' → xRd tp sz d' dp rec) (hw : xWd S w (ztn 26)) (hwN : w < gN S) (hwl : at0 + 4 ≤ sz) {post : Outcome × zS → Prop} (h1 : ∀ S33 : zS, ∀ nd33 : Nat, (zFin true S33) → (pRead at0 deep nd false = .ok nd33) → (xFr S S33) → (xR tp sz S33 r at0 nd33) → (gN S ≤ gN S33 ∧ gN S33 ≤ gN S + 0 ∧ gZ S33 ≤ gZ S + 0) → (at0 ≤ sz) → (nd33 ≤ 80) → (deep ≤ 24) → ∀ S35 : zS, (zFin true S35) → (pWant tp sz 40 (at0 + 4) = .ok (at0 + 5)) → (xFr (sI S33 133 r (Int32.ofNat (at0 + 4))) S35) → (xR tp sz S35 r (at0 + 5) nd33) → (gN (sI S33 133 r (Int32.ofNat (at0 + 4))) ≤ gN S35 ∧ gN S35 ≤ gN (sI S33 133 r (Int32.ofNat (at0 + 4))) + 0 ∧ gZ S35 ≤ gZ (sI S33 133 r (Int32.ofNat (at0 + 4))) + 0) → ((at0 + 5) ≤ sz) → ∀ S37 : zS, ∀ a37 : Nat, ∀ y37 : zNd, ∀ at37 : Nat, ∀ nd37 : Nat, (zFin true S37) → (rec (deep + 1) (at0 + 5) nd33 = .ok (y37, at37, nd37)) → (xFr S35 S37) → (xTl (gN S35) S37 y37 a37) → (xR tp sz S37 r at37 nd37) → (gN S35 ≤ gN S37 ∧ gN S37 + 30 * (sz - at37) ≤ gN S35 + 30 * (sz - (at0 + 5)) ∧ gZ S37 + 150 * (sz - at37) ≤ gZ S35 + 150 * (sz - (at0 + 5))) → (at37 ≤ sz ∧ gN S35 ≤ a37 ∧ a37 < gN S37 ∧ (at0 + 5) < at37 ∧ nd37 ≤ 80) → ∀ S39 : zS, (zFin true S39) → (pWant tp sz 44 at37 = .ok (at37 + 1)) → (xFr S37 S39) → (xR tp sz S39 r (at37 + 1) nd37) → (gN S37 ≤ gN S39 ∧ gN S39 ≤ gN S37 + 0 ∧ gZ S39 ≤ gZ S37 + 0) → ((at37 + 1) ≤ sz) → ∀ S41 : zS, ∀ a41 : Nat, ∀ y41 : zNd, ∀ at41 : Nat, ∀ nd41 : Nat, (zFin true S41) → (rec (deep + 1) (at37 + 1) nd37 = .ok (y41, at41, nd41)) → (xFr S39 S41) → (xTl (gN S39) S41 y41 a41) → (xR tp sz S41 r at41 nd41) → (gN S39 ≤ gN S41 ∧ gN S41 + 30 * (sz - at41) ≤ gN S39 + 30 * (sz - (at37 + 1)) ∧ gZ S41 + 150 * (sz - at41) ≤ gZ S39 + 150 * (sz - (at37 + 1))) → (at41 ≤ sz ∧ gN S39 ≤ a41 ∧ a41 < gN S41 ∧ (at37 + 1) < at41 ∧ nd41 ≤ 80) → ∀ S43 : zS, (zFin true S43) → (pWant tp sz 41 at41 = .ok (at41 + 1)) → (xFr S41 S43) → (xR tp sz S43 r (at41 + 1) nd41) → (gN S41 ≤ gN S43 ∧ gN S43 ≤ gN S41 + 0 ∧ gZ S43 ≤ gZ S41 + 0) → ((at41 + 1) ≤ sz) → ∀ S56 : zS, (zFin true S56) → (pJ (tN 14 0 [] at0 [y37, y41]) = .ok (tN 14 0 [] at0 [y37, y41])) → (xJd (sP (sP (sI (sI (sP (sNew S43 20 0 (zslots 20)) 190 (gN S43) (some 0)) 144 (gN S43) (Int32.ofNat at0)) 187 (gN S43) 3) 188 (gN S43) (some a37)) 189 (gN S43) (some a41)) (gN S43) S56) → (xTl (gN S) S56 (tN 14 0 [] at0 [y37, y41]) (gN S43)) → (xR tp sz S56 r (at41 + 1) nd41) → (gN S56 = gN S43 + 1 ∧ gZ S56 = gZ S43 + 20) → post (.returned (some (.ref (gN S43))), S56)) (h2 : ∀ S33 : zS, ∀ nd33 : Nat, (zFin true S33) → (pRead at0 deep nd false = .ok nd33) → (xFr S S33) → (xR tp sz S33 r at0 nd33) → (gN S ≤ gN S33 ∧ gN S33 ≤ gN S + 0 ∧ gZ S33 ≤ gZ S + 0) → (at0 ≤ sz) → (nd33 ≤ 80) → (deep ≤ 24) → ∀ S35 : zS, (zFin true S35) → (pWant tp sz 40 (at0 + 4) = .ok (at0 + 5)) → (xFr (sI S33 133 r (Int32.ofNat (at0 + 4))) S35) → (xR tp sz S35 r (at0 + 5) nd33) → (gN (sI S33 133 r (Int32.ofNat (at0 + 4))) ≤ gN S35 ∧ gN S35 ≤ gN (sI S33 133 r (Int32.ofNat (at0 + 4))) + 0 ∧ gZ S35 ≤ gZ (sI S33 133 r (Int32.ofNat (at0 + 4))) + 0) → ((at0 + 5) ≤ sz) → ∀ S37 : zS, ∀ a37 : Nat, ∀ y37 : zNd, ∀ at37 : Nat, ∀ nd37 : Nat, (zFin true S37) → (rec (deep + 1) (at0 + 5) nd33 = .ok (y37, at37, nd37)) → (xFr S35 S37) → (xTl (gN S35) S37 y37 a37) → (xR tp sz S37 r at37 nd37) → (gN S35 ≤ gN S37 ∧ gN S37 + 30 * (sz - at37) ≤ gN S35 + 30 * (sz - (at0 + 5)) ∧ gZ S37 + 150 * (sz - at37) ≤ gZ S35 + 150 * (sz - (at0 + 5))) → (at37 ≤ sz ∧ gN S35 ≤ a37 ∧ a37 < gN S37 ∧ (at0 + 5) < at37 ∧ nd37 ≤ 80) → ∀ S39 : zS, (zFin true S39) → (pWant tp sz 44 at37 = .ok (at37 + 1)) → (xFr S37 S39) → (xR tp sz S39 r (at37 + 1) nd37) → (gN S37 ≤ gN S39 ∧ gN S39 ≤ gN S37 + 0 ∧ gZ S39 ≤ gZ S37 + 0) → ((at37 + 1) ≤ sz) → ∀ S41 : zS, ∀ a41 : Nat, ∀ y41 : zNd, ∀ at41 : Nat, ∀ nd41 : Nat, (zFin true S41) → (rec (deep + 1) (at37 + 1) nd37 = .ok (y41, at41, nd41)) → (xFr S39 S41) → (xTl (gN S39) S41 y41 a41) → (xR tp sz S41 r at41 nd41) → (gN S39 ≤ gN S41 ∧ gN S41 + 30 * (sz - at41) ≤ gN S39 + 30 * (sz - (at37 + 1)) ∧ gZ S41 + 150 * (sz - at41) ≤ gZ S39 + 150 * (sz - (at37 + 1))) → (at41 ≤ sz ∧ gN S39 ≤ a41 ∧ a41 < gN S41 ∧ (at37 + 1) < at41 ∧ nd41 ≤ 80) → ∀ S43 : zS, (zFin true S43) → (pWant tp sz 41 at41 = .ok (at41 + 1)) → (xFr S41 S43) → (xR tp sz S43 r (at41 + 1) nd41) → (gN S41 ≤ gN S43 ∧ gN S43 ≤ gN S41 + 0 ∧ gZ S43 ≤ gZ S41 + 0) → ((at41 + 1) ≤ sz) → ∀ S57 : zS, ∀ q57 : Nat, (zFin true S57) → (pJ (tN 14 0 [] at0 [y37, y41]) = .error (3, at0)) → (xFn (sP (sP (sI (sI (sP (sNew S43 20 0 (zslots 20)) 190 (gN S43) (some 0)) 144 (gN S43) (Int32.ofNat at0)) 187 (gN S43) 3) 188 (gN S43) (some a37)) 189 (gN S43) (some a41)) (gN S43) S57) → (xFl S57 q57 3 at0) → (gN S57 = gN S43 + 1 + 1 ∧ gZ S57 ≤ gZ S43 + 20 + 3) → post (.threw q57, S57)) (h3 : ∀ S33 : zS, ∀ nd33 : Nat, (zFin true S33) → (pRead at0 deep nd false = .ok nd33) → (xFr S S33) → (xR tp sz S33 r at0 nd33) → (gN S ≤ gN S33 ∧ gN S33 ≤ gN S + 0 ∧ gZ S33 ≤ gZ S + 0) → (at0 ≤ sz) → (nd33 ≤ 80) → (deep ≤ 24) → ∀ S35 : zS, (zFin true S35) → (pWant tp sz 40 (at0 + 4) = .ok (at0 + 5)) → (xFr (sI S33 133 r (Int32.ofNat (at0 + 4))) S35) → (xR tp sz S35 r (at0 + 5) nd33) → (gN (sI S33 133 r (Int32.ofNat (at0 + 4))) ≤ gN S35 ∧ gN S35 ≤ gN (sI S33 133 r (Int32.ofNat (at0 + 4))) + 0 ∧ gZ S35 ≤ gZ (sI S33 133 r (Int32.ofNat (at0 + 4))) + 0) → ((at0 + 5) ≤ sz) → ∀ S37 : zS, ∀ a37 : Nat, ∀ y37 : zNd, ∀ at37 : Nat, ∀ nd37 : Nat, (zFin true S37) → (rec (deep + 1) (at0 + 5) nd33 = .ok (y37, at37, nd37)) → (xFr S35 S37) → (xTl (gN S35) S37 y37 a37) → (xR tp sz S37 r at37 nd37) → (gN S35 ≤ gN S37 ∧ gN S37 + 30 * (sz - at37) ≤ gN S35 + 30 * (sz - (at0 + 5)) ∧ gZ S37 + 150 * (sz - at37) ≤ gZ S35 + 150 * (sz - (at0 + 5))) → (at37 ≤ sz ∧ gN S35 ≤ a37 ∧ a37 < gN S37 ∧ (at0 + 5) < at37 ∧ nd37 ≤ 80) → ∀ S39 : zS, (zFin true S39) → (pWant tp sz 44 at37 = .ok (at37 + 1)) → (xFr S37 S39) → (xR tp sz S39 r (at37 + 1) nd37) → (gN S37 ≤ gN S39 ∧ gN S39 ≤ gN S37 + 0 ∧ gZ S39 ≤ gZ S37 + 0) → ((at37 + 1) ≤ sz) → ∀ S41 : zS, ∀ a41 : Nat, ∀ y41 : zNd, ∀ at41 : Nat, ∀ nd41 : Nat, (zFin true S41) → (rec (deep + 1) (at37 + 1) nd37 = .ok (y41, at41, nd41)) → (xFr S39 S41) → (xTl (gN S39) S41 y41 a41) → (xR tp sz S41 r at41 nd41) → (gN S39 ≤ gN S41 ∧ gN S41 + 30 * (sz - at41) ≤ gN S39 + 30 * (sz - (at37 + 1)) ∧ gZ S41 + 150 * (sz - at41) ≤ gZ S39 + 150 * (sz - (at37 + 1))) → (at41 ≤ sz ∧ gN S39 ≤ a41 ∧ a41 < gN S41 ∧ (at37 + 1) < at41 ∧ nd41 ≤ 80) → ∀ S44 : zS, ∀ q44 : Nat, (zFin true S44) → (pWant tp sz 41 at41 = .error (1, at41)) → (xFr S41 S44) → (xFl S44 q44 1 at41) → (gN S41 ≤ gN S44 ∧ gN S44 ≤ gN S41 + 1 ∧ gZ S44 ≤ gZ S41 + 3) → post (.threw q44, S44)) (h4 : ∀ S33 : zS, ∀ nd33 : Nat, (zFin true S33) → (pRead at0 deep nd false = .ok nd33) → (xFr S S33) → (xR tp sz S33 r at0 nd33) → (gN S ≤ gN S33 ∧ gN S33 ≤ gN S + 0 ∧ gZ S33 ≤ gZ S + 0) → (at0 ≤ sz) → (nd33 ≤ 80) → (deep ≤ 24) → ∀ S35 : zS, (zFin true S35) → (pWant tp sz 40 (at0 + 4) = .ok (at0 + 5)) → (xFr (sI S33 133 r (Int32.ofNat (at0 + 4))) S35) → (xR tp sz S35 r (at0 + 5) nd33) → (gN (sI S33 133 r (Int32.ofNat (at0 + 4))) ≤ gN S35 ∧ gN S35 ≤ gN (sI S33 133 r (Int32.ofNat (at0 + 4))) + 0 ∧ gZ S35 ≤ gZ (sI S33 133 r (Int32.ofNat (at0 + 4))) + 0) → ((at0 + 5) ≤ sz) → ∀ S37 : zS, ∀ a37 : Nat, ∀ y37 : zNd, ∀ at37 : Nat, ∀ nd37 : Nat, (zFin true S37) → (rec (deep + 1) (at0 + 5) nd33 = .ok (y37, at37, nd37)) → (xFr S35 S37) → (xTl (gN S35) S37 y37 a37) → (xR tp sz S37 r at37 nd37) → (gN S35 ≤ gN S37 ∧ gN S37 + 30 * (sz - at37) ≤ gN S35 + 30 * (sz - (at0 + 5)) ∧ gZ S37 + 150 * (sz - at37) ≤ gZ S35 + 150 * (sz - (at0 + 5))) → (at37 ≤ sz ∧ gN S35 ≤ a37 ∧ a37 < gN S37 ∧ (at0 + 5) < at37 ∧ nd37 ≤ 80) → ∀ S39 : zS, (zFin true S39) → (pWant tp sz 44 at37 = .ok (at37 + 1)) → (xFr S37 S39) → (xR tp sz S39 r (at37 + 1) nd37) → (gN S37 ≤ gN S39 ∧ gN S39 ≤ gN S37 + 0 ∧ gZ S39 ≤ gZ S37 + 0) → ((at37 + 1) ≤ sz) → ∀ S42 : zS, ∀ q42 : Nat, ∀ kk42 : Nat, ∀ z42 : Nat, (zFin true S42) → (rec (deep + 1) (at37 + 1) nd37 = .error (kk42, z42)) → (xFr S39 S42) → (xFl S42 q42 kk42 z42) → (gN S39 ≤ gN S42 ∧ gN S42 ≤ gN S39 + 30 * (sz - (at37 + 1)) + 60 ∧ gZ S42 ≤ gZ S39 + 150 * (sz - (at37 + 1)) + 2000) → post (.threw q42, S42)) (h5 : ∀ S33 : zS, ∀ nd33 : Nat, (zFin true S33) → (pRead at0 deep nd false = .ok nd33) → (xFr S S33) → (xR tp sz S33 r at0 nd33) → (gN S ≤ gN S33 ∧ gN S33 ≤ gN S + 0 ∧ gZ S33 ≤ gZ S + 0) → (at0 ≤ sz) → (nd33 ≤ 80) → (deep ≤ 24) → ∀ S35 : zS, (zFin true S35) → (pWant tp sz 40 (at0 + 4) = .ok (at0 + 5)) → (xFr (sI S33 133 r (Int32.ofNat (at0 + 4))) S35) → (xR tp sz S35 r (at0 + 5) nd33) → (gN (sI S33 133 r (Int32.ofNat (at0 + 4))) ≤ gN S35 ∧ gN S35 ≤ gN (sI S33 133 r (Int32.ofNat (at0 + 4))) + 0 ∧ gZ S35 ≤ gZ (sI S33 133 r (Int32.ofNat (at0 + 4))) + 0) → ((at0 + 5) ≤ sz) → ∀ S37 : zS, ∀ a37 : Nat, ∀ y37 : zNd, ∀ at37 : Nat, ∀ nd37 : Nat, (zFin true S37) → (rec (deep + 1) (at0 + 5) nd33 = .ok (y37, at37, nd37)) → (xFr S35 S37) → (xTl (gN S35) S37 y37 a37) → (xR tp sz S37 r at37 nd37) → (gN S35 ≤ gN S37 ∧ gN S37 + 30 * (sz - at37) ≤ gN S35 + 30 * (sz - (at0 + 5)) ∧ gZ S37 + 150 * (sz - at37) ≤ gZ S35 + 150 * (sz - (at0 + 5))) → (at37 ≤ sz ∧ gN S35 ≤ a37 ∧ a37 < gN S37 ∧ (at0 + 5) < at37 ∧ nd37 ≤ 80) → ∀ S40 : zS, ∀ q40 : Nat, (zFin true S40) → (pWant tp sz 44 at37 = .error (1, at37)) → (xFr S37 S40) → (xFl S40 q40 1 at37) → (gN S37 ≤ gN S40 ∧ gN S40 ≤ gN S37 + 1 ∧ gZ S40 ≤ gZ S37 + 3) → post (.threw q40, S40)) (h6 : ∀ S33 : zS, ∀ nd33 : Nat, (zFin true S33) → (pRead at0 deep nd false = .ok nd33) → (xFr S S33) → (xR tp sz S33 r at0 nd33) → (gN S ≤ gN S33 ∧ gN S33 ≤ gN S + 0 ∧ gZ S33 ≤ gZ S + 0) → (at0 ≤ sz) → (nd33 ≤ 80) → (deep ≤ 24) → ∀ S35 : zS, (zFin true S35) → (pWant tp sz 40 (at0 + 4) = .ok (at0 + 5)) → (xFr (sI S33 133 r (Int32.ofNat (at0 + 4))) S35) → (xR tp sz S35 r (at0 + 5) nd33) → (gN (sI S33 133 r (Int32.ofNat (at0 + 4))) ≤ gN S35 ∧ gN S35 ≤ gN (sI S33 133 r (Int32.ofNat (at0 + 4))) + 0 ∧ gZ S35 ≤ gZ (sI S33 133 r (Int32.ofNat (at0 + 4))) + 0) → ((at0 + 5) ≤ sz) → ∀ S38 : zS, ∀ q38 : Nat, ∀ kk38 : Nat, ∀ z38 : Nat, (zFin true S38) → (rec (deep + 1) (at0 + 5) nd33 = .error (kk38, z38)) → (xFr S35 S38) → (xFl S38 q38 kk38 z38) → (gN S35 ≤ gN S38 ∧ gN S38 ≤ gN S35 + 30 * (sz - (at0 + 5)) + 60 ∧ gZ S38 ≤ gZ S35 + 150 * (sz - (at0 + 5)) + 2000) → post (.threw q38, S38)) (h7 : ∀ S33 : zS, ∀ nd33 : Nat, (zFin true S33) → (pRead at0 deep nd false = .ok nd33) → (xFr S S33) → (xR tp sz S33 r at0 nd33) → (gN S ≤ gN S33 ∧ gN S33 ≤ gN S + 0 ∧ gZ S33 ≤ gZ S + 0) → (at0 ≤ sz) → (nd33 ≤ 80) → (deep ≤ 24) → ∀ S36 : zS, ∀ q36 : Nat, (zFin true S36) → (pWant tp sz 40 (at0 + 4) = .error (1, at0 + 4)) → (xFr (sI S33 133 r (Int32.ofNat (at0 + 4))) S36) → (xFl S36 q36 1 (at0 + 4)) → (gN (sI S33 133 r (Int32.ofNat (at0 + 4))) ≤ gN S36 ∧ gN S36 ≤ gN (sI S33 133 r (Int32.ofNat (at0 + 4))) + 1 ∧ gZ S36 ≤ gZ (sI S33 133 r (Int32.ofNat (at0 + 4))) + 3) → post (.threw q36, S36)) (h8 : ∀ S34 : zS, ∀ q34 : Nat, (zFin true S34) → (pRead at0 deep nd false = .error (2, at0)) → (xFr S S34) → (xFl S34 q34 2 at0) → (gN S ≤ gN S34 ∧ gN S34 ≤ gN S + 1 ∧ gZ S34 ≤ gZ S + 3) → post (.threw q34, S34)) : zCall d 266 [.ref r, .int (Int32.ofNat at0), .ref w, .int (Int32.ofNat deep)] S post := by
  have ht : ztab 266 = ztb266 := rfl
  show zEv d 266 0 [.ref r, .int (Int32.ofNat at0), .ref w, .int (Int32.ofNat deep), .retAddr 0, .retAddr 0, .retAddr 0] [] S post
  refine zv_c1 ht rfl rfl ?_
  refine zv_c2 (L' := [.ref r, .int (Int32.ofNat at0), .ref w, .int (Int32.ofNat deep), .int 0, .retAddr 0, .retAddr 0]) ht rfl rfl ?_
  refine zv_c1 ht rfl rfl (zv_c1 ht rfl rfl ?_)
  refine zv_br ht rfl rfl rfl (fun h => absurd h (by decide)) (fun _ => ?_)
  refine zv_c1 ht rfl rfl ?_
  have C2 : ∀ (pst1 : Outcome × zS → Prop), (pst1 (.returned (some (.ref 4294967318)), S)) → zCall (d - 1) 8 [.int 0] S pst1 := by
    intro pst1 k4
    have ht3 : ztab 8 = ztb8 := rfl
    show zEv (d - 1) 8 0 [.int 0] [] S pst1
    refine zv_c1 ht3 rfl rfl ?_
    refine zv_sw ht3 rfl rfl rfl rfl rfl ?_
    refine And.intro (fun _ => ?_) (fun h => absurd (by decide) h)
    refine zv_c1 ht3 rfl rfl ?_
    exact zv_rt ht3 rfl rfl rfl rfl k4
  refine zv_cl ht rfl rfl rfl rfl (by omega) (Nat.le_of_ble_eq_true rfl) (C2 _ ?_)
  show zEv d 266 14 [.ref r, .int (Int32.ofNat at0), .ref w, .int (Int32.ofNat deep), .int 0, .retAddr 0, .retAddr 0] [.ref 4294967318] S post
  refine zv_c1 ht rfl rfl ?_
  refine zv_cl ht rfl rfl rfl (zv_tgv ((zStr.t (xR.lit hR 11 (by decide)))) rfl) (by omega) (Nat.le_of_ble_eq_true rfl) (x_eqW (S := S) hF (by omega) (xR.lit hR 11 (by decide)) hw.1 (v := 0) (zbo_neg (by decide)) ?_)
  show zEv d 266 18 [.ref r, .int (Int32.ofNat at0), .ref w, .int (Int32.ofNat deep), .int 0, .retAddr 0, .retAddr 0] [.int 0] S post
  refine zv_br ht rfl rfl rfl (fun h => absurd h (by decide)) (fun _ => ?_)
  refine zv_c1 ht rfl rfl ?_
  refine zv_c2 (L' := [.ref r, .int (Int32.ofNat at0), .ref w, .int (Int32.ofNat deep), .int 1, .retAddr 0, .retAddr 0]) ht rfl rfl ?_
  refine zv_c1 ht rfl rfl (zv_c1 ht rfl rfl (zv_c1 ht rfl rfl ?_))
  refine zv_br ht rfl rfl rfl (fun h => absurd h (by decide)) (fun _ => ?_)
  refine zv_c1 ht rfl rfl ?_
  have C6 : ∀ (pst5 : Outcome × zS → Prop), (pst5 (.returned (some (.ref 4294967320)), S)) → zCall (d - 1) 8 [.int 1] S pst5 := by
    intro pst5 k8
    have ht7 : ztab 8 = ztb8 := rfl
    show zEv (d - 1) 8 0 [.int 1] [] S pst5
    refine zv_c1 ht7 rfl rfl ?_
    refine zv_sw ht7 rfl rfl rfl rfl rfl ?_
    refine And.intro (fun h => absurd h (by decide)) (fun _ => ?_)
    refine And.intro (fun _ => ?_) (fun h => absurd (by decide) h)
    refine zv_c1 ht7 rfl rfl ?_
    exact zv_rt ht7 rfl rfl rfl rfl k8
  refine zv_cl ht rfl rfl rfl rfl (by omega) (Nat.le_of_ble_eq_true rfl) (C6 _ ?_)
  show zEv d 266 14 [.ref r, .int (Int32.ofNat at0), .ref w, .int (Int32.ofNat deep), .int 1, .retAddr 0, .retAddr 0] [.ref 4294967320] S post
  refine zv_c1 ht rfl rfl ?_
  refine zv_cl ht rfl rfl rfl (zv_tgv ((zStr.t (xR.lit hR 12 (by decide)))) rfl) (by omega) (Nat.le_of_ble_eq_true rfl) (x_eqW (S := S) hF (by omega) (xR.lit hR 12 (by decide)) hw.1 (v := 0) (zbo_neg (by decide)) ?_)
  show zEv d 266 18 [.ref r, .int (Int32.ofNat at0), .ref w, .int (Int32.ofNat deep), .int 1, .retAddr 0, .retAddr 0] [.int 0] S post
  refine zv_br ht rfl rfl rfl (fun h => absurd h (by decide)) (fun _ => ?_)
  refine zv_c1 ht rfl rfl ?_
  refine zv_c2 (L' := [.ref r, .int (Int32.ofNat at0), .ref w, .int (Int32.ofNat deep), .int 2, .retAddr 0, .retAddr 0]) ht rfl rfl ?_
  refine zv_c1 ht rfl rfl (zv_c1 ht rfl rfl (zv_c1 ht rfl rfl ?_))
  refine zv_br ht rfl rfl rfl (fun h => absurd h (by decide)) (fun _ => ?_)
  refine zv_c1 ht rfl rfl ?_
  have C10 : ∀ (pst9 : Outcome × zS → Prop), (pst9 (.returned (some (.ref 4294967322)), S)) → zCall (d - 1) 8 [.int 2] S pst9 := by
    intro pst9 k12
    have ht11 : ztab 8 = ztb8 := rfl
    show zEv (d - 1) 8 0 [.int 2] [] S pst9
    refine zv_c1 ht11 rfl rfl ?_
    refine zv_sw ht11 rfl rfl rfl rfl rfl ?_
    refine And.intro (fun h => absurd h (by decide)) (fun _ => ?_)
    refine And.intro (fun h => absurd h (by decide)) (fun _ => ?_)
    refine And.intro (fun _ => ?_) (fun h => absurd (by decide) h)
    refine zv_c1 ht11 rfl rfl ?_
    exact zv_rt ht11 rfl rfl rfl rfl k12
  refine zv_cl ht rfl rfl rfl rfl (by omega) (Nat.le_of_ble_eq_true rfl) (C10 _ ?_)
  show zEv d 266 14 [.ref r, .int (Int32.ofNat at0), .ref w, .int (Int32.ofNat deep), .int 2, .retAddr 0, .retAddr 0] [.ref 4294967322] S post
  refine zv_c1 ht rfl rfl ?_
  refine zv_cl ht rfl rfl rfl (zv_tgv ((zStr.t (xR.lit hR 13 (by decide)))) rfl) (by omega) (Nat.le_of_ble_eq_true rfl) (x_eqW (S := S) hF (by omega) (xR.lit hR 13 (by decide)) hw.1 (v := 0) (zbo_neg (by decide)) ?_)
  show zEv d 266 18 [.ref r, .int (Int32.ofNat at0), .ref w, .int (Int32.ofNat deep), .int 2, .retAddr 0, .retAddr 0] [.int 0] S post
  refine zv_br ht rfl rfl rfl (fun h => absurd h (by decide)) (fun _ => ?_)
  refine zv_c1 ht rfl rfl ?_
  refine zv_c2 (L' := [.ref r, .int (Int32.ofNat at0), .ref w, .int (Int32.ofNat deep), .int 3, .retAddr 0, .retAddr 0]) ht rfl rfl ?_
  refine zv_c1 ht rfl rfl (zv_c1 ht rfl rfl (zv_c1 ht rfl rfl ?_))
  refine zv_br ht rfl rfl rfl (fun h => absurd h (by decide)) (fun _ => ?_)
  refine zv_c1 ht rfl rfl ?_
  have C14 : ∀ (pst13 : Outcome × zS → Prop), (pst13 (.returned (some (.ref 4294967324)), S)) → zCall (d - 1) 8 [.int 3] S pst13 := by
    intro pst13 k16
    have ht15 : ztab 8 = ztb8 := rfl
    show zEv (d - 1) 8 0 [.int 3] [] S pst13
    refine zv_c1 ht15 rfl rfl ?_
    refine zv_sw ht15 rfl rfl rfl rfl rfl ?_
    refine And.intro (fun h => absurd h (by decide)) (fun _ => ?_)
    refine And.intro (fun h => absurd h (by decide)) (fun _ => ?_)
    refine And.intro (fun h => absurd h (by decide)) (fun _ => ?_)
    refine zv_c1 ht15 rfl rfl ?_
    exact zv_rt ht15 rfl rfl rfl rfl k16
  refine zv_cl ht rfl rfl rfl rfl (by omega) (Nat.le_of_ble_eq_true rfl) (C14 _ ?_)
  show zEv d 266 14 [.ref r, .int (Int32.ofNat at0), .ref w, .int (Int32.ofNat deep), .int 3, .retAddr 0, .retAddr 0] [.ref 4294967324] S post
  refine zv_c1 ht rfl rfl ?_
  refine zv_cl ht rfl rfl rfl (zv_tgv ((zStr.t (xR.lit hR 14 (by decide)))) rfl) (by omega) (Nat.le_of_ble_eq_true rfl) (x_eqW (S := S) hF (by omega) (xR.lit hR 14 (by decide)) hw.1 (v := 0) (zbo_neg (by decide)) ?_)
  show zEv d 266 18 [.ref r, .int (Int32.ofNat at0), .ref w, .int (Int32.ofNat deep), .int 3, .retAddr 0, .retAddr 0] [.int 0] S post
  refine zv_br ht rfl rfl rfl (fun h => absurd h (by decide)) (fun _ => ?_)
  refine zv_c1 ht rfl rfl ?_
  refine zv_c2 (L' := [.ref r, .int (Int32.ofNat at0), .ref w, .int (Int32.ofNat deep), .int 4, .retAddr 0, .retAddr 0]) ht rfl rfl ?_
  refine zv_c1 ht rfl rfl (zv_c1 ht rfl rfl (zv_c1 ht rfl rfl ?_))
  refine zv_br ht rfl rfl rfl (fun _ => ?_) (fun h => absurd (by decide) h)
  refine zv_c1 ht rfl rfl ?_
  refine zv_c2 (L' := [.ref r, .int (Int32.ofNat at0), .ref w, .int (Int32.ofNat deep), .int 0, .retAddr 0, .retAddr 0]) ht rfl rfl ?_
  refine zv_c1 ht rfl rfl (zv_c1 ht rfl rfl ?_)
  refine zv_br ht rfl rfl rfl (fun h => absurd h (by decide)) (fun _ => ?_)
  refine zv_c1 ht rfl rfl ?_
  have C18 : ∀ (pst17 : Outcome × zS → Prop), (pst17 (.returned (some (.ref 4294967342)), S)) → zCall (d - 1) 11 [.int 0] S pst17 := by
    intro pst17 k20
    have ht19 : ztab 11 = ztb11 := rfl
    show zEv (d - 1) 11 0 [.int 0] [] S pst17
    refine zv_c1 ht19 rfl rfl ?_
    refine zv_sw ht19 rfl rfl rfl rfl rfl ?_
    refine And.intro (fun _ => ?_) (fun h => absurd (by decide) h)
    refine zv_c1 ht19 rfl rfl ?_
    exact zv_rt ht19 rfl rfl rfl rfl k20
  refine zv_cl ht rfl rfl rfl rfl (by omega) (Nat.le_of_ble_eq_true rfl) (C18 _ ?_)
  show zEv d 266 73 [.ref r, .int (Int32.ofNat at0), .ref w, .int (Int32.ofNat deep), .int 0, .retAddr 0, .retAddr 0] [.ref 4294967342] S post
  refine zv_c1 ht rfl rfl ?_
  refine zv_cl ht rfl rfl rfl (zv_tgv ((zStr.t (xR.lit hR 23 (by decide)))) rfl) (by omega) (Nat.le_of_ble_eq_true rfl) (x_eqW (S := S) hF (by omega) (xR.lit hR 23 (by decide)) hw.1 (v := 0) (zbo_neg (by decide)) ?_)
  show zEv d 266 77 [.ref r, .int (Int32.ofNat at0), .ref w, .int (Int32.ofNat deep), .int 0, .retAddr 0, .retAddr 0] [.int 0] S post
  refine zv_br ht rfl rfl rfl (fun h => absurd h (by decide)) (fun _ => ?_)
  refine zv_c1 ht rfl rfl ?_
  refine zv_c2 (L' := [.ref r, .int (Int32.ofNat at0), .ref w, .int (Int32.ofNat deep), .int 1, .retAddr 0, .retAddr 0]) ht rfl rfl ?_
  refine zv_c1 ht rfl rfl (zv_c1 ht rfl rfl (zv_c1 ht rfl rfl ?_))
  refine zv_br ht rfl rfl rfl (fun h => absurd h (by decide)) (fun _ => ?_)
  refine zv_c1 ht rfl rfl ?_
  have C22 : ∀ (pst21 : Outcome × zS → Prop), (pst21 (.returned (some (.ref 4294967344)), S)) → zCall (d - 1) 11 [.int 1] S pst21 := by
    intro pst21 k24
    have ht23 : ztab 11 = ztb11 := rfl
    show zEv (d - 1) 11 0 [.int 1] [] S pst21
    refine zv_c1 ht23 rfl rfl ?_
    refine zv_sw ht23 rfl rfl rfl rfl rfl ?_
    refine And.intro (fun h => absurd h (by decide)) (fun _ => ?_)
    refine And.intro (fun _ => ?_) (fun h => absurd (by decide) h)
    refine zv_c1 ht23 rfl rfl ?_
    exact zv_rt ht23 rfl rfl rfl rfl k24
  refine zv_cl ht rfl rfl rfl rfl (by omega) (Nat.le_of_ble_eq_true rfl) (C22 _ ?_)
  show zEv d 266 73 [.ref r, .int (Int32.ofNat at0), .ref w, .int (Int32.ofNat deep), .int 1, .retAddr 0, .retAddr 0] [.ref 4294967344] S post
  refine zv_c1 ht rfl rfl ?_
  refine zv_cl ht rfl rfl rfl (zv_tgv ((zStr.t (xR.lit hR 24 (by decide)))) rfl) (by omega) (Nat.le_of_ble_eq_true rfl) (x_eqW (S := S) hF (by omega) (xR.lit hR 24 (by decide)) hw.1 (v := 0) (zbo_neg (by decide)) ?_)
  show zEv d 266 77 [.ref r, .int (Int32.ofNat at0), .ref w, .int (Int32.ofNat deep), .int 1, .retAddr 0, .retAddr 0] [.int 0] S post
  refine zv_br ht rfl rfl rfl (fun h => absurd h (by decide)) (fun _ => ?_)
  refine zv_c1 ht rfl rfl ?_
  refine zv_c2 (L' := [.ref r, .int (Int32.ofNat at0), .ref w, .int (Int32.ofNat deep), .int 2, .retAddr 0, .retAddr 0]) ht rfl rfl ?_
  refine zv_c1 ht rfl rfl (zv_c1 ht rfl rfl (zv_c1 ht rfl rfl ?_))
  refine zv_br ht rfl rfl rfl (fun h => absurd h (by decide)) (fun _ => ?_)
  refine zv_c1 ht rfl rfl ?_
  have C26 : ∀ (pst25 : Outcome × zS → Prop), (pst25 (.returned (some (.ref 4294967346)), S)) → zCall (d - 1) 11 [.int 2] S pst25 := by
    intro pst25 k28
    have ht27 : ztab 11 = ztb11 := rfl
    show zEv (d - 1) 11 0 [.int 2] [] S pst25
    refine zv_c1 ht27 rfl rfl ?_
    refine zv_sw ht27 rfl rfl rfl rfl rfl ?_
    refine And.intro (fun h => absurd h (by decide)) (fun _ => ?_)
    refine And.intro (fun h => absurd h (by decide)) (fun _ => ?_)
    refine And.intro (fun _ => ?_) (fun h => absurd (by decide) h)
    refine zv_c1 ht27 rfl rfl ?_
    exact zv_rt ht27 rfl rfl rfl rfl k28
  refine zv_cl ht rfl rfl rfl rfl (by omega) (Nat.le_of_ble_eq_true rfl) (C26 _ ?_)
  show zEv d 266 73 [.ref r, .int (Int32.ofNat at0), .ref w, .int (Int32.ofNat deep), .int 2, .retAddr 0, .retAddr 0] [.ref 4294967346] S post
  refine zv_c1 ht rfl rfl ?_
  refine zv_cl ht rfl rfl rfl (zv_tgv ((zStr.t (xR.lit hR 25 (by decide)))) rfl) (by omega) (Nat.le_of_ble_eq_true rfl) (x_eqW (S := S) hF (by omega) (xR.lit hR 25 (by decide)) hw.1 (v := 0) (zbo_neg (by decide)) ?_)
  show zEv d 266 77 [.ref r, .int (Int32.ofNat at0), .ref w, .int (Int32.ofNat deep), .int 2, .retAddr 0, .retAddr 0] [.int 0] S post
  refine zv_br ht rfl rfl rfl (fun h => absurd h (by decide)) (fun _ => ?_)
  refine zv_c1 ht rfl rfl ?_
  refine zv_c2 (L' := [.ref r, .int (Int32.ofNat at0), .ref w, .int (Int32.ofNat deep), .int 3, .retAddr 0, .retAddr 0]) ht rfl rfl ?_
  refine zv_c1 ht rfl rfl (zv_c1 ht rfl rfl (zv_c1 ht rfl rfl ?_))
  refine zv_br ht rfl rfl rfl (fun h => absurd h (by decide)) (fun _ => ?_)
  refine zv_c1 ht rfl rfl ?_
  have C30 : ∀ (pst29 : Outcome × zS → Prop), (pst29 (.returned (some (.ref 4294967348)), S)) → zCall (d - 1) 11 [.int 3] S pst29 := by
    intro pst29 k32
    have ht31 : ztab 11 = ztb11 := rfl
    show zEv (d - 1) 11 0 [.int 3] [] S pst29
    refine zv_c1 ht31 rfl rfl ?_
    refine zv_sw ht31 rfl rfl rfl rfl rfl ?_
    refine And.intro (fun h => absurd h (by decide)) (fun _ => ?_)
    refine And.intro (fun h => absurd h (by decide)) (fun _ => ?_)
    refine And.intro (fun h => absurd h (by decide)) (fun _ => ?_)
    refine And.intro (fun _ => ?_) (fun h => absurd (by decide) h)
    refine zv_c1 ht31 rfl rfl ?_
    exact zv_rt ht31 rfl rfl rfl rfl k32
  refine zv_cl ht rfl rfl rfl rfl (by omega) (Nat.le_of_ble_eq_true rfl) (C30 _ ?_)
  show zEv d 266 73 [.ref r, .int (Int32.ofNat at0), .ref w, .int (Int32.ofNat deep), .int 3, .retAddr 0, .retAddr 0] [.ref 4294967348] S post
  refine zv_c1 ht rfl rfl ?_
  refine zv_cl ht rfl rfl rfl (zv_tgv ((zStr.t (xR.lit hR 26 (by decide)))) rfl) (by omega) (Nat.le_of_ble_eq_true rfl) (x_eqW (S := S) hF (by omega) (xR.lit hR 26 (by decide)) hw.1 (v := 1) (zbo_pos rfl) ?_)
  show zEv d 266 77 [.ref r, .int (Int32.ofNat at0), .ref w, .int (Int32.ofNat deep), .int 3, .retAddr 0, .retAddr 0] [.int 1] S post
  refine zv_br ht rfl rfl rfl (fun _ => ?_) (fun h => absurd (by decide) h)
  refine zv_c1 ht rfl rfl (zv_c1 ht rfl rfl (zv_c1 ht rfl rfl (zv_c1 ht rfl rfl ?_)))
  refine zv_cl ht rfl rfl rfl (zv_tgv (hR.1.2.2.2.1) rfl) (by omega) (Nat.le_of_ble_eq_true rfl) (x_begins (S := S) (tp := tp) (sz := sz) (r := r) (p := at0) (dp := deep) (m := 1) (dq := deep) (two := false) hF (by omega) hR (by omega) (by omega) (by omega) (by omega) rfl rfl (fun S33 nd33 hF33 e33 k33 p33 g33 b33 c33 d33 => ?_) (fun S34 q34 hF34 e34 k34 x34 g34 => ?_))
  · show zEv d 266 90 [.ref r, .int (Int32.ofNat at0), .ref w, .int (Int32.ofNat deep), .int 3, .retAddr 0, .retAddr 0] [] S33 post
    refine zv_c1 ht rfl rfl (zv_c1 ht rfl rfl ?_)
    refine zv_ei (x := Int32.ofNat at0) ht rfl rfl (zhas_of (p33.1.2.2.2.1) rfl) p33.1.1 ?_
    refine zv_c1 ht rfl rfl ?_
    refine zv_cl ht rfl rfl rfl (zv_tgv (Eq.trans (zKE.T k33 (Or.inl (show w < gN S from by omega))) (zStr.t hw.1)) rfl) (by omega) (Nat.le_of_ble_eq_true rfl) (x_len (S := S33) hF33 (by omega) (xWd.k hw (zKE.tr zKE.rf (zKE.w k33 (show gN S ≤ gN S from by omega) (fun _ h => h) (fun _ h => h)))).1 (n := 4) (by decide) ?_)
    show zEv d 266 99 [.ref r, .int (Int32.ofNat at0), .ref w, .int (Int32.ofNat deep), .int 3, .retAddr 0, .retAddr 0] [.int 4, .int (Int32.ofNat at0), .ref r] S33 post
    refine zv_e1 (x := Int32.ofNat (at0 + 4)) ht rfl rfl (zi_addE (a := at0) (b := 4) rfl rfl) ?_
    refine zv_ci (S' := sI S33 133 r (Int32.ofNat (at0 + 4))) ht rfl rfl ⟨(zhas_of (p33.1.2.2.2.1) rfl), (show r < gN S33 from by omega)⟩ ?_
    refine zv_c1 ht rfl rfl (zv_c1 ht rfl rfl ?_)
    refine zv_cl ht rfl rfl rfl (zv_tgv (p33.1.2.2.2.1) rfl) (by omega) (Nat.le_of_ble_eq_true rfl) (x_take (S := sI S33 133 r (Int32.ofNat (at0 + 4))) (tp := tp) (sz := sz) (r := r) (w := 40) hF33 (by omega) (xR_at p33 (by omega)) (by omega) (by omega) (by omega) (fun S35 hF35 e35 k35 p35 g35 b35 => ?_) (fun S36 q36 hF36 e36 k36 x36 g36 => ?_))
    · show zEv d 266 109 [.ref r, .int (Int32.ofNat at0), .ref w, .int (Int32.ofNat deep), .int 3, .retAddr 0, .retAddr 0] [] S35 post
      refine zv_c1 ht rfl rfl (zv_c1 ht rfl rfl (zv_c1 ht rfl rfl ?_))
      refine zv_e1 (x := Int32.ofNat (deep + 1)) ht rfl rfl (zi_addE (a := deep) (b := 1) rfl rfl) ?_
      refine zv_cl ht rfl rfl rfl (zv_tgv (p35.1.2.2.2.1) rfl) (by omega) (Nat.le_of_ble_eq_true rfl) (xEnd.useM (g := gN S35) (z := gZ S35) rfl rfl (fun q hq => hmono _ _ _ q (by omega) hq) (xRd.use (hRd (deep + 1) _ (by omega) rfl (by omega)) (S := S35) (r := r) hF35 p35 (by omega) (by omega)) (fun S37 a37 y37 at37 nd37 hF37 e37 k37 t37 p37 g37 c37 => ?_) (fun S38 q38 kk38 z38 hF38 e38 k38 x38 g38 => ?_))
      · show zEv d 266 116 [.ref r, .int (Int32.ofNat at0), .ref w, .int (Int32.ofNat deep), .int 3, .retAddr 0, .retAddr 0] [.ref a37] S37 post
        refine zv_c2 (L' := [.ref r, .int (Int32.ofNat at0), .ref w, .int (Int32.ofNat deep), .int 3, .ref a37, .retAddr 0]) ht rfl rfl ?_
        refine zv_c1 ht rfl rfl (zv_c1 ht rfl rfl ?_)
        refine zv_cl ht rfl rfl rfl (zv_tgv (p37.1.2.2.2.1) rfl) (by omega) (Nat.le_of_ble_eq_true rfl) (x_take (S := S37) (tp := tp) (sz := sz) (r := r) (w := 44) hF37 (by omega) p37 (by omega) (by omega) (by omega) (fun S39 hF39 e39 k39 p39 g39 b39 => ?_) (fun S40 q40 hF40 e40 k40 x40 g40 => ?_))
        · show zEv d 266 124 [.ref r, .int (Int32.ofNat at0), .ref w, .int (Int32.ofNat deep), .int 3, .ref a37, .retAddr 0] [] S39 post
          refine zv_c1 ht rfl rfl (zv_c1 ht rfl rfl (zv_c1 ht rfl rfl ?_))
          refine zv_e1 (x := Int32.ofNat (deep + 1)) ht rfl rfl (zi_addE (a := deep) (b := 1) rfl rfl) ?_
          refine zv_cl ht rfl rfl rfl (zv_tgv (p39.1.2.2.2.1) rfl) (by omega) (Nat.le_of_ble_eq_true rfl) (xEnd.useM (g := gN S39) (z := gZ S39) rfl rfl (fun q hq => hmono _ _ _ q (by omega) hq) (xRd.use (hRd (deep + 1) _ (by omega) rfl (by omega)) (S := S39) (r := r) hF39 p39 (by omega) (by omega)) (fun S41 a41 y41 at41 nd41 hF41 e41 k41 t41 p41 g41 c41 => ?_) (fun S42 q42 kk42 z42 hF42 e42 k42 x42 g42 => ?_))
          · show zEv d 266 131 [.ref r, .int (Int32.ofNat at0), .ref w, .int (Int32.ofNat deep), .int 3, .ref a37, .retAddr 0] [.ref a41] S41 post
            refine zv_c2 (L' := [.ref r, .int (Int32.ofNat at0), .ref w, .int (Int32.ofNat deep), .int 3, .ref a37, .ref a41]) ht rfl rfl ?_
            refine zv_c1 ht rfl rfl (zv_c1 ht rfl rfl ?_)
            refine zv_cl ht rfl rfl rfl (zv_tgv (p41.1.2.2.2.1) rfl) (by omega) (Nat.le_of_ble_eq_true rfl) (x_take (S := S41) (tp := tp) (sz := sz) (r := r) (w := 41) hF41 (by omega) p41 (by omega) (by omega) (by omega) (fun S43 hF43 e43 k43 p43 g43 b43 => ?_) (fun S44 q44 hF44 e44 k44 x44 g44 => ?_))
            · show zEv d 266 139 [.ref r, .int (Int32.ofNat at0), .ref w, .int (Int32.ofNat deep), .int 3, .ref a37, .ref a41] [] S43 post
              refine zv_c1 ht rfl rfl ?_
              refine zv_ci (st' := [.ref (gN S43), .ref r]) (S' := sNew S43 20 0 (zslots 20)) ht rfl rfl (znew_ok (show 1639 ≤ gN S43 from by omega) (show gN S43 < 2000000 from by omega)) ?_
              refine zv_c1 ht rfl rfl (zv_c1 ht rfl rfl ?_)
              refine zv_g3 (q := 0) ht rfl (zFin_new hF43) rfl rfl (zhas_of (Eq.trans (ztyp_new (S := S43) (t := 20) (n := 0) (s := zslots 20) (show r ≠ gN S43 from by omega)) p43.1.2.2.2.1) rfl) (Eq.trans (gP_new (S := S43) (t := 20) (n := 0) (s := zslots 20) (show r ≠ gN S43 from by omega)) p43.1.2.2.2.2) ?_
              refine zv_c1 ht rfl rfl (zv_c1 ht rfl rfl (zv_c1 ht rfl rfl (zv_c1 ht rfl rfl ?_)))
              have C46 : ∀ (pst45 : Outcome × zS → Prop), (pst45 (.returned none, sP (sP (sI (sI (sP (sNew S43 20 0 (zslots 20)) 190 (gN S43) (some 0)) 144 (gN S43) (Int32.ofNat at0)) 187 (gN S43) 3) 188 (gN S43) (some a37)) 189 (gN S43) (some a41))) → zCall (d - 1) 373 [.ref (gN S43), .ref 0, .int (Int32.ofNat at0), .int 3, .ref a37, .ref a41] (sNew S43 20 0 (zslots 20)) pst45 := by
                intro pst45 k52
                have ht47 : ztab 373 = ztb373 := rfl
                show zEv (d - 1) 373 0 [.ref (gN S43), .ref 0, .int (Int32.ofNat at0), .int 3, .ref a37, .ref a41] [] (sNew S43 20 0 (zslots 20)) pst45
                refine zv_c1 ht47 rfl rfl (zv_c1 ht47 rfl rfl ?_)
                refine zv_ci (S' := sP (sNew S43 20 0 (zslots 20)) 190 (gN S43) (some 0)) ht47 rfl rfl ⟨(zhas_of (ztyp_new_at (S := S43) (t := 20) (n := 0) (s := zslots 20) (show 1639 ≤ gN S43 from by omega)) rfl), (show gN S43 < gN S43 + 1 from by omega)⟩ ?_
                refine zv_c1 ht47 rfl rfl (zv_c1 ht47 rfl rfl (zv_c1 ht47 rfl rfl ?_))
                have C49 : ∀ (pst48 : Outcome × zS → Prop), (pst48 (.returned none, sI (sP (sNew S43 20 0 (zslots 20)) 190 (gN S43) (some 0)) 144 (gN S43) (Int32.ofNat at0))) → zCall ((d - 1) - 1) 280 [.ref (gN S43), .ref 0, .int (Int32.ofNat at0)] (sP (sNew S43 20 0 (zslots 20)) 190 (gN S43) (some 0)) pst48 := by
                  intro pst48 k51
                  have ht50 : ztab 280 = ztb280 := rfl
                  show zEv ((d - 1) - 1) 280 0 [.ref (gN S43), .ref 0, .int (Int32.ofNat at0)] [] (sP (sNew S43 20 0 (zslots 20)) 190 (gN S43) (some 0)) pst48
                  refine zv_c1 ht50 rfl rfl (zv_c1 ht50 rfl rfl ?_)
                  refine zv_ci (S' := sP (sNew S43 20 0 (zslots 20)) 190 (gN S43) (some 0)) ht50 rfl rfl (zk5 (ztyp_new_at (S := S43) (t := 20) (n := 0) (s := zslots 20) (show 1639 ≤ gN S43 from by omega)) rfl (show gN S43 < gN S43 + 1 from by omega) rfl gP_sP_at) ?_
                  refine zv_c1 ht50 rfl rfl (zv_c1 ht50 rfl rfl (zv_c1 ht50 rfl rfl (zv_c1 ht50 rfl rfl ?_)))
                  refine zv_ci (S' := sI (sP (sNew S43 20 0 (zslots 20)) 190 (gN S43) (some 0)) 144 (gN S43) (Int32.ofNat at0)) ht50 rfl rfl ⟨(zhas_of (ztyp_new_at (S := S43) (t := 20) (n := 0) (s := zslots 20) (show 1639 ≤ gN S43 from by omega)) rfl), (show gN S43 < gN S43 + 1 from by omega)⟩ ?_
                  exact zv_rt ht50 rfl rfl rfl rfl k51
                refine zv_cl ht47 rfl rfl rfl rfl (by omega) (Nat.le_of_ble_eq_true rfl) (C49 _ ?_)
                show zEv (d - 1) 373 11 [.ref (gN S43), .ref 0, .int (Int32.ofNat at0), .int 3, .ref a37, .ref a41] [] (sI (sP (sNew S43 20 0 (zslots 20)) 190 (gN S43) (some 0)) 144 (gN S43) (Int32.ofNat at0)) pst45
                refine zv_c1 ht47 rfl rfl (zv_c1 ht47 rfl rfl ?_)
                refine zv_ci (S' := sI (sI (sP (sNew S43 20 0 (zslots 20)) 190 (gN S43) (some 0)) 144 (gN S43) (Int32.ofNat at0)) 187 (gN S43) 3) ht47 rfl rfl ⟨(zhas_of (ztyp_new_at (S := S43) (t := 20) (n := 0) (s := zslots 20) (show 1639 ≤ gN S43 from by omega)) rfl), (show gN S43 < gN S43 + 1 from by omega)⟩ ?_
                refine zv_c1 ht47 rfl rfl (zv_c1 ht47 rfl rfl ?_)
                refine zv_ci (S' := sP (sI (sI (sP (sNew S43 20 0 (zslots 20)) 190 (gN S43) (some 0)) 144 (gN S43) (Int32.ofNat at0)) 187 (gN S43) 3) 188 (gN S43) (some a37)) ht47 rfl rfl ⟨(zhas_of (ztyp_new_at (S := S43) (t := 20) (n := 0) (s := zslots 20) (show 1639 ≤ gN S43 from by omega)) rfl), (show gN S43 < gN S43 + 1 from by omega)⟩ ?_
                refine zv_c1 ht47 rfl rfl (zv_c1 ht47 rfl rfl ?_)
                refine zv_ci (S' := sP (sP (sI (sI (sP (sNew S43 20 0 (zslots 20)) 190 (gN S43) (some 0)) 144 (gN S43) (Int32.ofNat at0)) 187 (gN S43) 3) 188 (gN S43) (some a37)) 189 (gN S43) (some a41)) ht47 rfl rfl ⟨(zhas_of (ztyp_new_at (S := S43) (t := 20) (n := 0) (s := zslots 20) (show 1639 ≤ gN S43 from by omega)) rfl), (show gN S43 < gN S43 + 1 from by omega)⟩ ?_
                exact zv_rt ht47 rfl rfl rfl rfl k52
              refine zv_cl ht rfl rfl rfl rfl (by omega) (Nat.le_of_ble_eq_true rfl) (C46 _ ?_)
              show zEv d 266 158 [.ref r, .int (Int32.ofNat at0), .ref w, .int (Int32.ofNat deep), .int 3, .ref a37, .ref a41] [.ref (gN S43), .ref r] (sP (sP (sI (sI (sP (sNew S43 20 0 (zslots 20)) 190 (gN S43) (some 0)) 144 (gN S43) (Int32.ofNat at0)) 187 (gN S43) 3) 188 (gN S43) (some a37)) 189 (gN S43) (some a41)) post
              have C54 : ∀ (pst53 : Outcome × zS → Prop), (∀ S56 : zS, (zFin true S56) → (pJ (tN 14 0 [] at0 [y37, y41]) = .ok (tN 14 0 [] at0 [y37, y41])) → (xJd (sP (sP (sI (sI (sP (sNew S43 20 0 (zslots 20)) 190 (gN S43) (some 0)) 144 (gN S43) (Int32.ofNat at0)) 187 (gN S43) 3) 188 (gN S43) (some a37)) 189 (gN S43) (some a41)) (gN S43) S56) → (xTl (gN S) S56 (tN 14 0 [] at0 [y37, y41]) (gN S43)) → (xR tp sz S56 r (at41 + 1) nd41) → (gN S56 = gN S43 + 1 ∧ gZ S56 = gZ S43 + 20) → pst53 (.returned (some (.ref (gN S43))), S56)) → (∀ S57 : zS, ∀ q57 : Nat, (zFin true S57) → (pJ (tN 14 0 [] at0 [y37, y41]) = .error (3, at0)) → (xFn (sP (sP (sI (sI (sP (sNew S43 20 0 (zslots 20)) 190 (gN S43) (some 0)) 144 (gN S43) (Int32.ofNat at0)) 187 (gN S43) 3) 188 (gN S43) (some a37)) 189 (gN S43) (some a41)) (gN S43) S57) → (xFl S57 q57 3 at0) → (gN S57 = gN S43 + 1 + 1 ∧ gZ S57 ≤ gZ S43 + 20 + 3) → pst53 (.threw q57, S57)) → zCall (d - 1) 253 [.ref r, .ref (gN S43)] (sP (sP (sI (sI (sP (sNew S43 20 0 (zslots 20)) 190 (gN S43) (some 0)) 144 (gN S43) (Int32.ofNat at0)) 187 (gN S43) 3) 188 (gN S43) (some a37)) 189 (gN S43) (some a41)) pst53 := by
                intro pst53 k58 k59
                have ht55 : ztab 253 = ztb253 := rfl
                show zEv (d - 1) 253 0 [.ref r, .ref (gN S43)] [] (sP (sP (sI (sI (sP (sNew S43 20 0 (zslots 20)) 190 (gN S43) (some 0)) 144 (gN S43) (Int32.ofNat at0)) 187 (gN S43) 3) 188 (gN S43) (some a37)) 189 (gN S43) (some a41)) pst53
                refine zv_c1 ht55 rfl rfl ?_
                refine zv_cl ht55 rfl rfl rfl (zv_tgm (ztyp_new_at (S := S43) (t := 20) (n := 0) (s := zslots 20) (show 1639 ≤ gN S43 from by omega)) rfl) (by omega) (Nat.le_of_ble_eq_true rfl) (x_judgeR (S := sP (sP (sI (sI (sP (sNew S43 20 0 (zslots 20)) 190 (gN S43) (some 0)) 144 (gN S43) (Int32.ofNat at0)) 187 (gN S43) 3) 188 (gN S43) (some a37)) 189 (gN S43) (some a41)) (tp := tp) (sz := sz) (r := r) (a := gN S43) (k := 14) (v := 0) (p := at0) (ks := []) (js := [a37, a41]) (cs := [y37, y41]) (g := gN S43 + 1) (lo := gN S) (zFin_sP (zFin_sP (zFin_sP (zFin_new hF43) rfl) rfl) rfl) (by omega) (by omega) (by omega) (by omega) (by omega) rfl (xOwn_P (by decide) (ztyp_new_at (S := S43) (t := 20) (n := 0) (s := zslots 20) (show 1639 ≤ gN S43 from by omega)) (gI_sI_at) (gP_sP_at) (gP_sP_at)) ⟨a37, _, rfl, (xTl.ch t37 (zKE.tr (zKE.tr (zKE.tr (zKE.tr (zKE.tr (zKE.tr (zKE.tr (zKE.tr (zKE.tr zKE.rf (zKE.w k39 (show gN S37 ≤ gN S37 from by omega) (fun _ h => h) (fun _ h => h))) (zKE.w k41 (show gN S37 ≤ gN S39 from by omega) (fun _ h => h) (fun _ h => h))) (zKE.w k43 (show gN S37 ≤ gN S41 from by omega) (fun _ h => h) (fun _ h => h))) (zKE_new (show gN S37 ≤ gN S43 ∧ gN S43 < zLB from ⟨by omega, by have hLB : zLB = 4294967296 := rfl; omega⟩))) (zKE_sP (Or.inr (Or.inr ⟨by omega, by have hLB : zLB = 4294967296 := rfl; omega⟩)))) (zKE_sI (Or.inr (Or.inr ⟨by omega, by have hLB : zLB = 4294967296 := rfl; omega⟩)))) (zKE_sI (Or.inr (Or.inr ⟨by omega, by have hLB : zLB = 4294967296 := rfl; omega⟩)))) (zKE_sP (Or.inr (Or.inr ⟨by omega, by have hLB : zLB = 4294967296 := rfl; omega⟩)))) (zKE_sP (Or.inr (Or.inr ⟨by omega, by have hLB : zLB = 4294967296 := rfl; omega⟩)))) (by omega) (by intro j h1 h2; omega)), ⟨a41, _, rfl, (xTl.ch t41 (zKE.tr (zKE.tr (zKE.tr (zKE.tr (zKE.tr (zKE.tr (zKE.tr zKE.rf (zKE.w k43 (show gN S41 ≤ gN S41 from by omega) (fun _ h => h) (fun _ h => h))) (zKE_new (show gN S41 ≤ gN S43 ∧ gN S43 < zLB from ⟨by omega, by have hLB : zLB = 4294967296 := rfl; omega⟩))) (zKE_sP (Or.inr (Or.inr ⟨by omega, by have hLB : zLB = 4294967296 := rfl; omega⟩)))) (zKE_sI (Or.inr (Or.inr ⟨by omega, by have hLB : zLB = 4294967296 := rfl; omega⟩)))) (zKE_sI (Or.inr (Or.inr ⟨by omega, by have hLB : zLB = 4294967296 := rfl; omega⟩)))) (zKE_sP (Or.inr (Or.inr ⟨by omega, by have hLB : zLB = 4294967296 := rfl; omega⟩)))) (zKE_sP (Or.inr (Or.inr ⟨by omega, by have hLB : zLB = 4294967296 := rfl; omega⟩)))) (by omega) (by intro j h1 h2; omega)), rfl⟩⟩ (by decide) (by omega) (gI_sI_at) (gI_new_at (S := S43) (t := 20) (n := 0) (s := zslots 20)) (gI_new_at (S := S43) (t := 20) (n := 0) (s := zslots 20)) (xR.ke (Fs := []) p43 (zKE.tr (zKE.tr (zKE.tr (zKE.tr (zKE.tr (zKE.tr zKE.rf (zKE_new (show gN S43 ≤ gN S43 ∧ gN S43 < zLB from ⟨by omega, by have hLB : zLB = 4294967296 := rfl; omega⟩))) (zKE_sP (Or.inr (Or.inr ⟨by omega, by have hLB : zLB = 4294967296 := rfl; omega⟩)))) (zKE_sI (Or.inr (Or.inr ⟨by omega, by have hLB : zLB = 4294967296 := rfl; omega⟩)))) (zKE_sI (Or.inr (Or.inr ⟨by omega, by have hLB : zLB = 4294967296 := rfl; omega⟩)))) (zKE_sP (Or.inr (Or.inr ⟨by omega, by have hLB : zLB = 4294967296 := rfl; omega⟩)))) (zKE_sP (Or.inr (Or.inr ⟨by omega, by have hLB : zLB = 4294967296 := rfl; omega⟩)))) (by omega) (by decide)) (by omega) (fun S56 hF56 e56 j56 t56 p56 g56 => ?_) (fun S57 q57 hF57 e57 k57 x57 g57 => ?_))
                · show zEv (d - 1) 253 4 [.ref r, .ref (gN S43)] [] S56 pst53
                  refine zv_c1 ht55 rfl rfl ?_
                  exact zv_rt ht55 rfl rfl rfl rfl (k58 S56 hF56 e56 j56 t56 p56 g56)
                · exact (k59 S57 q57 hF57 e57 k57 x57 g57)
              refine zv_cl ht rfl rfl rfl (zv_tgv (Eq.trans (ztyp_new (S := S43) (t := 20) (n := 0) (s := zslots 20) (show r ≠ gN S43 from by omega)) p43.1.2.2.2.1) rfl) (by omega) (Nat.le_of_ble_eq_true rfl) (C54 _ (fun S56 hF56 e56 j56 t56 p56 g56 => ?_) (fun S57 q57 hF57 e57 k57 x57 g57 => ?_))
              · show zEv d 266 161 [.ref r, .int (Int32.ofNat at0), .ref w, .int (Int32.ofNat deep), .int 3, .ref a37, .ref a41] [.ref (gN S43)] S56 post
                exact zv_rt ht rfl rfl rfl rfl (h1 S33 nd33 hF33 e33 k33 p33 g33 b33 c33 d33 S35 hF35 e35 k35 p35 g35 b35 S37 a37 y37 at37 nd37 hF37 e37 k37 t37 p37 g37 c37 S39 hF39 e39 k39 p39 g39 b39 S41 a41 y41 at41 nd41 hF41 e41 k41 t41 p41 g41 c41 S43 hF43 e43 k43 p43 g43 b43 S56 hF56 e56 j56 t56 p56 g56)
              · exact (h2 S33 nd33 hF33 e33 k33 p33 g33 b33 c33 d33 S35 hF35 e35 k35 p35 g35 b35 S37 a37 y37 at37 nd37 hF37 e37 k37 t37 p37 g37 c37 S39 hF39 e39 k39 p39 g39 b39 S41 a41 y41 at41 nd41 hF41 e41 k41 t41 p41 g41 c41 S43 hF43 e43 k43 p43 g43 b43 S57 q57 hF57 e57 k57 x57 g57)
            · exact (h3 S33 nd33 hF33 e33 k33 p33 g33 b33 c33 d33 S35 hF35 e35 k35 p35 g35 b35 S37 a37 y37 at37 nd37 hF37 e37 k37 t37 p37 g37 c37 S39 hF39 e39 k39 p39 g39 b39 S41 a41 y41 at41 nd41 hF41 e41 k41 t41 p41 g41 c41 S44 q44 hF44 e44 k44 x44 g44)
          · exact (h4 S33 nd33 hF33 e33 k33 p33 g33 b33 c33 d33 S35 hF35 e35 k35 p35 g35 b35 S37 a37 y37 at37 nd37 hF37 e37 k37 t37 p37 g37 c37 S39 hF39 e39 k39 p39 g39 b39 S42 q42 kk42 z42 hF42 e42 k42 x42 g42)
        · exact (h5 S33 nd33 hF33 e33 k33 p33 g33 b33 c33 d33 S35 hF35 e35 k35 p35 g35 b35 S37 a37 y37 at37 nd37 hF37 e37 k37 t37 p37 g37 c37 S40 q40 hF40 e40 k40 x40 g40)
      · exact (h6 S33 nd33 hF33 e33 k33 p33 g33 b33 c33 d33 S35 hF35 e35 k35 p35 g35 b35 S38 q38 kk38 z38 hF38 e38 k38 x38 g38)
    · exact (h7 S33 nd33 hF33 e33 k33 p33 g33 b33 c33 d33 S36 q36 hF36 e36 k36 x36 g36)
  · exact (h8 S34 q34 hF34 e34 k34 x34 g34)

theorem ot27 {d : Nat} {S : zS} (hF : zFin true S) (hd : 4 ≤ d) {tp : Nat → Nat} {sz at0 nd r : Nat} {rec : Nat → Nat → Nat → pE (zNd × Nat × Nat)} {K : Nat} {w : Nat} (deep : Nat) (hR : xR tp sz S r at0 nd) (hs0 : sz ≤ 300) (ha0 : at0 ≤ sz) (hr1 : 1639 ≤ r) (hr2 : r < gN S) (hN : gN S + 30 * (sz - at0) ≤ 1700000) (hdp : deep < 1000) (hnd : nd ≤ 80) (hK : K + 3 ≤ d) (hK2 : 12 ≤ d) (hmono : pMono rec) (hRd : ∀ dp d', deep ≤ 24 → dp = deep + 1 → K ≤ d' → xRd tp sz d' dp rec) (hw : xWd S w (ztn 27)) (hwN : w < gN S) (hwl : at0 + 4 ≤ sz) {post : Outcome × zS → Prop} (h1 : ∀ S37 : zS, ∀ nd37 : Nat, (zFin true S37) → (pRead at0 deep nd false = .ok nd37) → (xFr S S37) → (xR tp sz S37 r at0 nd37) → (gN S ≤ gN S37 ∧ gN S37 ≤ gN S + 0 ∧ gZ S37 ≤ gZ S + 0) → (at0 ≤ sz) → (nd37 ≤ 80) → (deep ≤ 24) → ∀ S39 : zS, (zFin true S39) → (pWant tp sz 40 (at0 + 4) = .ok (at0 + 5)) → (xFr (sI S37 133 r (Int32.ofNat (at0 + 4))) S39) → (xR tp sz S39 r (at0 + 5) nd37) → (gN (sI S37 133 r (Int32.ofNat (at0 + 4))) ≤ gN S39 ∧ gN S39 ≤ gN (sI S37 133 r (Int32.ofNat (at0 + 4))) + 0 ∧ gZ S39 ≤ gZ (sI S37 133 r (Int32.ofNat (at0 + 4))) + 0) → ((at0 + 5) ≤ sz) → ∀ S41 : zS, ∀ a41 : Nat, ∀ y41 : zNd, ∀ at41 : Nat, ∀ nd41 : Nat, (zFin true S41) → (rec (deep + 1) (at0 + 5) nd37 = .ok (y41, at41, nd41)) → (xFr S39 S41) → (xTl (gN S39) S41 y41 a41) → (xR tp sz S41 r at41 nd41) → (gN S39 ≤ gN S41 ∧ gN S41 + 30 * (sz - at41) ≤ gN S39 + 30 * (sz - (at0 + 5)) ∧ gZ S41 + 150 * (sz - at41) ≤ gZ S39 + 150 * (sz - (at0 + 5))) → (at41 ≤ sz ∧ gN S39 ≤ a41 ∧ a41 < gN S41 ∧ (at0 + 5) < at41 ∧ nd41 ≤ 80) → ∀ S43 : zS, (zFin true S43) → (pWant tp sz 44 at41 = .ok (at41 + 1)) → (xFr S41 S43) → (xR tp sz S43 r (at41 + 1) nd41) → (gN S41 ≤ gN S43 ∧ gN S43 ≤ gN S41 + 0 ∧ gZ S43 ≤ gZ S41 + 0) → ((at41 + 1) ≤ sz) → ∀ S45 : zS, ∀ a45 : Nat, ∀ y45 : zNd, ∀ at45 : Nat, ∀ nd45 : Nat, (zFin true S45) → (rec (deep + 1) (at41 + 1) nd41 = .ok (y45, at45, nd45)) → (xFr S43 S45) → (xTl (gN S43) S45 y45 a45) → (xR tp sz S45 r at45 nd45) → (gN S43 ≤ gN S45 ∧ gN S45 + 30 * (sz - at45) ≤ gN S43 + 30 * (sz - (at41 + 1)) ∧ gZ S45 + 150 * (sz - at45) ≤ gZ S43 + 150 * (sz - (at41 + 1))) → (at45 ≤ sz ∧ gN S43 ≤ a45 ∧ a45 < gN S45 ∧ (at41 + 1) < at45 ∧ nd45 ≤ 80) → ∀ S47 : zS, (zFin true S47) → (pWant tp sz 41 at45 = .ok (at45 + 1)) → (xFr S45 S47) → (xR tp sz S47 r (at45 + 1) nd45) → (gN S45 ≤ gN S47 ∧ gN S47 ≤ gN S45 + 0 ∧ gZ S47 ≤ gZ S45 + 0) → ((at45 + 1) ≤ sz) → ∀ S60 : zS, (zFin true S60) → (pJ (tN 15 0 [] at0 [y41, y45]) = .ok (tN 15 0 [] at0 [y41, y45])) → (xJd (sP (sP (sI (sI (sP (sNew S47 20 0 (zslots 20)) 190 (gN S47) (some 0)) 144 (gN S47) (Int32.ofNat at0)) 187 (gN S47) 4) 188 (gN S47) (some a41)) 189 (gN S47) (some a45)) (gN S47) S60) → (xTl (gN S) S60 (tN 15 0 [] at0 [y41, y45]) (gN S47)) → (xR tp sz S60 r (at45 + 1) nd45) → (gN S60 = gN S47 + 1 ∧ gZ S60 = gZ S47 + 20) → post (.returned (some (.ref (gN S47))), S60)) (h2 : ∀ S37 : zS, ∀ nd37 : Nat, (zFin true S37) → (pRead at0 deep nd false = .ok nd37) → (xFr S S37) → (xR tp sz S37 r at0 nd37) → (gN S ≤ gN S37 ∧ gN S37 ≤ gN S + 0 ∧ gZ S37 ≤ gZ S + 0) → (at0 ≤ sz) → (nd37 ≤ 80) → (deep ≤ 24) → ∀ S39 : zS, (zFin true S39) → (pWant tp sz 40 (at0 + 4) = .ok (at0 + 5)) → (xFr (sI S37 133 r (Int32.ofNat (at0 + 4))) S39) → (xR tp sz S39 r (at0 + 5) nd37) → (gN (sI S37 133 r (Int32.ofNat (at0 + 4))) ≤ gN S39 ∧ gN S39 ≤ gN (sI S37 133 r (Int32.ofNat (at0 + 4))) + 0 ∧ gZ S39 ≤ gZ (sI S37 133 r (Int32.ofNat (at0 + 4))) + 0) → ((at0 + 5) ≤ sz) → ∀ S41 : zS, ∀ a41 : Nat, ∀ y41 : zNd, ∀ at41 : Nat, ∀ nd41 : Nat, (zFin true S41) → (rec (deep + 1) (at0 + 5) nd37 = .ok (y41, at41, nd41)) → (xFr S39 S41) → (xTl (gN S39) S41 y41 a41) → (xR tp sz S41 r at41 nd41) → (gN S39 ≤ gN S41 ∧ gN S41 + 30 * (sz - at41) ≤ gN S39 + 30 * (sz - (at0 + 5)) ∧ gZ S41 + 150 * (sz - at41) ≤ gZ S39 + 150 * (sz - (at0 + 5))) → (at41 ≤ sz ∧ gN S39 ≤ a41 ∧ a41 < gN S41 ∧ (at0 + 5) < at41 ∧ nd41 ≤ 80) → ∀ S43 : zS, (zFin true S43) → (pWant tp sz 44 at41 = .ok (at41 + 1)) → (xFr S41 S43) → (xR tp sz S43 r (at41 + 1) nd41) → (gN S41 ≤ gN S43 ∧ gN S43 ≤ gN S41 + 0 ∧ gZ S43 ≤ gZ S41 + 0) → ((at41 + 1) ≤ sz) → ∀ S45 : zS, ∀ a45 : Nat, ∀ y45 : zNd, ∀ at45 : Nat, ∀ nd45 : Nat, (zFin true S45) → (rec (deep + 1) (at41 + 1) nd41 = .ok (y45, at45, nd45)) → (xFr S43 S45) → (xTl (gN S43) S45 y45 a45) → (xR tp sz S45 r at45 nd45) → (gN S43 ≤ gN S45 ∧ gN S45 + 30 * (sz - at45) ≤ gN S43 + 30 * (sz - (at41 + 1)) ∧ gZ S45 + 150 * (sz - at45) ≤ gZ S43 + 150 * (sz - (at41 + 1))) → (at45 ≤ sz ∧ gN S43 ≤ a45 ∧ a45 < gN S45 ∧ (at41 + 1) < at45 ∧ nd45 ≤ 80) → ∀ S47 : zS, (zFin true S47) → (pWant tp sz 41 at45 = .ok (at45 + 1)) → (xFr S45 S47) → (xR tp sz S47 r (at45 + 1) nd45) → (gN S45 ≤ gN S47 ∧ gN S47 ≤ gN S45 + 0 ∧ gZ S47 ≤ gZ S45 + 0) → ((at45 + 1) ≤ sz) → ∀ S61 : zS, ∀ q61 : Nat, (zFin true S61) → (pJ (tN 15 0 [] at0 [y41, y45]) = .error (3, at0)) → (xFn (sP (sP (sI (sI (sP (sNew S47 20 0 (zslots 20)) 190 (gN S47) (some 0)) 144 (gN S47) (Int32.ofNat at0)) 187 (gN S47) 4) 188 (gN S47) (some a41)) 189 (gN S47) (some a45)) (gN S47) S61) → (xFl S61 q61 3 at0) → (gN S61 = gN S47 + 1 + 1 ∧ gZ S61 ≤ gZ S47 + 20 + 3) → post (.threw q61, S61)) (h3 : ∀ S37 : zS, ∀ nd37 : Nat, (zFin true S37) → (pRead at0 deep nd false = .ok nd37) → (xFr S S37) → (xR tp sz S37 r at0 nd37) → (gN S ≤ gN S37 ∧ gN S37 ≤ gN S + 0 ∧ gZ S37 ≤ gZ S + 0) → (at0 ≤ sz) → (nd37 ≤ 80) → (deep ≤ 24) → ∀ S39 : zS, (zFin true S39) → (pWant tp sz 40 (at0 + 4) = .ok (at0 + 5)) → (xFr (sI S37 133 r (Int32.ofNat (at0 + 4))) S39) → (xR tp sz S39 r (at0 + 5) nd37) → (gN (sI S37 133 r (Int32.ofNat (at0 + 4))) ≤ gN S39 ∧ gN S39 ≤ gN (sI S37 133 r (Int32.ofNat (at0 + 4))) + 0 ∧ gZ S39 ≤ gZ (sI S37 133 r (Int32.ofNat (at0 + 4))) + 0) → ((at0 + 5) ≤ sz) → ∀ S41 : zS, ∀ a41 : Nat, ∀ y41 : zNd, ∀ at41 : Nat, ∀ nd41 : Nat, (zFin true S41) → (rec (deep + 1) (at0 + 5) nd37 = .ok (y41, at41, nd41)) → (xFr S39 S41) → (xTl (gN S39) S41 y41 a41) → (xR tp sz S41 r at41 nd41) → (gN S39 ≤ gN S41 ∧ gN S41 + 30 * (sz - at41) ≤ gN S39 + 30 * (sz - (at0 + 5)) ∧ gZ S41 + 150 * (sz - at41) ≤ gZ S39 + 150 * (sz - (at0 + 5))) → (at41 ≤ sz ∧ gN S39 ≤ a41 ∧ a41 < gN S41 ∧ (at0 + 5) < at41 ∧ nd41 ≤ 80) → ∀ S43 : zS, (zFin true S43) → (pWant tp sz 44 at41 = .ok (at41 + 1)) → (xFr S41 S43) → (xR tp sz S43 r (at41 + 1) nd41) → (gN S41 ≤ gN S43 ∧ gN S43 ≤ gN S41 + 0 ∧ gZ S43 ≤ gZ S41 + 0) → ((at41 + 1) ≤ sz) → ∀ S45 : zS, ∀ a45 : Nat, ∀ y45 : zNd, ∀ at45 : Nat, ∀ nd45 : Nat, (zFin true S45) → (rec (deep + 1) (at41 + 1) nd41 = .ok (y45, at45, nd45)) → (xFr S43 S45) → (xTl (gN S43) S45 y45 a45) → (xR tp sz S45 r at45 nd45) → (gN S43 ≤ gN S45 ∧ gN S45 + 30 * (sz - at45) ≤ gN S43 + 30 * (sz - (at41 + 1)) ∧ gZ S45 + 150 * (sz - at45) ≤ gZ S43 + 150 * (sz - (at41 + 1))) → (at45 ≤ sz ∧ gN S43 ≤ a45 ∧ a45 < gN S45 ∧ (at41 + 1) < at45 ∧ nd45 ≤ 80) → ∀ S48 : zS, ∀ q48 : Nat, (zFin true S48) → (pWant tp sz 41 at45 = .error (1, at45)) → (xFr S45 S48) → (xFl S48 q48 1 at45) → (gN S45 ≤ gN S48 ∧ gN S48 ≤ gN S45 + 1 ∧ gZ S48 ≤ gZ S45 + 3) → post (.threw q48, S48)) (h4 : ∀ S37 : zS, ∀ nd37 : Nat, (zFin true S37) → (pRead at0 deep nd false = .ok nd37) → (xFr S S37) → (xR tp sz S37 r at0 nd37) → (gN S ≤ gN S37 ∧ gN S37 ≤ gN S + 0 ∧ gZ S37 ≤ gZ S + 0) → (at0 ≤ sz) → (nd37 ≤ 80) → (deep ≤ 24) → ∀ S39 : zS, (zFin true S39) → (pWant tp sz 40 (at0 + 4) = .ok (at0 + 5)) → (xFr (sI S37 133 r (Int32.ofNat (at0 + 4))) S39) → (xR tp sz S39 r (at0 + 5) nd37) → (gN (sI S37 133 r (Int32.ofNat (at0 + 4))) ≤ gN S39 ∧ gN S39 ≤ gN (sI S37 133 r (Int32.ofNat (at0 + 4))) + 0 ∧ gZ S39 ≤ gZ (sI S37 133 r (Int32.ofNat (at0 + 4))) + 0) → ((at0 + 5) ≤ sz) → ∀ S41 : zS, ∀ a41 : Nat, ∀ y41 : zNd, ∀ at41 : Nat, ∀ nd41 : Nat, (zFin true S41) → (rec (deep + 1) (at0 + 5) nd37 = .ok (y41, at41, nd41)) → (xFr S39 S41) → (xTl (gN S39) S41 y41 a41) → (xR tp sz S41 r at41 nd41) → (gN S39 ≤ gN S41 ∧ gN S41 + 30 * (sz - at41) ≤ gN S39 + 30 * (sz - (at0 + 5)) ∧ gZ S41 + 150 * (sz - at41) ≤ gZ S39 + 150 * (sz - (at0 + 5))) → (at41 ≤ sz ∧ gN S39 ≤ a41 ∧ a41 < gN S41 ∧ (at0 + 5) < at41 ∧ nd41 ≤ 80) → ∀ S43 : zS, (zFin true S43) → (pWant tp sz 44 at41 = .ok (at41 + 1)) → (xFr S41 S43) → (xR tp sz S43 r (at41 + 1) nd41) → (gN S41 ≤ gN S43 ∧ gN S43 ≤ gN S41 + 0 ∧ gZ S43 ≤ gZ S41 + 0) → ((at41 + 1) ≤ sz) → ∀ S46 : zS, ∀ q46 : Nat, ∀ kk46 : Nat, ∀ z46 : Nat, (zFin true S46) → (rec (deep + 1) (at41 + 1) nd41 = .error (kk46, z46)) → (xFr S43 S46) → (xFl S46 q46 kk46 z46) → (gN S43 ≤ gN S46 ∧ gN S46 ≤ gN S43 + 30 * (sz - (at41 + 1)) + 60 ∧ gZ S46 ≤ gZ S43 + 150 * (sz - (at41 + 1)) + 2000) → post (.threw q46, S46)) (h5 : ∀ S37 : zS, ∀ nd37 : Nat, (zFin true S37) → (pRead at0 deep nd false = .ok nd37) → (xFr S S37) → (xR tp sz S37 r at0 nd37) → (gN S ≤ gN S37 ∧ gN S37 ≤ gN S + 0 ∧ gZ S37 ≤ gZ S + 0) → (at0 ≤ sz) → (nd37 ≤ 80) → (deep ≤ 24) → ∀ S39 : zS, (zFin true S39) → (pWant tp sz 40 (at0 + 4) = .ok (at0 + 5)) → (xFr (sI S37 133 r (Int32.ofNat (at0 + 4))) S39) → (xR tp sz S39 r (at0 + 5) nd37) → (gN (sI S37 133 r (Int32.ofNat (at0 + 4))) ≤ gN S39 ∧ gN S39 ≤ gN (sI S37 133 r (Int32.ofNat (at0 + 4))) + 0 ∧ gZ S39 ≤ gZ (sI S37 133 r (Int32.ofNat (at0 + 4))) + 0) → ((at0 + 5) ≤ sz) → ∀ S41 : zS, ∀ a41 : Nat, ∀ y41 : zNd, ∀ at41 : Nat, ∀ nd41 : Nat, (zFin true S41) → (rec (deep + 1) (at0 + 5) nd37 = .ok (y41, at41, nd41)) → (xFr S39 S41) → (xTl (gN S39) S41 y41 a41) → (xR tp sz S41 r at41 nd41) → (gN S39 ≤ gN S41 ∧ gN S41 + 30 * (sz - at41) ≤ gN S39 + 30 * (sz - (at0 + 5)) ∧ gZ S41 + 150 * (sz - at41) ≤ gZ S39 + 150 * (sz - (at0 + 5))) → (at41 ≤ sz ∧ gN S39 ≤ a41 ∧ a41 < gN S41 ∧ (at0 + 5) < at41 ∧ nd41 ≤ 80) → ∀ S44 : zS, ∀ q44 : Nat, (zFin true S44) → (pWant tp sz 44 at41 = .error (1, at41)) → (xFr S41 S44) → (xFl S44 q44 1 at41) → (gN S41 ≤ gN S44 ∧ gN S44 ≤ gN S41 + 1 ∧ gZ S44 ≤ gZ S41 + 3) → post (.threw q44, S44)) (h6 : ∀ S37 : zS, ∀ nd37 : Nat, (zFin true S37) → (pRead at0 deep nd false = .ok nd37) → (xFr S S37) → (xR tp sz S37 r at0 nd37) → (gN S ≤ gN S37 ∧ gN S37 ≤ gN S + 0 ∧ gZ S37 ≤ gZ S + 0) → (at0 ≤ sz) → (nd37 ≤ 80) → (deep ≤ 24) → ∀ S39 : zS, (zFin true S39) → (pWant tp sz 40 (at0 + 4) = .ok (at0 + 5)) → (xFr (sI S37 133 r (Int32.ofNat (at0 + 4))) S39) → (xR tp sz S39 r (at0 + 5) nd37) → (gN (sI S37 133 r (Int32.ofNat (at0 + 4))) ≤ gN S39 ∧ gN S39 ≤ gN (sI S37 133 r (Int32.ofNat (at0 + 4))) + 0 ∧ gZ S39 ≤ gZ (sI S37 133 r (Int32.ofNat (at0 + 4))) + 0) → ((at0 + 5) ≤ sz) → ∀ S42 : zS, ∀ q42 : Nat, ∀ kk42 : Nat, ∀ z42 : Nat, (zFin true S42) → (rec (deep + 1) (at0 + 5) nd37 = .error (kk42, z42)) → (xFr S39 S42) → (xFl S42 q42 kk42 z42) → (gN S39 ≤ gN S42 ∧ gN S42 ≤ gN S39 + 30 * (sz - (at0 + 5)) + 60 ∧ gZ S42 ≤ gZ S39 + 150 * (sz - (at0 + 5)) + 2000) → post (.threw q42, S42)) (h7 : ∀ S37 : zS, ∀ nd37 : Nat, (zFin true S37) → (pRead at0 deep nd false = .ok nd37) → (xFr S S37) → (xR tp sz S37 r at0 nd37) → (gN S ≤ gN S37 ∧ gN S37 ≤ gN S + 0 ∧ gZ S37 ≤ gZ S + 0) → (at0 ≤ sz) → (nd37 ≤ 80) → (deep ≤ 24) → ∀ S40 : zS, ∀ q40 : Nat, (zFin true S40) → (pWant tp sz 40 (at0 + 4) = .error (1, at0 + 4)) → (xFr (sI S37 133 r (Int32.ofNat (at0 + 4))) S40) → (xFl S40 q40 1 (at0 + 4)) → (gN (sI S37 133 r (Int32.ofNat (at0 + 4))) ≤ gN S40 ∧ gN S40 ≤ gN (sI S37 133 r (Int32.ofNat (at0 + 4))) + 1 ∧ gZ S40 ≤ gZ (sI S37 133 r (Int32.ofNat (at0 + 4))) + 3) → post (.threw q40, S40)) (h8 : ∀ S38 : zS, ∀ q38 : Nat, (zFin true S38) → (pRead at0 deep nd false = .error (2, at0)) → (xFr S S38) → (xFl S38 q38 2 at0) → (gN S ≤ gN S38 ∧ gN S38 ≤ gN S + 1 ∧ gZ S38 ≤ gZ S + 3) → post (.threw q38, S38)) : zCall d 266 [.ref r, .int (Int32.ofNat at0), .ref w, .int (Int32.ofNat deep)] S post := by
  have ht : ztab 266 = ztb266 := rfl
  show zEv d 266 0 [.ref r, .int (Int32.ofNat at0), .ref w, .int (Int32.ofNat deep), .retAddr 0, .retAddr 0, .retAddr 0] [] S post
  refine zv_c1 ht rfl rfl ?_
  refine zv_c2 (L' := [.ref r, .int (Int32.ofNat at0), .ref w, .int (Int32.ofNat deep), .int 0, .retAddr 0, .retAddr 0]) ht rfl rfl ?_
  refine zv_c1 ht rfl rfl (zv_c1 ht rfl rfl ?_)
  refine zv_br ht rfl rfl rfl (fun h => absurd h (by decide)) (fun _ => ?_)
  refine zv_c1 ht rfl rfl ?_
  have C2 : ∀ (pst1 : Outcome × zS → Prop), (pst1 (.returned (some (.ref 4294967318)), S)) → zCall (d - 1) 8 [.int 0] S pst1 := by
    intro pst1 k4
    have ht3 : ztab 8 = ztb8 := rfl
    show zEv (d - 1) 8 0 [.int 0] [] S pst1
    refine zv_c1 ht3 rfl rfl ?_
    refine zv_sw ht3 rfl rfl rfl rfl rfl ?_
    refine And.intro (fun _ => ?_) (fun h => absurd (by decide) h)
    refine zv_c1 ht3 rfl rfl ?_
    exact zv_rt ht3 rfl rfl rfl rfl k4
  refine zv_cl ht rfl rfl rfl rfl (by omega) (Nat.le_of_ble_eq_true rfl) (C2 _ ?_)
  show zEv d 266 14 [.ref r, .int (Int32.ofNat at0), .ref w, .int (Int32.ofNat deep), .int 0, .retAddr 0, .retAddr 0] [.ref 4294967318] S post
  refine zv_c1 ht rfl rfl ?_
  refine zv_cl ht rfl rfl rfl (zv_tgv ((zStr.t (xR.lit hR 11 (by decide)))) rfl) (by omega) (Nat.le_of_ble_eq_true rfl) (x_eqW (S := S) hF (by omega) (xR.lit hR 11 (by decide)) hw.1 (v := 0) (zbo_neg (by decide)) ?_)
  show zEv d 266 18 [.ref r, .int (Int32.ofNat at0), .ref w, .int (Int32.ofNat deep), .int 0, .retAddr 0, .retAddr 0] [.int 0] S post
  refine zv_br ht rfl rfl rfl (fun h => absurd h (by decide)) (fun _ => ?_)
  refine zv_c1 ht rfl rfl ?_
  refine zv_c2 (L' := [.ref r, .int (Int32.ofNat at0), .ref w, .int (Int32.ofNat deep), .int 1, .retAddr 0, .retAddr 0]) ht rfl rfl ?_
  refine zv_c1 ht rfl rfl (zv_c1 ht rfl rfl (zv_c1 ht rfl rfl ?_))
  refine zv_br ht rfl rfl rfl (fun h => absurd h (by decide)) (fun _ => ?_)
  refine zv_c1 ht rfl rfl ?_
  have C6 : ∀ (pst5 : Outcome × zS → Prop), (pst5 (.returned (some (.ref 4294967320)), S)) → zCall (d - 1) 8 [.int 1] S pst5 := by
    intro pst5 k8
    have ht7 : ztab 8 = ztb8 := rfl
    show zEv (d - 1) 8 0 [.int 1] [] S pst5
    refine zv_c1 ht7 rfl rfl ?_
    refine zv_sw ht7 rfl rfl rfl rfl rfl ?_
    refine And.intro (fun h => absurd h (by decide)) (fun _ => ?_)
    refine And.intro (fun _ => ?_) (fun h => absurd (by decide) h)
    refine zv_c1 ht7 rfl rfl ?_
    exact zv_rt ht7 rfl rfl rfl rfl k8
  refine zv_cl ht rfl rfl rfl rfl (by omega) (Nat.le_of_ble_eq_true rfl) (C6 _ ?_)
  show zEv d 266 14 [.ref r, .int (Int32.ofNat at0), .ref w, .int (Int32.ofNat deep), .int 1, .retAddr 0, .retAddr 0] [.ref 4294967320] S post
  refine zv_c1 ht rfl rfl ?_
  refine zv_cl ht rfl rfl rfl (zv_tgv ((zStr.t (xR.lit hR 12 (by decide)))) rfl) (by omega) (Nat.le_of_ble_eq_true rfl) (x_eqW (S := S) hF (by omega) (xR.lit hR 12 (by decide)) hw.1 (v := 0) (zbo_neg (by decide)) ?_)
  show zEv d 266 18 [.ref r, .int (Int32.ofNat at0), .ref w, .int (Int32.ofNat deep), .int 1, .retAddr 0, .retAddr 0] [.int 0] S post
  refine zv_br ht rfl rfl rfl (fun h => absurd h (by decide)) (fun _ => ?_)
  refine zv_c1 ht rfl rfl ?_
  refine zv_c2 (L' := [.ref r, .int (Int32.ofNat at0), .ref w, .int (Int32.ofNat deep), .int 2, .retAddr 0, .retAddr 0]) ht rfl rfl ?_
  refine zv_c1 ht rfl rfl (zv_c1 ht rfl rfl (zv_c1 ht rfl rfl ?_))
  refine zv_br ht rfl rfl rfl (fun h => absurd h (by decide)) (fun _ => ?_)
  refine zv_c1 ht rfl rfl ?_
  have C10 : ∀ (pst9 : Outcome × zS → Prop), (pst9 (.returned (some (.ref 4294967322)), S)) → zCall (d - 1) 8 [.int 2] S pst9 := by
    intro pst9 k12
    have ht11 : ztab 8 = ztb8 := rfl
    show zEv (d - 1) 8 0 [.int 2] [] S pst9
    refine zv_c1 ht11 rfl rfl ?_
    refine zv_sw ht11 rfl rfl rfl rfl rfl ?_
    refine And.intro (fun h => absurd h (by decide)) (fun _ => ?_)
    refine And.intro (fun h => absurd h (by decide)) (fun _ => ?_)
    refine And.intro (fun _ => ?_) (fun h => absurd (by decide) h)
    refine zv_c1 ht11 rfl rfl ?_
    exact zv_rt ht11 rfl rfl rfl rfl k12
  refine zv_cl ht rfl rfl rfl rfl (by omega) (Nat.le_of_ble_eq_true rfl) (C10 _ ?_)
  show zEv d 266 14 [.ref r, .int (Int32.ofNat at0), .ref w, .int (Int32.ofNat deep), .int 2, .retAddr 0, .retAddr 0] [.ref 4294967322] S post
  refine zv_c1 ht rfl rfl ?_
  refine zv_cl ht rfl rfl rfl (zv_tgv ((zStr.t (xR.lit hR 13 (by decide)))) rfl) (by omega) (Nat.le_of_ble_eq_true rfl) (x_eqW (S := S) hF (by omega) (xR.lit hR 13 (by decide)) hw.1 (v := 0) (zbo_neg (by decide)) ?_)
  show zEv d 266 18 [.ref r, .int (Int32.ofNat at0), .ref w, .int (Int32.ofNat deep), .int 2, .retAddr 0, .retAddr 0] [.int 0] S post
  refine zv_br ht rfl rfl rfl (fun h => absurd h (by decide)) (fun _ => ?_)
  refine zv_c1 ht rfl rfl ?_
  refine zv_c2 (L' := [.ref r, .int (Int32.ofNat at0), .ref w, .int (Int32.ofNat deep), .int 3, .retAddr 0, .retAddr 0]) ht rfl rfl ?_
  refine zv_c1 ht rfl rfl (zv_c1 ht rfl rfl (zv_c1 ht rfl rfl ?_))
  refine zv_br ht rfl rfl rfl (fun h => absurd h (by decide)) (fun _ => ?_)
  refine zv_c1 ht rfl rfl ?_
  have C14 : ∀ (pst13 : Outcome × zS → Prop), (pst13 (.returned (some (.ref 4294967324)), S)) → zCall (d - 1) 8 [.int 3] S pst13 := by
    intro pst13 k16
    have ht15 : ztab 8 = ztb8 := rfl
    show zEv (d - 1) 8 0 [.int 3] [] S pst13
    refine zv_c1 ht15 rfl rfl ?_
    refine zv_sw ht15 rfl rfl rfl rfl rfl ?_
    refine And.intro (fun h => absurd h (by decide)) (fun _ => ?_)
    refine And.intro (fun h => absurd h (by decide)) (fun _ => ?_)
    refine And.intro (fun h => absurd h (by decide)) (fun _ => ?_)
    refine zv_c1 ht15 rfl rfl ?_
    exact zv_rt ht15 rfl rfl rfl rfl k16
  refine zv_cl ht rfl rfl rfl rfl (by omega) (Nat.le_of_ble_eq_true rfl) (C14 _ ?_)
  show zEv d 266 14 [.ref r, .int (Int32.ofNat at0), .ref w, .int (Int32.ofNat deep), .int 3, .retAddr 0, .retAddr 0] [.ref 4294967324] S post
  refine zv_c1 ht rfl rfl ?_
  refine zv_cl ht rfl rfl rfl (zv_tgv ((zStr.t (xR.lit hR 14 (by decide)))) rfl) (by omega) (Nat.le_of_ble_eq_true rfl) (x_eqW (S := S) hF (by omega) (xR.lit hR 14 (by decide)) hw.1 (v := 0) (zbo_neg (by decide)) ?_)
  show zEv d 266 18 [.ref r, .int (Int32.ofNat at0), .ref w, .int (Int32.ofNat deep), .int 3, .retAddr 0, .retAddr 0] [.int 0] S post
  refine zv_br ht rfl rfl rfl (fun h => absurd h (by decide)) (fun _ => ?_)
  refine zv_c1 ht rfl rfl ?_
  refine zv_c2 (L' := [.ref r, .int (Int32.ofNat at0), .ref w, .int (Int32.ofNat deep), .int 4, .retAddr 0, .retAddr 0]) ht rfl rfl ?_
  refine zv_c1 ht rfl rfl (zv_c1 ht rfl rfl (zv_c1 ht rfl rfl ?_))
  refine zv_br ht rfl rfl rfl (fun _ => ?_) (fun h => absurd (by decide) h)
  refine zv_c1 ht rfl rfl ?_
  refine zv_c2 (L' := [.ref r, .int (Int32.ofNat at0), .ref w, .int (Int32.ofNat deep), .int 0, .retAddr 0, .retAddr 0]) ht rfl rfl ?_
  refine zv_c1 ht rfl rfl (zv_c1 ht rfl rfl ?_)
  refine zv_br ht rfl rfl rfl (fun h => absurd h (by decide)) (fun _ => ?_)
  refine zv_c1 ht rfl rfl ?_
  have C18 : ∀ (pst17 : Outcome × zS → Prop), (pst17 (.returned (some (.ref 4294967342)), S)) → zCall (d - 1) 11 [.int 0] S pst17 := by
    intro pst17 k20
    have ht19 : ztab 11 = ztb11 := rfl
    show zEv (d - 1) 11 0 [.int 0] [] S pst17
    refine zv_c1 ht19 rfl rfl ?_
    refine zv_sw ht19 rfl rfl rfl rfl rfl ?_
    refine And.intro (fun _ => ?_) (fun h => absurd (by decide) h)
    refine zv_c1 ht19 rfl rfl ?_
    exact zv_rt ht19 rfl rfl rfl rfl k20
  refine zv_cl ht rfl rfl rfl rfl (by omega) (Nat.le_of_ble_eq_true rfl) (C18 _ ?_)
  show zEv d 266 73 [.ref r, .int (Int32.ofNat at0), .ref w, .int (Int32.ofNat deep), .int 0, .retAddr 0, .retAddr 0] [.ref 4294967342] S post
  refine zv_c1 ht rfl rfl ?_
  refine zv_cl ht rfl rfl rfl (zv_tgv ((zStr.t (xR.lit hR 23 (by decide)))) rfl) (by omega) (Nat.le_of_ble_eq_true rfl) (x_eqW (S := S) hF (by omega) (xR.lit hR 23 (by decide)) hw.1 (v := 0) (zbo_neg (by decide)) ?_)
  show zEv d 266 77 [.ref r, .int (Int32.ofNat at0), .ref w, .int (Int32.ofNat deep), .int 0, .retAddr 0, .retAddr 0] [.int 0] S post
  refine zv_br ht rfl rfl rfl (fun h => absurd h (by decide)) (fun _ => ?_)
  refine zv_c1 ht rfl rfl ?_
  refine zv_c2 (L' := [.ref r, .int (Int32.ofNat at0), .ref w, .int (Int32.ofNat deep), .int 1, .retAddr 0, .retAddr 0]) ht rfl rfl ?_
  refine zv_c1 ht rfl rfl (zv_c1 ht rfl rfl (zv_c1 ht rfl rfl ?_))
  refine zv_br ht rfl rfl rfl (fun h => absurd h (by decide)) (fun _ => ?_)
  refine zv_c1 ht rfl rfl ?_
  have C22 : ∀ (pst21 : Outcome × zS → Prop), (pst21 (.returned (some (.ref 4294967344)), S)) → zCall (d - 1) 11 [.int 1] S pst21 := by
    intro pst21 k24
    have ht23 : ztab 11 = ztb11 := rfl
    show zEv (d - 1) 11 0 [.int 1] [] S pst21
    refine zv_c1 ht23 rfl rfl ?_
    refine zv_sw ht23 rfl rfl rfl rfl rfl ?_
    refine And.intro (fun h => absurd h (by decide)) (fun _ => ?_)
    refine And.intro (fun _ => ?_) (fun h => absurd (by decide) h)
    refine zv_c1 ht23 rfl rfl ?_
    exact zv_rt ht23 rfl rfl rfl rfl k24
  refine zv_cl ht rfl rfl rfl rfl (by omega) (Nat.le_of_ble_eq_true rfl) (C22 _ ?_)
  show zEv d 266 73 [.ref r, .int (Int32.ofNat at0), .ref w, .int (Int32.ofNat deep), .int 1, .retAddr 0, .retAddr 0] [.ref 4294967344] S post
  refine zv_c1 ht rfl rfl ?_
  refine zv_cl ht rfl rfl rfl (zv_tgv ((zStr.t (xR.lit hR 24 (by decide)))) rfl) (by omega) (Nat.le_of_ble_eq_true rfl) (x_eqW (S := S) hF (by omega) (xR.lit hR 24 (by decide)) hw.1 (v := 0) (zbo_neg (by decide)) ?_)
  show zEv d 266 77 [.ref r, .int (Int32.ofNat at0), .ref w, .int (Int32.ofNat deep), .int 1, .retAddr 0, .retAddr 0] [.int 0] S post
  refine zv_br ht rfl rfl rfl (fun h => absurd h (by decide)) (fun _ => ?_)
  refine zv_c1 ht rfl rfl ?_
  refine zv_c2 (L' := [.ref r, .int (Int32.ofNat at0), .ref w, .int (Int32.ofNat deep), .int 2, .retAddr 0, .retAddr 0]) ht rfl rfl ?_
  refine zv_c1 ht rfl rfl (zv_c1 ht rfl rfl (zv_c1 ht rfl rfl ?_))
  refine zv_br ht rfl rfl rfl (fun h => absurd h (by decide)) (fun _ => ?_)
  refine zv_c1 ht rfl rfl ?_
  have C26 : ∀ (pst25 : Outcome × zS → Prop), (pst25 (.returned (some (.ref 4294967346)), S)) → zCall (d - 1) 11 [.int 2] S pst25 := by
    intro pst25 k28
    have ht27 : ztab 11 = ztb11 := rfl
    show zEv (d - 1) 11 0 [.int 2] [] S pst25
    refine zv_c1 ht27 rfl rfl ?_
    refine zv_sw ht27 rfl rfl rfl rfl rfl ?_
    refine And.intro (fun h => absurd h (by decide)) (fun _ => ?_)
    refine And.intro (fun h => absurd h (by decide)) (fun _ => ?_)
    refine And.intro (fun _ => ?_) (fun h => absurd (by decide) h)
    refine zv_c1 ht27 rfl rfl ?_
    exact zv_rt ht27 rfl rfl rfl rfl k28
  refine zv_cl ht rfl rfl rfl rfl (by omega) (Nat.le_of_ble_eq_true rfl) (C26 _ ?_)
  show zEv d 266 73 [.ref r, .int (Int32.ofNat at0), .ref w, .int (Int32.ofNat deep), .int 2, .retAddr 0, .retAddr 0] [.ref 4294967346] S post
  refine zv_c1 ht rfl rfl ?_
  refine zv_cl ht rfl rfl rfl (zv_tgv ((zStr.t (xR.lit hR 25 (by decide)))) rfl) (by omega) (Nat.le_of_ble_eq_true rfl) (x_eqW (S := S) hF (by omega) (xR.lit hR 25 (by decide)) hw.1 (v := 0) (zbo_neg (by decide)) ?_)
  show zEv d 266 77 [.ref r, .int (Int32.ofNat at0), .ref w, .int (Int32.ofNat deep), .int 2, .retAddr 0, .retAddr 0] [.int 0] S post
  refine zv_br ht rfl rfl rfl (fun h => absurd h (by decide)) (fun _ => ?_)
  refine zv_c1 ht rfl rfl ?_
  refine zv_c2 (L' := [.ref r, .int (Int32.ofNat at0), .ref w, .int (Int32.ofNat deep), .int 3, .retAddr 0, .retAddr 0]) ht rfl rfl ?_
  refine zv_c1 ht rfl rfl (zv_c1 ht rfl rfl (zv_c1 ht rfl rfl ?_))
  refine zv_br ht rfl rfl rfl (fun h => absurd h (by decide)) (fun _ => ?_)
  refine zv_c1 ht rfl rfl ?_
  have C30 : ∀ (pst29 : Outcome × zS → Prop), (pst29 (.returned (some (.ref 4294967348)), S)) → zCall (d - 1) 11 [.int 3] S pst29 := by
    intro pst29 k32
    have ht31 : ztab 11 = ztb11 := rfl
    show zEv (d - 1) 11 0 [.int 3] [] S pst29
    refine zv_c1 ht31 rfl rfl ?_
    refine zv_sw ht31 rfl rfl rfl rfl rfl ?_
    refine And.intro (fun h => absurd h (by decide)) (fun _ => ?_)
    refine And.intro (fun h => absurd h (by decide)) (fun _ => ?_)
    refine And.intro (fun h => absurd h (by decide)) (fun _ => ?_)
    refine And.intro (fun _ => ?_) (fun h => absurd (by decide) h)
    refine zv_c1 ht31 rfl rfl ?_
    exact zv_rt ht31 rfl rfl rfl rfl k32
  refine zv_cl ht rfl rfl rfl rfl (by omega) (Nat.le_of_ble_eq_true rfl) (C30 _ ?_)
  show zEv d 266 73 [.ref r, .int (Int32.ofNat at0), .ref w, .int (Int32.ofNat deep), .int 3, .retAddr 0, .retAddr 0] [.ref 4294967348] S post
  refine zv_c1 ht rfl rfl ?_
  refine zv_cl ht rfl rfl rfl (zv_tgv ((zStr.t (xR.lit hR 26 (by decide)))) rfl) (by omega) (Nat.le_of_ble_eq_true rfl) (x_eqW (S := S) hF (by omega) (xR.lit hR 26 (by decide)) hw.1 (v := 0) (zbo_neg (by decide)) ?_)
  show zEv d 266 77 [.ref r, .int (Int32.ofNat at0), .ref w, .int (Int32.ofNat deep), .int 3, .retAddr 0, .retAddr 0] [.int 0] S post
  refine zv_br ht rfl rfl rfl (fun h => absurd h (by decide)) (fun _ => ?_)
  refine zv_c1 ht rfl rfl ?_
  refine zv_c2 (L' := [.ref r, .int (Int32.ofNat at0), .ref w, .int (Int32.ofNat deep), .int 4, .retAddr 0, .retAddr 0]) ht rfl rfl ?_
  refine zv_c1 ht rfl rfl (zv_c1 ht rfl rfl (zv_c1 ht rfl rfl ?_))
  refine zv_br ht rfl rfl rfl (fun h => absurd h (by decide)) (fun _ => ?_)
  refine zv_c1 ht rfl rfl ?_
  have C34 : ∀ (pst33 : Outcome × zS → Prop), (pst33 (.returned (some (.ref 4294967350)), S)) → zCall (d - 1) 11 [.int 4] S pst33 := by
    intro pst33 k36
    have ht35 : ztab 11 = ztb11 := rfl
    show zEv (d - 1) 11 0 [.int 4] [] S pst33
    refine zv_c1 ht35 rfl rfl ?_
    refine zv_sw ht35 rfl rfl rfl rfl rfl ?_
    refine And.intro (fun h => absurd h (by decide)) (fun _ => ?_)
    refine And.intro (fun h => absurd h (by decide)) (fun _ => ?_)
    refine And.intro (fun h => absurd h (by decide)) (fun _ => ?_)
    refine And.intro (fun h => absurd h (by decide)) (fun _ => ?_)
    refine And.intro (fun _ => ?_) (fun h => absurd (by decide) h)
    refine zv_c1 ht35 rfl rfl ?_
    exact zv_rt ht35 rfl rfl rfl rfl k36
  refine zv_cl ht rfl rfl rfl rfl (by omega) (Nat.le_of_ble_eq_true rfl) (C34 _ ?_)
  show zEv d 266 73 [.ref r, .int (Int32.ofNat at0), .ref w, .int (Int32.ofNat deep), .int 4, .retAddr 0, .retAddr 0] [.ref 4294967350] S post
  refine zv_c1 ht rfl rfl ?_
  refine zv_cl ht rfl rfl rfl (zv_tgv ((zStr.t (xR.lit hR 27 (by decide)))) rfl) (by omega) (Nat.le_of_ble_eq_true rfl) (x_eqW (S := S) hF (by omega) (xR.lit hR 27 (by decide)) hw.1 (v := 1) (zbo_pos rfl) ?_)
  show zEv d 266 77 [.ref r, .int (Int32.ofNat at0), .ref w, .int (Int32.ofNat deep), .int 4, .retAddr 0, .retAddr 0] [.int 1] S post
  refine zv_br ht rfl rfl rfl (fun _ => ?_) (fun h => absurd (by decide) h)
  refine zv_c1 ht rfl rfl (zv_c1 ht rfl rfl (zv_c1 ht rfl rfl (zv_c1 ht rfl rfl ?_)))
  refine zv_cl ht rfl rfl rfl (zv_tgv (hR.1.2.2.2.1) rfl) (by omega) (Nat.le_of_ble_eq_true rfl) (x_begins (S := S) (tp := tp) (sz := sz) (r := r) (p := at0) (dp := deep) (m := 1) (dq := deep) (two := false) hF (by omega) hR (by omega) (by omega) (by omega) (by omega) rfl rfl (fun S37 nd37 hF37 e37 k37 p37 g37 b37 c37 d37 => ?_) (fun S38 q38 hF38 e38 k38 x38 g38 => ?_))
  · show zEv d 266 90 [.ref r, .int (Int32.ofNat at0), .ref w, .int (Int32.ofNat deep), .int 4, .retAddr 0, .retAddr 0] [] S37 post
    refine zv_c1 ht rfl rfl (zv_c1 ht rfl rfl ?_)
    refine zv_ei (x := Int32.ofNat at0) ht rfl rfl (zhas_of (p37.1.2.2.2.1) rfl) p37.1.1 ?_
    refine zv_c1 ht rfl rfl ?_
    refine zv_cl ht rfl rfl rfl (zv_tgv (Eq.trans (zKE.T k37 (Or.inl (show w < gN S from by omega))) (zStr.t hw.1)) rfl) (by omega) (Nat.le_of_ble_eq_true rfl) (x_len (S := S37) hF37 (by omega) (xWd.k hw (zKE.tr zKE.rf (zKE.w k37 (show gN S ≤ gN S from by omega) (fun _ h => h) (fun _ h => h)))).1 (n := 4) (by decide) ?_)
    show zEv d 266 99 [.ref r, .int (Int32.ofNat at0), .ref w, .int (Int32.ofNat deep), .int 4, .retAddr 0, .retAddr 0] [.int 4, .int (Int32.ofNat at0), .ref r] S37 post
    refine zv_e1 (x := Int32.ofNat (at0 + 4)) ht rfl rfl (zi_addE (a := at0) (b := 4) rfl rfl) ?_
    refine zv_ci (S' := sI S37 133 r (Int32.ofNat (at0 + 4))) ht rfl rfl ⟨(zhas_of (p37.1.2.2.2.1) rfl), (show r < gN S37 from by omega)⟩ ?_
    refine zv_c1 ht rfl rfl (zv_c1 ht rfl rfl ?_)
    refine zv_cl ht rfl rfl rfl (zv_tgv (p37.1.2.2.2.1) rfl) (by omega) (Nat.le_of_ble_eq_true rfl) (x_take (S := sI S37 133 r (Int32.ofNat (at0 + 4))) (tp := tp) (sz := sz) (r := r) (w := 40) hF37 (by omega) (xR_at p37 (by omega)) (by omega) (by omega) (by omega) (fun S39 hF39 e39 k39 p39 g39 b39 => ?_) (fun S40 q40 hF40 e40 k40 x40 g40 => ?_))
    · show zEv d 266 109 [.ref r, .int (Int32.ofNat at0), .ref w, .int (Int32.ofNat deep), .int 4, .retAddr 0, .retAddr 0] [] S39 post
      refine zv_c1 ht rfl rfl (zv_c1 ht rfl rfl (zv_c1 ht rfl rfl ?_))
      refine zv_e1 (x := Int32.ofNat (deep + 1)) ht rfl rfl (zi_addE (a := deep) (b := 1) rfl rfl) ?_
      refine zv_cl ht rfl rfl rfl (zv_tgv (p39.1.2.2.2.1) rfl) (by omega) (Nat.le_of_ble_eq_true rfl) (xEnd.useM (g := gN S39) (z := gZ S39) rfl rfl (fun q hq => hmono _ _ _ q (by omega) hq) (xRd.use (hRd (deep + 1) _ (by omega) rfl (by omega)) (S := S39) (r := r) hF39 p39 (by omega) (by omega)) (fun S41 a41 y41 at41 nd41 hF41 e41 k41 t41 p41 g41 c41 => ?_) (fun S42 q42 kk42 z42 hF42 e42 k42 x42 g42 => ?_))
      · show zEv d 266 116 [.ref r, .int (Int32.ofNat at0), .ref w, .int (Int32.ofNat deep), .int 4, .retAddr 0, .retAddr 0] [.ref a41] S41 post
        refine zv_c2 (L' := [.ref r, .int (Int32.ofNat at0), .ref w, .int (Int32.ofNat deep), .int 4, .ref a41, .retAddr 0]) ht rfl rfl ?_
        refine zv_c1 ht rfl rfl (zv_c1 ht rfl rfl ?_)
        refine zv_cl ht rfl rfl rfl (zv_tgv (p41.1.2.2.2.1) rfl) (by omega) (Nat.le_of_ble_eq_true rfl) (x_take (S := S41) (tp := tp) (sz := sz) (r := r) (w := 44) hF41 (by omega) p41 (by omega) (by omega) (by omega) (fun S43 hF43 e43 k43 p43 g43 b43 => ?_) (fun S44 q44 hF44 e44 k44 x44 g44 => ?_))
        · show zEv d 266 124 [.ref r, .int (Int32.ofNat at0), .ref w, .int (Int32.ofNat deep), .int 4, .ref a41, .retAddr 0] [] S43 post
          refine zv_c1 ht rfl rfl (zv_c1 ht rfl rfl (zv_c1 ht rfl rfl ?_))
          refine zv_e1 (x := Int32.ofNat (deep + 1)) ht rfl rfl (zi_addE (a := deep) (b := 1) rfl rfl) ?_
          refine zv_cl ht rfl rfl rfl (zv_tgv (p43.1.2.2.2.1) rfl) (by omega) (Nat.le_of_ble_eq_true rfl) (xEnd.useM (g := gN S43) (z := gZ S43) rfl rfl (fun q hq => hmono _ _ _ q (by omega) hq) (xRd.use (hRd (deep + 1) _ (by omega) rfl (by omega)) (S := S43) (r := r) hF43 p43 (by omega) (by omega)) (fun S45 a45 y45 at45 nd45 hF45 e45 k45 t45 p45 g45 c45 => ?_) (fun S46 q46 kk46 z46 hF46 e46 k46 x46 g46 => ?_))
          · show zEv d 266 131 [.ref r, .int (Int32.ofNat at0), .ref w, .int (Int32.ofNat deep), .int 4, .ref a41, .retAddr 0] [.ref a45] S45 post
            refine zv_c2 (L' := [.ref r, .int (Int32.ofNat at0), .ref w, .int (Int32.ofNat deep), .int 4, .ref a41, .ref a45]) ht rfl rfl ?_
            refine zv_c1 ht rfl rfl (zv_c1 ht rfl rfl ?_)
            refine zv_cl ht rfl rfl rfl (zv_tgv (p45.1.2.2.2.1) rfl) (by omega) (Nat.le_of_ble_eq_true rfl) (x_take (S := S45) (tp := tp) (sz := sz) (r := r) (w := 41) hF45 (by omega) p45 (by omega) (by omega) (by omega) (fun S47 hF47 e47 k47 p47 g47 b47 => ?_) (fun S48 q48 hF48 e48 k48 x48 g48 => ?_))
            · show zEv d 266 139 [.ref r, .int (Int32.ofNat at0), .ref w, .int (Int32.ofNat deep), .int 4, .ref a41, .ref a45] [] S47 post
              refine zv_c1 ht rfl rfl ?_
              refine zv_ci (st' := [.ref (gN S47), .ref r]) (S' := sNew S47 20 0 (zslots 20)) ht rfl rfl (znew_ok (show 1639 ≤ gN S47 from by omega) (show gN S47 < 2000000 from by omega)) ?_
              refine zv_c1 ht rfl rfl (zv_c1 ht rfl rfl ?_)
              refine zv_g3 (q := 0) ht rfl (zFin_new hF47) rfl rfl (zhas_of (Eq.trans (ztyp_new (S := S47) (t := 20) (n := 0) (s := zslots 20) (show r ≠ gN S47 from by omega)) p47.1.2.2.2.1) rfl) (Eq.trans (gP_new (S := S47) (t := 20) (n := 0) (s := zslots 20) (show r ≠ gN S47 from by omega)) p47.1.2.2.2.2) ?_
              refine zv_c1 ht rfl rfl (zv_c1 ht rfl rfl (zv_c1 ht rfl rfl (zv_c1 ht rfl rfl ?_)))
              have C50 : ∀ (pst49 : Outcome × zS → Prop), (pst49 (.returned none, sP (sP (sI (sI (sP (sNew S47 20 0 (zslots 20)) 190 (gN S47) (some 0)) 144 (gN S47) (Int32.ofNat at0)) 187 (gN S47) 4) 188 (gN S47) (some a41)) 189 (gN S47) (some a45))) → zCall (d - 1) 373 [.ref (gN S47), .ref 0, .int (Int32.ofNat at0), .int 4, .ref a41, .ref a45] (sNew S47 20 0 (zslots 20)) pst49 := by
                intro pst49 k56
                have ht51 : ztab 373 = ztb373 := rfl
                show zEv (d - 1) 373 0 [.ref (gN S47), .ref 0, .int (Int32.ofNat at0), .int 4, .ref a41, .ref a45] [] (sNew S47 20 0 (zslots 20)) pst49
                refine zv_c1 ht51 rfl rfl (zv_c1 ht51 rfl rfl ?_)
                refine zv_ci (S' := sP (sNew S47 20 0 (zslots 20)) 190 (gN S47) (some 0)) ht51 rfl rfl ⟨(zhas_of (ztyp_new_at (S := S47) (t := 20) (n := 0) (s := zslots 20) (show 1639 ≤ gN S47 from by omega)) rfl), (show gN S47 < gN S47 + 1 from by omega)⟩ ?_
                refine zv_c1 ht51 rfl rfl (zv_c1 ht51 rfl rfl (zv_c1 ht51 rfl rfl ?_))
                have C53 : ∀ (pst52 : Outcome × zS → Prop), (pst52 (.returned none, sI (sP (sNew S47 20 0 (zslots 20)) 190 (gN S47) (some 0)) 144 (gN S47) (Int32.ofNat at0))) → zCall ((d - 1) - 1) 280 [.ref (gN S47), .ref 0, .int (Int32.ofNat at0)] (sP (sNew S47 20 0 (zslots 20)) 190 (gN S47) (some 0)) pst52 := by
                  intro pst52 k55
                  have ht54 : ztab 280 = ztb280 := rfl
                  show zEv ((d - 1) - 1) 280 0 [.ref (gN S47), .ref 0, .int (Int32.ofNat at0)] [] (sP (sNew S47 20 0 (zslots 20)) 190 (gN S47) (some 0)) pst52
                  refine zv_c1 ht54 rfl rfl (zv_c1 ht54 rfl rfl ?_)
                  refine zv_ci (S' := sP (sNew S47 20 0 (zslots 20)) 190 (gN S47) (some 0)) ht54 rfl rfl (zk5 (ztyp_new_at (S := S47) (t := 20) (n := 0) (s := zslots 20) (show 1639 ≤ gN S47 from by omega)) rfl (show gN S47 < gN S47 + 1 from by omega) rfl gP_sP_at) ?_
                  refine zv_c1 ht54 rfl rfl (zv_c1 ht54 rfl rfl (zv_c1 ht54 rfl rfl (zv_c1 ht54 rfl rfl ?_)))
                  refine zv_ci (S' := sI (sP (sNew S47 20 0 (zslots 20)) 190 (gN S47) (some 0)) 144 (gN S47) (Int32.ofNat at0)) ht54 rfl rfl ⟨(zhas_of (ztyp_new_at (S := S47) (t := 20) (n := 0) (s := zslots 20) (show 1639 ≤ gN S47 from by omega)) rfl), (show gN S47 < gN S47 + 1 from by omega)⟩ ?_
                  exact zv_rt ht54 rfl rfl rfl rfl k55
                refine zv_cl ht51 rfl rfl rfl rfl (by omega) (Nat.le_of_ble_eq_true rfl) (C53 _ ?_)
                show zEv (d - 1) 373 11 [.ref (gN S47), .ref 0, .int (Int32.ofNat at0), .int 4, .ref a41, .ref a45] [] (sI (sP (sNew S47 20 0 (zslots 20)) 190 (gN S47) (some 0)) 144 (gN S47) (Int32.ofNat at0)) pst49
                refine zv_c1 ht51 rfl rfl (zv_c1 ht51 rfl rfl ?_)
                refine zv_ci (S' := sI (sI (sP (sNew S47 20 0 (zslots 20)) 190 (gN S47) (some 0)) 144 (gN S47) (Int32.ofNat at0)) 187 (gN S47) 4) ht51 rfl rfl ⟨(zhas_of (ztyp_new_at (S := S47) (t := 20) (n := 0) (s := zslots 20) (show 1639 ≤ gN S47 from by omega)) rfl), (show gN S47 < gN S47 + 1 from by omega)⟩ ?_
                refine zv_c1 ht51 rfl rfl (zv_c1 ht51 rfl rfl ?_)
                refine zv_ci (S' := sP (sI (sI (sP (sNew S47 20 0 (zslots 20)) 190 (gN S47) (some 0)) 144 (gN S47) (Int32.ofNat at0)) 187 (gN S47) 4) 188 (gN S47) (some a41)) ht51 rfl rfl ⟨(zhas_of (ztyp_new_at (S := S47) (t := 20) (n := 0) (s := zslots 20) (show 1639 ≤ gN S47 from by omega)) rfl), (show gN S47 < gN S47 + 1 from by omega)⟩ ?_
                refine zv_c1 ht51 rfl rfl (zv_c1 ht51 rfl rfl ?_)
                refine zv_ci (S' := sP (sP (sI (sI (sP (sNew S47 20 0 (zslots 20)) 190 (gN S47) (some 0)) 144 (gN S47) (Int32.ofNat at0)) 187 (gN S47) 4) 188 (gN S47) (some a41)) 189 (gN S47) (some a45)) ht51 rfl rfl ⟨(zhas_of (ztyp_new_at (S := S47) (t := 20) (n := 0) (s := zslots 20) (show 1639 ≤ gN S47 from by omega)) rfl), (show gN S47 < gN S47 + 1 from by omega)⟩ ?_
                exact zv_rt ht51 rfl rfl rfl rfl k56
              refine zv_cl ht rfl rfl rfl rfl (by omega) (Nat.le_of_ble_eq_true rfl) (C50 _ ?_)
              show zEv d 266 158 [.ref r, .int (Int32.ofNat at0), .ref w, .int (Int32.ofNat deep), .int 4, .ref a41, .ref a45] [.ref (gN S47), .ref r] (sP (sP (sI (sI (sP (sNew S47 20 0 (zslots 20)) 190 (gN S47) (some 0)) 144 (gN S47) (Int32.ofNat at0)) 187 (gN S47) 4) 188 (gN S47) (some a41)) 189 (gN S47) (some a45)) post
              have C58 : ∀ (pst57 : Outcome × zS → Prop), (∀ S60 : zS, (zFin true S60) → (pJ (tN 15 0 [] at0 [y41, y45]) = .ok (tN 15 0 [] at0 [y41, y45])) → (xJd (sP (sP (sI (sI (sP (sNew S47 20 0 (zslots 20)) 190 (gN S47) (some 0)) 144 (gN S47) (Int32.ofNat at0)) 187 (gN S47) 4) 188 (gN S47) (some a41)) 189 (gN S47) (some a45)) (gN S47) S60) → (xTl (gN S) S60 (tN 15 0 [] at0 [y41, y45]) (gN S47)) → (xR tp sz S60 r (at45 + 1) nd45) → (gN S60 = gN S47 + 1 ∧ gZ S60 = gZ S47 + 20) → pst57 (.returned (some (.ref (gN S47))), S60)) → (∀ S61 : zS, ∀ q61 : Nat, (zFin true S61) → (pJ (tN 15 0 [] at0 [y41, y45]) = .error (3, at0)) → (xFn (sP (sP (sI (sI (sP (sNew S47 20 0 (zslots 20)) 190 (gN S47) (some 0)) 144 (gN S47) (Int32.ofNat at0)) 187 (gN S47) 4) 188 (gN S47) (some a41)) 189 (gN S47) (some a45)) (gN S47) S61) → (xFl S61 q61 3 at0) → (gN S61 = gN S47 + 1 + 1 ∧ gZ S61 ≤ gZ S47 + 20 + 3) → pst57 (.threw q61, S61)) → zCall (d - 1) 253 [.ref r, .ref (gN S47)] (sP (sP (sI (sI (sP (sNew S47 20 0 (zslots 20)) 190 (gN S47) (some 0)) 144 (gN S47) (Int32.ofNat at0)) 187 (gN S47) 4) 188 (gN S47) (some a41)) 189 (gN S47) (some a45)) pst57 := by
                intro pst57 k62 k63
                have ht59 : ztab 253 = ztb253 := rfl
                show zEv (d - 1) 253 0 [.ref r, .ref (gN S47)] [] (sP (sP (sI (sI (sP (sNew S47 20 0 (zslots 20)) 190 (gN S47) (some 0)) 144 (gN S47) (Int32.ofNat at0)) 187 (gN S47) 4) 188 (gN S47) (some a41)) 189 (gN S47) (some a45)) pst57
                refine zv_c1 ht59 rfl rfl ?_
                refine zv_cl ht59 rfl rfl rfl (zv_tgm (ztyp_new_at (S := S47) (t := 20) (n := 0) (s := zslots 20) (show 1639 ≤ gN S47 from by omega)) rfl) (by omega) (Nat.le_of_ble_eq_true rfl) (x_judgeR (S := sP (sP (sI (sI (sP (sNew S47 20 0 (zslots 20)) 190 (gN S47) (some 0)) 144 (gN S47) (Int32.ofNat at0)) 187 (gN S47) 4) 188 (gN S47) (some a41)) 189 (gN S47) (some a45)) (tp := tp) (sz := sz) (r := r) (a := gN S47) (k := 15) (v := 0) (p := at0) (ks := []) (js := [a41, a45]) (cs := [y41, y45]) (g := gN S47 + 1) (lo := gN S) (zFin_sP (zFin_sP (zFin_sP (zFin_new hF47) rfl) rfl) rfl) (by omega) (by omega) (by omega) (by omega) (by omega) rfl (xOwn_P (by decide) (ztyp_new_at (S := S47) (t := 20) (n := 0) (s := zslots 20) (show 1639 ≤ gN S47 from by omega)) (gI_sI_at) (gP_sP_at) (gP_sP_at)) ⟨a41, _, rfl, (xTl.ch t41 (zKE.tr (zKE.tr (zKE.tr (zKE.tr (zKE.tr (zKE.tr (zKE.tr (zKE.tr (zKE.tr zKE.rf (zKE.w k43 (show gN S41 ≤ gN S41 from by omega) (fun _ h => h) (fun _ h => h))) (zKE.w k45 (show gN S41 ≤ gN S43 from by omega) (fun _ h => h) (fun _ h => h))) (zKE.w k47 (show gN S41 ≤ gN S45 from by omega) (fun _ h => h) (fun _ h => h))) (zKE_new (show gN S41 ≤ gN S47 ∧ gN S47 < zLB from ⟨by omega, by have hLB : zLB = 4294967296 := rfl; omega⟩))) (zKE_sP (Or.inr (Or.inr ⟨by omega, by have hLB : zLB = 4294967296 := rfl; omega⟩)))) (zKE_sI (Or.inr (Or.inr ⟨by omega, by have hLB : zLB = 4294967296 := rfl; omega⟩)))) (zKE_sI (Or.inr (Or.inr ⟨by omega, by have hLB : zLB = 4294967296 := rfl; omega⟩)))) (zKE_sP (Or.inr (Or.inr ⟨by omega, by have hLB : zLB = 4294967296 := rfl; omega⟩)))) (zKE_sP (Or.inr (Or.inr ⟨by omega, by have hLB : zLB = 4294967296 := rfl; omega⟩)))) (by omega) (by intro j h1 h2; omega)), ⟨a45, _, rfl, (xTl.ch t45 (zKE.tr (zKE.tr (zKE.tr (zKE.tr (zKE.tr (zKE.tr (zKE.tr zKE.rf (zKE.w k47 (show gN S45 ≤ gN S45 from by omega) (fun _ h => h) (fun _ h => h))) (zKE_new (show gN S45 ≤ gN S47 ∧ gN S47 < zLB from ⟨by omega, by have hLB : zLB = 4294967296 := rfl; omega⟩))) (zKE_sP (Or.inr (Or.inr ⟨by omega, by have hLB : zLB = 4294967296 := rfl; omega⟩)))) (zKE_sI (Or.inr (Or.inr ⟨by omega, by have hLB : zLB = 4294967296 := rfl; omega⟩)))) (zKE_sI (Or.inr (Or.inr ⟨by omega, by have hLB : zLB = 4294967296 := rfl; omega⟩)))) (zKE_sP (Or.inr (Or.inr ⟨by omega, by have hLB : zLB = 4294967296 := rfl; omega⟩)))) (zKE_sP (Or.inr (Or.inr ⟨by omega, by have hLB : zLB = 4294967296 := rfl; omega⟩)))) (by omega) (by intro j h1 h2; omega)), rfl⟩⟩ (by decide) (by omega) (gI_sI_at) (gI_new_at (S := S47) (t := 20) (n := 0) (s := zslots 20)) (gI_new_at (S := S47) (t := 20) (n := 0) (s := zslots 20)) (xR.ke (Fs := []) p47 (zKE.tr (zKE.tr (zKE.tr (zKE.tr (zKE.tr (zKE.tr zKE.rf (zKE_new (show gN S47 ≤ gN S47 ∧ gN S47 < zLB from ⟨by omega, by have hLB : zLB = 4294967296 := rfl; omega⟩))) (zKE_sP (Or.inr (Or.inr ⟨by omega, by have hLB : zLB = 4294967296 := rfl; omega⟩)))) (zKE_sI (Or.inr (Or.inr ⟨by omega, by have hLB : zLB = 4294967296 := rfl; omega⟩)))) (zKE_sI (Or.inr (Or.inr ⟨by omega, by have hLB : zLB = 4294967296 := rfl; omega⟩)))) (zKE_sP (Or.inr (Or.inr ⟨by omega, by have hLB : zLB = 4294967296 := rfl; omega⟩)))) (zKE_sP (Or.inr (Or.inr ⟨by omega, by have hLB : zLB = 4294967296 := rfl; omega⟩)))) (by omega) (by decide)) (by omega) (fun S60 hF60 e60 j60 t60 p60 g60 => ?_) (fun S61 q61 hF61 e61 k61 x61 g61 => ?_))
                · show zEv (d - 1) 253 4 [.ref r, .ref (gN S47)] [] S60 pst57
                  refine zv_c1 ht59 rfl rfl ?_
                  exact zv_rt ht59 rfl rfl rfl rfl (k62 S60 hF60 e60 j60 t60 p60 g60)
                · exact (k63 S61 q61 hF61 e61 k61 x61 g61)
              refine zv_cl ht rfl rfl rfl (zv_tgv (Eq.trans (ztyp_new (S := S47) (t := 20) (n := 0) (s := zslots 20) (show r ≠ gN S47 from by omega)) p47.1.2.2.2.1) rfl) (by omega) (Nat.le_of_ble_eq_true rfl) (C58 _ (fun S60 hF60 e60 j60 t60 p60 g60 => ?_) (fun S61 q61 hF61 e61 k61 x61 g61 => ?_))
              · show zEv d 266 161 [.ref r, .int (Int32.ofNat at0), .ref w, .int (Int32.ofNat deep), .int 4, .ref a41, .ref a45] [.ref (gN S47)] S60 post
                exact zv_rt ht rfl rfl rfl rfl (h1 S37 nd37 hF37 e37 k37 p37 g37 b37 c37 d37 S39 hF39 e39 k39 p39 g39 b39 S41 a41 y41 at41 nd41 hF41 e41 k41 t41 p41 g41 c41 S43 hF43 e43 k43 p43 g43 b43 S45 a45 y45 at45 nd45 hF45 e45 k45 t45 p45 g45 c45 S47 hF47 e47 k47 p47 g47 b47 S60 hF60 e60 j60 t60 p60 g60)
              · exact (h2 S37 nd37 hF37 e37 k37 p37 g37 b37 c37 d37 S39 hF39 e39 k39 p39 g39 b39 S41 a41 y41 at41 nd41 hF41 e41 k41 t41 p41 g41 c41 S43 hF43 e43 k43 p43 g43 b43 S45 a45 y45 at45 nd45 hF45 e45 k45 t45 p45 g45 c45 S47 hF47 e47 k47 p47 g47 b47 S61 q61 hF61 e61 k61 x61 g61)
            · exact (h3 S37 nd37 hF37 e37 k37 p37 g37 b37 c37 d37 S39 hF39 e39 k39 p39 g39 b39 S41 a41 y41 at41 nd41 hF41 e41 k41 t41 p41 g41 c41 S43 hF43 e43 k43 p43 g43 b43 S45 a45 y45 at45 nd45 hF45 e45 k45 t45 p45 g45 c45 S48 q48 hF48 e48 k48 x48 g48)
          · exact (h4 S37 nd37 hF37 e37 k37 p37 g37 b37 c37 d37 S39 hF39 e39 k39 p39 g39 b39 S41 a41 y41 at41 nd41 hF41 e41 k41 t41 p41 g41 c41 S43 hF43 e43 k43 p43 g43 b43 S46 q46 kk46 z46 hF46 e46 k46 x46 g46)
        · exact (h5 S37 nd37 hF37 e37 k37 p37 g37 b37 c37 d37 S39 hF39 e39 k39 p39 g39 b39 S41 a41 y41 at41 nd41 hF41 e41 k41 t41 p41 g41 c41 S44 q44 hF44 e44 k44 x44 g44)
      · exact (h6 S37 nd37 hF37 e37 k37 p37 g37 b37 c37 d37 S39 hF39 e39 k39 p39 g39 b39 S42 q42 kk42 z42 hF42 e42 k42 x42 g42)
    · exact (h7 S37 nd37 hF37 e37 k37 p37 g37 b37 c37 d37 S40 q40 hF40 e40 k40 x40 g40)
  · exact (h8 S38 q38 hF38 e38 k38 x38 g38)

theorem ot28 {d : Nat} {S : zS} (hF : zFin true S) (hd : 4 ≤ d) {tp : Nat → Nat} {sz at0 nd r : Nat} {rec : Nat → Nat → Nat → pE (zNd × Nat × Nat)} {K : Nat} {w : Nat} (deep : Nat) (hR : xR tp sz S r at0 nd) (hs0 : sz ≤ 300) (ha0 : at0 ≤ sz) (hr1 : 1639 ≤ r) (hr2 : r < gN S) (hN : gN S + 30 * (sz - at0) ≤ 1700000) (hdp : deep < 1000) (hnd : nd ≤ 80) (hK : K + 3 ≤ d) (hK2 : 12 ≤ d) (hmono : pMono rec) (hRd : ∀ dp d', deep ≤ 24 → dp = deep + 1 → K ≤ d' → xRd tp sz d' dp rec) (hw : xWd S w (ztn 28)) (hwN : w < gN S) (hwl : at0 + 4 ≤ sz) {post : Outcome × zS → Prop} (h1 : ∀ S41 : zS, ∀ nd41 : Nat, (zFin true S41) → (pRead at0 deep nd false = .ok nd41) → (xFr S S41) → (xR tp sz S41 r at0 nd41) → (gN S ≤ gN S41 ∧ gN S41 ≤ gN S + 0 ∧ gZ S41 ≤ gZ S + 0) → (at0 ≤ sz) → (nd41 ≤ 80) → (deep ≤ 24) → ∀ S43 : zS, (zFin true S43) → (pWant tp sz 40 (at0 + 4) = .ok (at0 + 5)) → (xFr (sI S41 133 r (Int32.ofNat (at0 + 4))) S43) → (xR tp sz S43 r (at0 + 5) nd41) → (gN (sI S41 133 r (Int32.ofNat (at0 + 4))) ≤ gN S43 ∧ gN S43 ≤ gN (sI S41 133 r (Int32.ofNat (at0 + 4))) + 0 ∧ gZ S43 ≤ gZ (sI S41 133 r (Int32.ofNat (at0 + 4))) + 0) → ((at0 + 5) ≤ sz) → ∀ S45 : zS, ∀ a45 : Nat, ∀ y45 : zNd, ∀ at45 : Nat, ∀ nd45 : Nat, (zFin true S45) → (rec (deep + 1) (at0 + 5) nd41 = .ok (y45, at45, nd45)) → (xFr S43 S45) → (xTl (gN S43) S45 y45 a45) → (xR tp sz S45 r at45 nd45) → (gN S43 ≤ gN S45 ∧ gN S45 + 30 * (sz - at45) ≤ gN S43 + 30 * (sz - (at0 + 5)) ∧ gZ S45 + 150 * (sz - at45) ≤ gZ S43 + 150 * (sz - (at0 + 5))) → (at45 ≤ sz ∧ gN S43 ≤ a45 ∧ a45 < gN S45 ∧ (at0 + 5) < at45 ∧ nd45 ≤ 80) → ∀ S47 : zS, (zFin true S47) → (pWant tp sz 44 at45 = .ok (at45 + 1)) → (xFr S45 S47) → (xR tp sz S47 r (at45 + 1) nd45) → (gN S45 ≤ gN S47 ∧ gN S47 ≤ gN S45 + 0 ∧ gZ S47 ≤ gZ S45 + 0) → ((at45 + 1) ≤ sz) → ∀ S49 : zS, ∀ a49 : Nat, ∀ y49 : zNd, ∀ at49 : Nat, ∀ nd49 : Nat, (zFin true S49) → (rec (deep + 1) (at45 + 1) nd45 = .ok (y49, at49, nd49)) → (xFr S47 S49) → (xTl (gN S47) S49 y49 a49) → (xR tp sz S49 r at49 nd49) → (gN S47 ≤ gN S49 ∧ gN S49 + 30 * (sz - at49) ≤ gN S47 + 30 * (sz - (at45 + 1)) ∧ gZ S49 + 150 * (sz - at49) ≤ gZ S47 + 150 * (sz - (at45 + 1))) → (at49 ≤ sz ∧ gN S47 ≤ a49 ∧ a49 < gN S49 ∧ (at45 + 1) < at49 ∧ nd49 ≤ 80) → ∀ S51 : zS, (zFin true S51) → (pWant tp sz 41 at49 = .ok (at49 + 1)) → (xFr S49 S51) → (xR tp sz S51 r (at49 + 1) nd49) → (gN S49 ≤ gN S51 ∧ gN S51 ≤ gN S49 + 0 ∧ gZ S51 ≤ gZ S49 + 0) → ((at49 + 1) ≤ sz) → ∀ S64 : zS, (zFin true S64) → (pJ (tN 16 0 [] at0 [y45, y49]) = .ok (tN 16 0 [] at0 [y45, y49])) → (xJd (sP (sP (sI (sI (sP (sNew S51 20 0 (zslots 20)) 190 (gN S51) (some 0)) 144 (gN S51) (Int32.ofNat at0)) 187 (gN S51) 5) 188 (gN S51) (some a45)) 189 (gN S51) (some a49)) (gN S51) S64) → (xTl (gN S) S64 (tN 16 0 [] at0 [y45, y49]) (gN S51)) → (xR tp sz S64 r (at49 + 1) nd49) → (gN S64 = gN S51 + 1 ∧ gZ S64 = gZ S51 + 20) → post (.returned (some (.ref (gN S51))), S64)) (h2 : ∀ S41 : zS, ∀ nd41 : Nat, (zFin true S41) → (pRead at0 deep nd false = .ok nd41) → (xFr S S41) → (xR tp sz S41 r at0 nd41) → (gN S ≤ gN S41 ∧ gN S41 ≤ gN S + 0 ∧ gZ S41 ≤ gZ S + 0) → (at0 ≤ sz) → (nd41 ≤ 80) → (deep ≤ 24) → ∀ S43 : zS, (zFin true S43) → (pWant tp sz 40 (at0 + 4) = .ok (at0 + 5)) → (xFr (sI S41 133 r (Int32.ofNat (at0 + 4))) S43) → (xR tp sz S43 r (at0 + 5) nd41) → (gN (sI S41 133 r (Int32.ofNat (at0 + 4))) ≤ gN S43 ∧ gN S43 ≤ gN (sI S41 133 r (Int32.ofNat (at0 + 4))) + 0 ∧ gZ S43 ≤ gZ (sI S41 133 r (Int32.ofNat (at0 + 4))) + 0) → ((at0 + 5) ≤ sz) → ∀ S45 : zS, ∀ a45 : Nat, ∀ y45 : zNd, ∀ at45 : Nat, ∀ nd45 : Nat, (zFin true S45) → (rec (deep + 1) (at0 + 5) nd41 = .ok (y45, at45, nd45)) → (xFr S43 S45) → (xTl (gN S43) S45 y45 a45) → (xR tp sz S45 r at45 nd45) → (gN S43 ≤ gN S45 ∧ gN S45 + 30 * (sz - at45) ≤ gN S43 + 30 * (sz - (at0 + 5)) ∧ gZ S45 + 150 * (sz - at45) ≤ gZ S43 + 150 * (sz - (at0 + 5))) → (at45 ≤ sz ∧ gN S43 ≤ a45 ∧ a45 < gN S45 ∧ (at0 + 5) < at45 ∧ nd45 ≤ 80) → ∀ S47 : zS, (zFin true S47) → (pWant tp sz 44 at45 = .ok (at45 + 1)) → (xFr S45 S47) → (xR tp sz S47 r (at45 + 1) nd45) → (gN S45 ≤ gN S47 ∧ gN S47 ≤ gN S45 + 0 ∧ gZ S47 ≤ gZ S45 + 0) → ((at45 + 1) ≤ sz) → ∀ S49 : zS, ∀ a49 : Nat, ∀ y49 : zNd, ∀ at49 : Nat, ∀ nd49 : Nat, (zFin true S49) → (rec (deep + 1) (at45 + 1) nd45 = .ok (y49, at49, nd49)) → (xFr S47 S49) → (xTl (gN S47) S49 y49 a49) → (xR tp sz S49 r at49 nd49) → (gN S47 ≤ gN S49 ∧ gN S49 + 30 * (sz - at49) ≤ gN S47 + 30 * (sz - (at45 + 1)) ∧ gZ S49 + 150 * (sz - at49) ≤ gZ S47 + 150 * (sz - (at45 + 1))) → (at49 ≤ sz ∧ gN S47 ≤ a49 ∧ a49 < gN S49 ∧ (at45 + 1) < at49 ∧ nd49 ≤ 80) → ∀ S51 : zS, (zFin true S51) → (pWant tp sz 41 at49 = .ok (at49 + 1)) → (xFr S49 S51) → (xR tp sz S51 r (at49 + 1) nd49) → (gN S49 ≤ gN S51 ∧ gN S51 ≤ gN S49 + 0 ∧ gZ S51 ≤ gZ S49 + 0) → ((at49 + 1) ≤ sz) → ∀ S65 : zS, ∀ q65 : Nat, (zFin true S65) → (pJ (tN 16 0 [] at0 [y45, y49]) = .error (3, at0)) → (xFn (sP (sP (sI (sI (sP (sNew S51 20 0 (zslots 20)) 190 (gN S51) (some 0)) 144 (gN S51) (Int32.ofNat at0)) 187 (gN S51) 5) 188 (gN S51) (some a45)) 189 (gN S51) (some a49)) (gN S51) S65) → (xFl S65 q65 3 at0) → (gN S65 = gN S51 + 1 + 1 ∧ gZ S65 ≤ gZ S51 + 20 + 3) → post (.threw q65, S65)) (h3 : ∀ S41 : zS, ∀ nd41 : Nat, (zFin true S41) → (pRead at0 deep nd false = .ok nd41) → (xFr S S41) → (xR tp sz S41 r at0 nd41) → (gN S ≤ gN S41 ∧ gN S41 ≤ gN S + 0 ∧ gZ S41 ≤ gZ S + 0) → (at0 ≤ sz) → (nd41 ≤ 80) → (deep ≤ 24) → ∀ S43 : zS, (zFin true S43) → (pWant tp sz 40 (at0 + 4) = .ok (at0 + 5)) → (xFr (sI S41 133 r (Int32.ofNat (at0 + 4))) S43) → (xR tp sz S43 r (at0 + 5) nd41) → (gN (sI S41 133 r (Int32.ofNat (at0 + 4))) ≤ gN S43 ∧ gN S43 ≤ gN (sI S41 133 r (Int32.ofNat (at0 + 4))) + 0 ∧ gZ S43 ≤ gZ (sI S41 133 r (Int32.ofNat (at0 + 4))) + 0) → ((at0 + 5) ≤ sz) → ∀ S45 : zS, ∀ a45 : Nat, ∀ y45 : zNd, ∀ at45 : Nat, ∀ nd45 : Nat, (zFin true S45) → (rec (deep + 1) (at0 + 5) nd41 = .ok (y45, at45, nd45)) → (xFr S43 S45) → (xTl (gN S43) S45 y45 a45) → (xR tp sz S45 r at45 nd45) → (gN S43 ≤ gN S45 ∧ gN S45 + 30 * (sz - at45) ≤ gN S43 + 30 * (sz - (at0 + 5)) ∧ gZ S45 + 150 * (sz - at45) ≤ gZ S43 + 150 * (sz - (at0 + 5))) → (at45 ≤ sz ∧ gN S43 ≤ a45 ∧ a45 < gN S45 ∧ (at0 + 5) < at45 ∧ nd45 ≤ 80) → ∀ S47 : zS, (zFin true S47) → (pWant tp sz 44 at45 = .ok (at45 + 1)) → (xFr S45 S47) → (xR tp sz S47 r (at45 + 1) nd45) → (gN S45 ≤ gN S47 ∧ gN S47 ≤ gN S45 + 0 ∧ gZ S47 ≤ gZ S45 + 0) → ((at45 + 1) ≤ sz) → ∀ S49 : zS, ∀ a49 : Nat, ∀ y49 : zNd, ∀ at49 : Nat, ∀ nd49 : Nat, (zFin true S49) → (rec (deep + 1) (at45 + 1) nd45 = .ok (y49, at49, nd49)) → (xFr S47 S49) → (xTl (gN S47) S49 y49 a49) → (xR tp sz S49 r at49 nd49) → (gN S47 ≤ gN S49 ∧ gN S49 + 30 * (sz - at49) ≤ gN S47 + 30 * (sz - (at45 + 1)) ∧ gZ S49 + 150 * (sz - at49) ≤ gZ S47 + 150 * (sz - (at45 + 1))) → (at49 ≤ sz ∧ gN S47 ≤ a49 ∧ a49 < gN S49 ∧ (at45 + 1) < at49 ∧ nd49 ≤ 80) → ∀ S52 : zS, ∀ q52 : Nat, (zFin true S52) → (pWant tp sz 41 at49 = .error (1, at49)) → (xFr S49 S52) → (xFl S52 q52 1 at49) → (gN S49 ≤ gN S52 ∧ gN S52 ≤ gN S49 + 1 ∧ gZ S52 ≤ gZ S49 + 3) → post (.threw q52, S52)) (h4 : ∀ S41 : zS, ∀ nd41 : Nat, (zFin true S41) → (pRead at0 deep nd false = .ok nd41) → (xFr S S41) → (xR tp sz S41 r at0 nd41) → (gN S ≤ gN S41 ∧ gN S41 ≤ gN S + 0 ∧ gZ S41 ≤ gZ S + 0) → (at0 ≤ sz) → (nd41 ≤ 80) → (deep ≤ 24) → ∀ S43 : zS, (zFin true S43) → (pWant tp sz 40 (at0 + 4) = .ok (at0 + 5)) → (xFr (sI S41 133 r (Int32.ofNat (at0 + 4))) S43) → (xR tp sz S43 r (at0 + 5) nd41) → (gN (sI S41 133 r (Int32.ofNat (at0 + 4))) ≤ gN S43 ∧ gN S43 ≤ gN (sI S41 133 r (Int32.ofNat (at0 + 4))) + 0 ∧ gZ S43 ≤ gZ (sI S41 133 r (Int32.ofNat (at0 + 4))) + 0) → ((at0 + 5) ≤ sz) → ∀ S45 : zS, ∀ a45 : Nat, ∀ y45 : zNd, ∀ at45 : Nat, ∀ nd45 : Nat, (zFin true S45) → (rec (deep + 1) (at0 + 5) nd41 = .ok (y45, at45, nd45)) → (xFr S43 S45) → (xTl (gN S43) S45 y45 a45) → (xR tp sz S45 r at45 nd45) → (gN S43 ≤ gN S45 ∧ gN S45 + 30 * (sz - at45) ≤ gN S43 + 30 * (sz - (at0 + 5)) ∧ gZ S45 + 150 * (sz - at45) ≤ gZ S43 + 150 * (sz - (at0 + 5))) → (at45 ≤ sz ∧ gN S43 ≤ a45 ∧ a45 < gN S45 ∧ (at0 + 5) < at45 ∧ nd45 ≤ 80) → ∀ S47 : zS, (zFin true S47) → (pWant tp sz 44 at45 = .ok (at45 + 1)) → (xFr S45 S47) → (xR tp sz S47 r (at45 + 1) nd45) → (gN S45 ≤ gN S47 ∧ gN S47 ≤ gN S45 + 0 ∧ gZ S47 ≤ gZ S45 + 0) → ((at45 + 1) ≤ sz) → ∀ S50 : zS, ∀ q50 : Nat, ∀ kk50 : Nat, ∀ z50 : Nat, (zFin true S50) → (rec (deep + 1) (at45 + 1) nd45 = .error (kk50, z50)) → (xFr S47 S50) → (xFl S50 q50 kk50 z50) → (gN S47 ≤ gN S50 ∧ gN S50 ≤ gN S47 + 30 * (sz - (at45 + 1)) + 60 ∧ gZ S50 ≤ gZ S47 + 150 * (sz - (at45 + 1)) + 2000) → post (.threw q50, S50)) (h5 : ∀ S41 : zS, ∀ nd41 : Nat, (zFin true S41) → (pRead at0 deep nd false = .ok nd41) → (xFr S S41) → (xR tp sz S41 r at0 nd41) → (gN S ≤ gN S41 ∧ gN S41 ≤ gN S + 0 ∧ gZ S41 ≤ gZ S + 0) → (at0 ≤ sz) → (nd41 ≤ 80) → (deep ≤ 24) → ∀ S43 : zS, (zFin true S43) → (pWant tp sz 40 (at0 + 4) = .ok (at0 + 5)) → (xFr (sI S41 133 r (Int32.ofNat (at0 + 4))) S43) → (xR tp sz S43 r (at0 + 5) nd41) → (gN (sI S41 133 r (Int32.ofNat (at0 + 4))) ≤ gN S43 ∧ gN S43 ≤ gN (sI S41 133 r (Int32.ofNat (at0 + 4))) + 0 ∧ gZ S43 ≤ gZ (sI S41 133 r (Int32.ofNat (at0 + 4))) + 0) → ((at0 + 5) ≤ sz) → ∀ S45 : zS, ∀ a45 : Nat, ∀ y45 : zNd, ∀ at45 : Nat, ∀ nd45 : Nat, (zFin true S45) → (rec (deep + 1) (at0 + 5) nd41 = .ok (y45, at45, nd45)) → (xFr S43 S45) → (xTl (gN S43) S45 y45 a45) → (xR tp sz S45 r at45 nd45) → (gN S43 ≤ gN S45 ∧ gN S45 + 30 * (sz - at45) ≤ gN S43 + 30 * (sz - (at0 + 5)) ∧ gZ S45 + 150 * (sz - at45) ≤ gZ S43 + 150 * (sz - (at0 + 5))) → (at45 ≤ sz ∧ gN S43 ≤ a45 ∧ a45 < gN S45 ∧ (at0 + 5) < at45 ∧ nd45 ≤ 80) → ∀ S48 : zS, ∀ q48 : Nat, (zFin true S48) → (pWant tp sz 44 at45 = .error (1, at45)) → (xFr S45 S48) → (xFl S48 q48 1 at45) → (gN S45 ≤ gN S48 ∧ gN S48 ≤ gN S45 + 1 ∧ gZ S48 ≤ gZ S45 + 3) → post (.threw q48, S48)) (h6 : ∀ S41 : zS, ∀ nd41 : Nat, (zFin true S41) → (pRead at0 deep nd false = .ok nd41) → (xFr S S41) → (xR tp sz S41 r at0 nd41) → (gN S ≤ gN S41 ∧ gN S41 ≤ gN S + 0 ∧ gZ S41 ≤ gZ S + 0) → (at0 ≤ sz) → (nd41 ≤ 80) → (deep ≤ 24) → ∀ S43 : zS, (zFin true S43) → (pWant tp sz 40 (at0 + 4) = .ok (at0 + 5)) → (xFr (sI S41 133 r (Int32.ofNat (at0 + 4))) S43) → (xR tp sz S43 r (at0 + 5) nd41) → (gN (sI S41 133 r (Int32.ofNat (at0 + 4))) ≤ gN S43 ∧ gN S43 ≤ gN (sI S41 133 r (Int32.ofNat (at0 + 4))) + 0 ∧ gZ S43 ≤ gZ (sI S41 133 r (Int32.ofNat (at0 + 4))) + 0) → ((at0 + 5) ≤ sz) → ∀ S46 : zS, ∀ q46 : Nat, ∀ kk46 : Nat, ∀ z46 : Nat, (zFin true S46) → (rec (deep + 1) (at0 + 5) nd41 = .error (kk46, z46)) → (xFr S43 S46) → (xFl S46 q46 kk46 z46) → (gN S43 ≤ gN S46 ∧ gN S46 ≤ gN S43 + 30 * (sz - (at0 + 5)) + 60 ∧ gZ S46 ≤ gZ S43 + 150 * (sz - (at0 + 5)) + 2000) → post (.threw q46, S46)) (h7 : ∀ S41 : zS, ∀ nd41 : Nat, (zFin true S41) → (pRead at0 deep nd false = .ok nd41) → (xFr S S41) → (xR tp sz S41 r at0 nd41) → (gN S ≤ gN S41 ∧ gN S41 ≤ gN S + 0 ∧ gZ S41 ≤ gZ S + 0) → (at0 ≤ sz) → (nd41 ≤ 80) → (deep ≤ 24) → ∀ S44 : zS, ∀ q44 : Nat, (zFin true S44) → (pWant tp sz 40 (at0 + 4) = .error (1, at0 + 4)) → (xFr (sI S41 133 r (Int32.ofNat (at0 + 4))) S44) → (xFl S44 q44 1 (at0 + 4)) → (gN (sI S41 133 r (Int32.ofNat (at0 + 4))) ≤ gN S44 ∧ gN S44 ≤ gN (sI S41 133 r (Int32.ofNat (at0 + 4))) + 1 ∧ gZ S44 ≤ gZ (sI S41 133 r (Int32.ofNat (at0 + 4))) + 3) → post (.threw q44, S44)) (h8 : ∀ S42 : zS, ∀ q42 : Nat, (zFin true S42) → (pRead at0 deep nd false = .error (2, at0)) → (xFr S S42) → (xFl S42 q42 2 at0) → (gN S ≤ gN S42 ∧ gN S42 ≤ gN S + 1 ∧ gZ S42 ≤ gZ S + 3) → post (.threw q42, S42)) : zCall d 266 [.ref r, .int (Int32.ofNat at0), .ref w, .int (Int32.ofNat deep)] S post := by
  have ht : ztab 266 = ztb266 := rfl
  show zEv d 266 0 [.ref r, .int (Int32.ofNat at0), .ref w, .int (Int32.ofNat deep), .retAddr 0, .retAddr 0, .retAddr 0] [] S post
  refine zv_c1 ht rfl rfl ?_
  refine zv_c2 (L' := [.ref r, .int (Int32.ofNat at0), .ref w, .int (Int32.ofNat deep), .int 0, .retAddr 0, .retAddr 0]) ht rfl rfl ?_
  refine zv_c1 ht rfl rfl (zv_c1 ht rfl rfl ?_)
  refine zv_br ht rfl rfl rfl (fun h => absurd h (by decide)) (fun _ => ?_)
  refine zv_c1 ht rfl rfl ?_
  have C2 : ∀ (pst1 : Outcome × zS → Prop), (pst1 (.returned (some (.ref 4294967318)), S)) → zCall (d - 1) 8 [.int 0] S pst1 := by
    intro pst1 k4
    have ht3 : ztab 8 = ztb8 := rfl
    show zEv (d - 1) 8 0 [.int 0] [] S pst1
    refine zv_c1 ht3 rfl rfl ?_
    refine zv_sw ht3 rfl rfl rfl rfl rfl ?_
    refine And.intro (fun _ => ?_) (fun h => absurd (by decide) h)
    refine zv_c1 ht3 rfl rfl ?_
    exact zv_rt ht3 rfl rfl rfl rfl k4
  refine zv_cl ht rfl rfl rfl rfl (by omega) (Nat.le_of_ble_eq_true rfl) (C2 _ ?_)
  show zEv d 266 14 [.ref r, .int (Int32.ofNat at0), .ref w, .int (Int32.ofNat deep), .int 0, .retAddr 0, .retAddr 0] [.ref 4294967318] S post
  refine zv_c1 ht rfl rfl ?_
  refine zv_cl ht rfl rfl rfl (zv_tgv ((zStr.t (xR.lit hR 11 (by decide)))) rfl) (by omega) (Nat.le_of_ble_eq_true rfl) (x_eqW (S := S) hF (by omega) (xR.lit hR 11 (by decide)) hw.1 (v := 0) (zbo_neg (by decide)) ?_)
  show zEv d 266 18 [.ref r, .int (Int32.ofNat at0), .ref w, .int (Int32.ofNat deep), .int 0, .retAddr 0, .retAddr 0] [.int 0] S post
  refine zv_br ht rfl rfl rfl (fun h => absurd h (by decide)) (fun _ => ?_)
  refine zv_c1 ht rfl rfl ?_
  refine zv_c2 (L' := [.ref r, .int (Int32.ofNat at0), .ref w, .int (Int32.ofNat deep), .int 1, .retAddr 0, .retAddr 0]) ht rfl rfl ?_
  refine zv_c1 ht rfl rfl (zv_c1 ht rfl rfl (zv_c1 ht rfl rfl ?_))
  refine zv_br ht rfl rfl rfl (fun h => absurd h (by decide)) (fun _ => ?_)
  refine zv_c1 ht rfl rfl ?_
  have C6 : ∀ (pst5 : Outcome × zS → Prop), (pst5 (.returned (some (.ref 4294967320)), S)) → zCall (d - 1) 8 [.int 1] S pst5 := by
    intro pst5 k8
    have ht7 : ztab 8 = ztb8 := rfl
    show zEv (d - 1) 8 0 [.int 1] [] S pst5
    refine zv_c1 ht7 rfl rfl ?_
    refine zv_sw ht7 rfl rfl rfl rfl rfl ?_
    refine And.intro (fun h => absurd h (by decide)) (fun _ => ?_)
    refine And.intro (fun _ => ?_) (fun h => absurd (by decide) h)
    refine zv_c1 ht7 rfl rfl ?_
    exact zv_rt ht7 rfl rfl rfl rfl k8
  refine zv_cl ht rfl rfl rfl rfl (by omega) (Nat.le_of_ble_eq_true rfl) (C6 _ ?_)
  show zEv d 266 14 [.ref r, .int (Int32.ofNat at0), .ref w, .int (Int32.ofNat deep), .int 1, .retAddr 0, .retAddr 0] [.ref 4294967320] S post
  refine zv_c1 ht rfl rfl ?_
  refine zv_cl ht rfl rfl rfl (zv_tgv ((zStr.t (xR.lit hR 12 (by decide)))) rfl) (by omega) (Nat.le_of_ble_eq_true rfl) (x_eqW (S := S) hF (by omega) (xR.lit hR 12 (by decide)) hw.1 (v := 0) (zbo_neg (by decide)) ?_)
  show zEv d 266 18 [.ref r, .int (Int32.ofNat at0), .ref w, .int (Int32.ofNat deep), .int 1, .retAddr 0, .retAddr 0] [.int 0] S post
  refine zv_br ht rfl rfl rfl (fun h => absurd h (by decide)) (fun _ => ?_)
  refine zv_c1 ht rfl rfl ?_
  refine zv_c2 (L' := [.ref r, .int (Int32.ofNat at0), .ref w, .int (Int32.ofNat deep), .int 2, .retAddr 0, .retAddr 0]) ht rfl rfl ?_
  refine zv_c1 ht rfl rfl (zv_c1 ht rfl rfl (zv_c1 ht rfl rfl ?_))
  refine zv_br ht rfl rfl rfl (fun h => absurd h (by decide)) (fun _ => ?_)
  refine zv_c1 ht rfl rfl ?_
  have C10 : ∀ (pst9 : Outcome × zS → Prop), (pst9 (.returned (some (.ref 4294967322)), S)) → zCall (d - 1) 8 [.int 2] S pst9 := by
    intro pst9 k12
    have ht11 : ztab 8 = ztb8 := rfl
    show zEv (d - 1) 8 0 [.int 2] [] S pst9
    refine zv_c1 ht11 rfl rfl ?_
    refine zv_sw ht11 rfl rfl rfl rfl rfl ?_
    refine And.intro (fun h => absurd h (by decide)) (fun _ => ?_)
    refine And.intro (fun h => absurd h (by decide)) (fun _ => ?_)
    refine And.intro (fun _ => ?_) (fun h => absurd (by decide) h)
    refine zv_c1 ht11 rfl rfl ?_
    exact zv_rt ht11 rfl rfl rfl rfl k12
  refine zv_cl ht rfl rfl rfl rfl (by omega) (Nat.le_of_ble_eq_true rfl) (C10 _ ?_)
  show zEv d 266 14 [.ref r, .int (Int32.ofNat at0), .ref w, .int (Int32.ofNat deep), .int 2, .retAddr 0, .retAddr 0] [.ref 4294967322] S post
  refine zv_c1 ht rfl rfl ?_
  refine zv_cl ht rfl rfl rfl (zv_tgv ((zStr.t (xR.lit hR 13 (by decide)))) rfl) (by omega) (Nat.le_of_ble_eq_true rfl) (x_eqW (S := S) hF (by omega) (xR.lit hR 13 (by decide)) hw.1 (v := 0) (zbo_neg (by decide)) ?_)
  show zEv d 266 18 [.ref r, .int (Int32.ofNat at0), .ref w, .int (Int32.ofNat deep), .int 2, .retAddr 0, .retAddr 0] [.int 0] S post
  refine zv_br ht rfl rfl rfl (fun h => absurd h (by decide)) (fun _ => ?_)
  refine zv_c1 ht rfl rfl ?_
  refine zv_c2 (L' := [.ref r, .int (Int32.ofNat at0), .ref w, .int (Int32.ofNat deep), .int 3, .retAddr 0, .retAddr 0]) ht rfl rfl ?_
  refine zv_c1 ht rfl rfl (zv_c1 ht rfl rfl (zv_c1 ht rfl rfl ?_))
  refine zv_br ht rfl rfl rfl (fun h => absurd h (by decide)) (fun _ => ?_)
  refine zv_c1 ht rfl rfl ?_
  have C14 : ∀ (pst13 : Outcome × zS → Prop), (pst13 (.returned (some (.ref 4294967324)), S)) → zCall (d - 1) 8 [.int 3] S pst13 := by
    intro pst13 k16
    have ht15 : ztab 8 = ztb8 := rfl
    show zEv (d - 1) 8 0 [.int 3] [] S pst13
    refine zv_c1 ht15 rfl rfl ?_
    refine zv_sw ht15 rfl rfl rfl rfl rfl ?_
    refine And.intro (fun h => absurd h (by decide)) (fun _ => ?_)
    refine And.intro (fun h => absurd h (by decide)) (fun _ => ?_)
    refine And.intro (fun h => absurd h (by decide)) (fun _ => ?_)
    refine zv_c1 ht15 rfl rfl ?_
    exact zv_rt ht15 rfl rfl rfl rfl k16
  refine zv_cl ht rfl rfl rfl rfl (by omega) (Nat.le_of_ble_eq_true rfl) (C14 _ ?_)
  show zEv d 266 14 [.ref r, .int (Int32.ofNat at0), .ref w, .int (Int32.ofNat deep), .int 3, .retAddr 0, .retAddr 0] [.ref 4294967324] S post
  refine zv_c1 ht rfl rfl ?_
  refine zv_cl ht rfl rfl rfl (zv_tgv ((zStr.t (xR.lit hR 14 (by decide)))) rfl) (by omega) (Nat.le_of_ble_eq_true rfl) (x_eqW (S := S) hF (by omega) (xR.lit hR 14 (by decide)) hw.1 (v := 0) (zbo_neg (by decide)) ?_)
  show zEv d 266 18 [.ref r, .int (Int32.ofNat at0), .ref w, .int (Int32.ofNat deep), .int 3, .retAddr 0, .retAddr 0] [.int 0] S post
  refine zv_br ht rfl rfl rfl (fun h => absurd h (by decide)) (fun _ => ?_)
  refine zv_c1 ht rfl rfl ?_
  refine zv_c2 (L' := [.ref r, .int (Int32.ofNat at0), .ref w, .int (Int32.ofNat deep), .int 4, .retAddr 0, .retAddr 0]) ht rfl rfl ?_
  refine zv_c1 ht rfl rfl (zv_c1 ht rfl rfl (zv_c1 ht rfl rfl ?_))
  refine zv_br ht rfl rfl rfl (fun _ => ?_) (fun h => absurd (by decide) h)
  refine zv_c1 ht rfl rfl ?_
  refine zv_c2 (L' := [.ref r, .int (Int32.ofNat at0), .ref w, .int (Int32.ofNat deep), .int 0, .retAddr 0, .retAddr 0]) ht rfl rfl ?_
  refine zv_c1 ht rfl rfl (zv_c1 ht rfl rfl ?_)
  refine zv_br ht rfl rfl rfl (fun h => absurd h (by decide)) (fun _ => ?_)
  refine zv_c1 ht rfl rfl ?_
  have C18 : ∀ (pst17 : Outcome × zS → Prop), (pst17 (.returned (some (.ref 4294967342)), S)) → zCall (d - 1) 11 [.int 0] S pst17 := by
    intro pst17 k20
    have ht19 : ztab 11 = ztb11 := rfl
    show zEv (d - 1) 11 0 [.int 0] [] S pst17
    refine zv_c1 ht19 rfl rfl ?_
    refine zv_sw ht19 rfl rfl rfl rfl rfl ?_
    refine And.intro (fun _ => ?_) (fun h => absurd (by decide) h)
    refine zv_c1 ht19 rfl rfl ?_
    exact zv_rt ht19 rfl rfl rfl rfl k20
  refine zv_cl ht rfl rfl rfl rfl (by omega) (Nat.le_of_ble_eq_true rfl) (C18 _ ?_)
  show zEv d 266 73 [.ref r, .int (Int32.ofNat at0), .ref w, .int (Int32.ofNat deep), .int 0, .retAddr 0, .retAddr 0] [.ref 4294967342] S post
  refine zv_c1 ht rfl rfl ?_
  refine zv_cl ht rfl rfl rfl (zv_tgv ((zStr.t (xR.lit hR 23 (by decide)))) rfl) (by omega) (Nat.le_of_ble_eq_true rfl) (x_eqW (S := S) hF (by omega) (xR.lit hR 23 (by decide)) hw.1 (v := 0) (zbo_neg (by decide)) ?_)
  show zEv d 266 77 [.ref r, .int (Int32.ofNat at0), .ref w, .int (Int32.ofNat deep), .int 0, .retAddr 0, .retAddr 0] [.int 0] S post
  refine zv_br ht rfl rfl rfl (fun h => absurd h (by decide)) (fun _ => ?_)
  refine zv_c1 ht rfl rfl ?_
  refine zv_c2 (L' := [.ref r, .int (Int32.ofNat at0), .ref w, .int (Int32.ofNat deep), .int 1, .retAddr 0, .retAddr 0]) ht rfl rfl ?_
  refine zv_c1 ht rfl rfl (zv_c1 ht rfl rfl (zv_c1 ht rfl rfl ?_))
  refine zv_br ht rfl rfl rfl (fun h => absurd h (by decide)) (fun _ => ?_)
  refine zv_c1 ht rfl rfl ?_
  have C22 : ∀ (pst21 : Outcome × zS → Prop), (pst21 (.returned (some (.ref 4294967344)), S)) → zCall (d - 1) 11 [.int 1] S pst21 := by
    intro pst21 k24
    have ht23 : ztab 11 = ztb11 := rfl
    show zEv (d - 1) 11 0 [.int 1] [] S pst21
    refine zv_c1 ht23 rfl rfl ?_
    refine zv_sw ht23 rfl rfl rfl rfl rfl ?_
    refine And.intro (fun h => absurd h (by decide)) (fun _ => ?_)
    refine And.intro (fun _ => ?_) (fun h => absurd (by decide) h)
    refine zv_c1 ht23 rfl rfl ?_
    exact zv_rt ht23 rfl rfl rfl rfl k24
  refine zv_cl ht rfl rfl rfl rfl (by omega) (Nat.le_of_ble_eq_true rfl) (C22 _ ?_)
  show zEv d 266 73 [.ref r, .int (Int32.ofNat at0), .ref w, .int (Int32.ofNat deep), .int 1, .retAddr 0, .retAddr 0] [.ref 4294967344] S post
  refine zv_c1 ht rfl rfl ?_
  refine zv_cl ht rfl rfl rfl (zv_tgv ((zStr.t (xR.lit hR 24 (by decide)))) rfl) (by omega) (Nat.le_of_ble_eq_true rfl) (x_eqW (S := S) hF (by omega) (xR.lit hR 24 (by decide)) hw.1 (v := 0) (zbo_neg (by decide)) ?_)
  show zEv d 266 77 [.ref r, .int (Int32.ofNat at0), .ref w, .int (Int32.ofNat deep), .int 1, .retAddr 0, .retAddr 0] [.int 0] S post
  refine zv_br ht rfl rfl rfl (fun h => absurd h (by decide)) (fun _ => ?_)
  refine zv_c1 ht rfl rfl ?_
  refine zv_c2 (L' := [.ref r, .int (Int32.ofNat at0), .ref w, .int (Int32.ofNat deep), .int 2, .retAddr 0, .retAddr 0]) ht rfl rfl ?_
  refine zv_c1 ht rfl rfl (zv_c1 ht rfl rfl (zv_c1 ht rfl rfl ?_))
  refine zv_br ht rfl rfl rfl (fun h => absurd h (by decide)) (fun _ => ?_)
  refine zv_c1 ht rfl rfl ?_
  have C26 : ∀ (pst25 : Outcome × zS → Prop), (pst25 (.returned (some (.ref 4294967346)), S)) → zCall (d - 1) 11 [.int 2] S pst25 := by
    intro pst25 k28
    have ht27 : ztab 11 = ztb11 := rfl
    show zEv (d - 1) 11 0 [.int 2] [] S pst25
    refine zv_c1 ht27 rfl rfl ?_
    refine zv_sw ht27 rfl rfl rfl rfl rfl ?_
    refine And.intro (fun h => absurd h (by decide)) (fun _ => ?_)
    refine And.intro (fun h => absurd h (by decide)) (fun _ => ?_)
    refine And.intro (fun _ => ?_) (fun h => absurd (by decide) h)
    refine zv_c1 ht27 rfl rfl ?_
    exact zv_rt ht27 rfl rfl rfl rfl k28
  refine zv_cl ht rfl rfl rfl rfl (by omega) (Nat.le_of_ble_eq_true rfl) (C26 _ ?_)
  show zEv d 266 73 [.ref r, .int (Int32.ofNat at0), .ref w, .int (Int32.ofNat deep), .int 2, .retAddr 0, .retAddr 0] [.ref 4294967346] S post
  refine zv_c1 ht rfl rfl ?_
  refine zv_cl ht rfl rfl rfl (zv_tgv ((zStr.t (xR.lit hR 25 (by decide)))) rfl) (by omega) (Nat.le_of_ble_eq_true rfl) (x_eqW (S := S) hF (by omega) (xR.lit hR 25 (by decide)) hw.1 (v := 0) (zbo_neg (by decide)) ?_)
  show zEv d 266 77 [.ref r, .int (Int32.ofNat at0), .ref w, .int (Int32.ofNat deep), .int 2, .retAddr 0, .retAddr 0] [.int 0] S post
  refine zv_br ht rfl rfl rfl (fun h => absurd h (by decide)) (fun _ => ?_)
  refine zv_c1 ht rfl rfl ?_
  refine zv_c2 (L' := [.ref r, .int (Int32.ofNat at0), .ref w, .int (Int32.ofNat deep), .int 3, .retAddr 0, .retAddr 0]) ht rfl rfl ?_
  refine zv_c1 ht rfl rfl (zv_c1 ht rfl rfl (zv_c1 ht rfl rfl ?_))
  refine zv_br ht rfl rfl rfl (fun h => absurd h (by decide)) (fun _ => ?_)
  refine zv_c1 ht rfl rfl ?_
  have C30 : ∀ (pst29 : Outcome × zS → Prop), (pst29 (.returned (some (.ref 4294967348)), S)) → zCall (d - 1) 11 [.int 3] S pst29 := by
    intro pst29 k32
    have ht31 : ztab 11 = ztb11 := rfl
    show zEv (d - 1) 11 0 [.int 3] [] S pst29
    refine zv_c1 ht31 rfl rfl ?_
    refine zv_sw ht31 rfl rfl rfl rfl rfl ?_
    refine And.intro (fun h => absurd h (by decide)) (fun _ => ?_)
    refine And.intro (fun h => absurd h (by decide)) (fun _ => ?_)
    refine And.intro (fun h => absurd h (by decide)) (fun _ => ?_)
    refine And.intro (fun _ => ?_) (fun h => absurd (by decide) h)
    refine zv_c1 ht31 rfl rfl ?_
    exact zv_rt ht31 rfl rfl rfl rfl k32
  refine zv_cl ht rfl rfl rfl rfl (by omega) (Nat.le_of_ble_eq_true rfl) (C30 _ ?_)
  show zEv d 266 73 [.ref r, .int (Int32.ofNat at0), .ref w, .int (Int32.ofNat deep), .int 3, .retAddr 0, .retAddr 0] [.ref 4294967348] S post
  refine zv_c1 ht rfl rfl ?_
  refine zv_cl ht rfl rfl rfl (zv_tgv ((zStr.t (xR.lit hR 26 (by decide)))) rfl) (by omega) (Nat.le_of_ble_eq_true rfl) (x_eqW (S := S) hF (by omega) (xR.lit hR 26 (by decide)) hw.1 (v := 0) (zbo_neg (by decide)) ?_)
  show zEv d 266 77 [.ref r, .int (Int32.ofNat at0), .ref w, .int (Int32.ofNat deep), .int 3, .retAddr 0, .retAddr 0] [.int 0] S post
  refine zv_br ht rfl rfl rfl (fun h => absurd h (by decide)) (fun _ => ?_)
  refine zv_c1 ht rfl rfl ?_
  refine zv_c2 (L' := [.ref r, .int (Int32.ofNat at0), .ref w, .int (Int32.ofNat deep), .int 4, .retAddr 0, .retAddr 0]) ht rfl rfl ?_
  refine zv_c1 ht rfl rfl (zv_c1 ht rfl rfl (zv_c1 ht rfl rfl ?_))
  refine zv_br ht rfl rfl rfl (fun h => absurd h (by decide)) (fun _ => ?_)
  refine zv_c1 ht rfl rfl ?_
  have C34 : ∀ (pst33 : Outcome × zS → Prop), (pst33 (.returned (some (.ref 4294967350)), S)) → zCall (d - 1) 11 [.int 4] S pst33 := by
    intro pst33 k36
    have ht35 : ztab 11 = ztb11 := rfl
    show zEv (d - 1) 11 0 [.int 4] [] S pst33
    refine zv_c1 ht35 rfl rfl ?_
    refine zv_sw ht35 rfl rfl rfl rfl rfl ?_
    refine And.intro (fun h => absurd h (by decide)) (fun _ => ?_)
    refine And.intro (fun h => absurd h (by decide)) (fun _ => ?_)
    refine And.intro (fun h => absurd h (by decide)) (fun _ => ?_)
    refine And.intro (fun h => absurd h (by decide)) (fun _ => ?_)
    refine And.intro (fun _ => ?_) (fun h => absurd (by decide) h)
    refine zv_c1 ht35 rfl rfl ?_
    exact zv_rt ht35 rfl rfl rfl rfl k36
  refine zv_cl ht rfl rfl rfl rfl (by omega) (Nat.le_of_ble_eq_true rfl) (C34 _ ?_)
  show zEv d 266 73 [.ref r, .int (Int32.ofNat at0), .ref w, .int (Int32.ofNat deep), .int 4, .retAddr 0, .retAddr 0] [.ref 4294967350] S post
  refine zv_c1 ht rfl rfl ?_
  refine zv_cl ht rfl rfl rfl (zv_tgv ((zStr.t (xR.lit hR 27 (by decide)))) rfl) (by omega) (Nat.le_of_ble_eq_true rfl) (x_eqW (S := S) hF (by omega) (xR.lit hR 27 (by decide)) hw.1 (v := 0) (zbo_neg (by decide)) ?_)
  show zEv d 266 77 [.ref r, .int (Int32.ofNat at0), .ref w, .int (Int32.ofNat deep), .int 4, .retAddr 0, .retAddr 0] [.int 0] S post
  refine zv_br ht rfl rfl rfl (fun h => absurd h (by decide)) (fun _ => ?_)
  refine zv_c1 ht rfl rfl ?_
  refine zv_c2 (L' := [.ref r, .int (Int32.ofNat at0), .ref w, .int (Int32.ofNat deep), .int 5, .retAddr 0, .retAddr 0]) ht rfl rfl ?_
  refine zv_c1 ht rfl rfl (zv_c1 ht rfl rfl (zv_c1 ht rfl rfl ?_))
  refine zv_br ht rfl rfl rfl (fun h => absurd h (by decide)) (fun _ => ?_)
  refine zv_c1 ht rfl rfl ?_
  have C38 : ∀ (pst37 : Outcome × zS → Prop), (pst37 (.returned (some (.ref 4294967352)), S)) → zCall (d - 1) 11 [.int 5] S pst37 := by
    intro pst37 k40
    have ht39 : ztab 11 = ztb11 := rfl
    show zEv (d - 1) 11 0 [.int 5] [] S pst37
    refine zv_c1 ht39 rfl rfl ?_
    refine zv_sw ht39 rfl rfl rfl rfl rfl ?_
    refine And.intro (fun h => absurd h (by decide)) (fun _ => ?_)
    refine And.intro (fun h => absurd h (by decide)) (fun _ => ?_)
    refine And.intro (fun h => absurd h (by decide)) (fun _ => ?_)
    refine And.intro (fun h => absurd h (by decide)) (fun _ => ?_)
    refine And.intro (fun h => absurd h (by decide)) (fun _ => ?_)
    refine zv_c1 ht39 rfl rfl ?_
    exact zv_rt ht39 rfl rfl rfl rfl k40
  refine zv_cl ht rfl rfl rfl rfl (by omega) (Nat.le_of_ble_eq_true rfl) (C38 _ ?_)
  show zEv d 266 73 [.ref r, .int (Int32.ofNat at0), .ref w, .int (Int32.ofNat deep), .int 5, .retAddr 0, .retAddr 0] [.ref 4294967352] S post
  refine zv_c1 ht rfl rfl ?_
  refine zv_cl ht rfl rfl rfl (zv_tgv ((zStr.t (xR.lit hR 28 (by decide)))) rfl) (by omega) (Nat.le_of_ble_eq_true rfl) (x_eqW (S := S) hF (by omega) (xR.lit hR 28 (by decide)) hw.1 (v := 1) (zbo_pos rfl) ?_)
  show zEv d 266 77 [.ref r, .int (Int32.ofNat at0), .ref w, .int (Int32.ofNat deep), .int 5, .retAddr 0, .retAddr 0] [.int 1] S post
  refine zv_br ht rfl rfl rfl (fun _ => ?_) (fun h => absurd (by decide) h)
  refine zv_c1 ht rfl rfl (zv_c1 ht rfl rfl (zv_c1 ht rfl rfl (zv_c1 ht rfl rfl ?_)))
  refine zv_cl ht rfl rfl rfl (zv_tgv (hR.1.2.2.2.1) rfl) (by omega) (Nat.le_of_ble_eq_true rfl) (x_begins (S := S) (tp := tp) (sz := sz) (r := r) (p := at0) (dp := deep) (m := 1) (dq := deep) (two := false) hF (by omega) hR (by omega) (by omega) (by omega) (by omega) rfl rfl (fun S41 nd41 hF41 e41 k41 p41 g41 b41 c41 d41 => ?_) (fun S42 q42 hF42 e42 k42 x42 g42 => ?_))
  · show zEv d 266 90 [.ref r, .int (Int32.ofNat at0), .ref w, .int (Int32.ofNat deep), .int 5, .retAddr 0, .retAddr 0] [] S41 post
    refine zv_c1 ht rfl rfl (zv_c1 ht rfl rfl ?_)
    refine zv_ei (x := Int32.ofNat at0) ht rfl rfl (zhas_of (p41.1.2.2.2.1) rfl) p41.1.1 ?_
    refine zv_c1 ht rfl rfl ?_
    refine zv_cl ht rfl rfl rfl (zv_tgv (Eq.trans (zKE.T k41 (Or.inl (show w < gN S from by omega))) (zStr.t hw.1)) rfl) (by omega) (Nat.le_of_ble_eq_true rfl) (x_len (S := S41) hF41 (by omega) (xWd.k hw (zKE.tr zKE.rf (zKE.w k41 (show gN S ≤ gN S from by omega) (fun _ h => h) (fun _ h => h)))).1 (n := 4) (by decide) ?_)
    show zEv d 266 99 [.ref r, .int (Int32.ofNat at0), .ref w, .int (Int32.ofNat deep), .int 5, .retAddr 0, .retAddr 0] [.int 4, .int (Int32.ofNat at0), .ref r] S41 post
    refine zv_e1 (x := Int32.ofNat (at0 + 4)) ht rfl rfl (zi_addE (a := at0) (b := 4) rfl rfl) ?_
    refine zv_ci (S' := sI S41 133 r (Int32.ofNat (at0 + 4))) ht rfl rfl ⟨(zhas_of (p41.1.2.2.2.1) rfl), (show r < gN S41 from by omega)⟩ ?_
    refine zv_c1 ht rfl rfl (zv_c1 ht rfl rfl ?_)
    refine zv_cl ht rfl rfl rfl (zv_tgv (p41.1.2.2.2.1) rfl) (by omega) (Nat.le_of_ble_eq_true rfl) (x_take (S := sI S41 133 r (Int32.ofNat (at0 + 4))) (tp := tp) (sz := sz) (r := r) (w := 40) hF41 (by omega) (xR_at p41 (by omega)) (by omega) (by omega) (by omega) (fun S43 hF43 e43 k43 p43 g43 b43 => ?_) (fun S44 q44 hF44 e44 k44 x44 g44 => ?_))
    · show zEv d 266 109 [.ref r, .int (Int32.ofNat at0), .ref w, .int (Int32.ofNat deep), .int 5, .retAddr 0, .retAddr 0] [] S43 post
      refine zv_c1 ht rfl rfl (zv_c1 ht rfl rfl (zv_c1 ht rfl rfl ?_))
      refine zv_e1 (x := Int32.ofNat (deep + 1)) ht rfl rfl (zi_addE (a := deep) (b := 1) rfl rfl) ?_
      refine zv_cl ht rfl rfl rfl (zv_tgv (p43.1.2.2.2.1) rfl) (by omega) (Nat.le_of_ble_eq_true rfl) (xEnd.useM (g := gN S43) (z := gZ S43) rfl rfl (fun q hq => hmono _ _ _ q (by omega) hq) (xRd.use (hRd (deep + 1) _ (by omega) rfl (by omega)) (S := S43) (r := r) hF43 p43 (by omega) (by omega)) (fun S45 a45 y45 at45 nd45 hF45 e45 k45 t45 p45 g45 c45 => ?_) (fun S46 q46 kk46 z46 hF46 e46 k46 x46 g46 => ?_))
      · show zEv d 266 116 [.ref r, .int (Int32.ofNat at0), .ref w, .int (Int32.ofNat deep), .int 5, .retAddr 0, .retAddr 0] [.ref a45] S45 post
        refine zv_c2 (L' := [.ref r, .int (Int32.ofNat at0), .ref w, .int (Int32.ofNat deep), .int 5, .ref a45, .retAddr 0]) ht rfl rfl ?_
        refine zv_c1 ht rfl rfl (zv_c1 ht rfl rfl ?_)
        refine zv_cl ht rfl rfl rfl (zv_tgv (p45.1.2.2.2.1) rfl) (by omega) (Nat.le_of_ble_eq_true rfl) (x_take (S := S45) (tp := tp) (sz := sz) (r := r) (w := 44) hF45 (by omega) p45 (by omega) (by omega) (by omega) (fun S47 hF47 e47 k47 p47 g47 b47 => ?_) (fun S48 q48 hF48 e48 k48 x48 g48 => ?_))
        · show zEv d 266 124 [.ref r, .int (Int32.ofNat at0), .ref w, .int (Int32.ofNat deep), .int 5, .ref a45, .retAddr 0] [] S47 post
          refine zv_c1 ht rfl rfl (zv_c1 ht rfl rfl (zv_c1 ht rfl rfl ?_))
          refine zv_e1 (x := Int32.ofNat (deep + 1)) ht rfl rfl (zi_addE (a := deep) (b := 1) rfl rfl) ?_
          refine zv_cl ht rfl rfl rfl (zv_tgv (p47.1.2.2.2.1) rfl) (by omega) (Nat.le_of_ble_eq_true rfl) (xEnd.useM (g := gN S47) (z := gZ S47) rfl rfl (fun q hq => hmono _ _ _ q (by omega) hq) (xRd.use (hRd (deep + 1) _ (by omega) rfl (by omega)) (S := S47) (r := r) hF47 p47 (by omega) (by omega)) (fun S49 a49 y49 at49 nd49 hF49 e49 k49 t49 p49 g49 c49 => ?_) (fun S50 q50 kk50 z50 hF50 e50 k50 x50 g50 => ?_))
          · show zEv d 266 131 [.ref r, .int (Int32.ofNat at0), .ref w, .int (Int32.ofNat deep), .int 5, .ref a45, .retAddr 0] [.ref a49] S49 post
            refine zv_c2 (L' := [.ref r, .int (Int32.ofNat at0), .ref w, .int (Int32.ofNat deep), .int 5, .ref a45, .ref a49]) ht rfl rfl ?_
            refine zv_c1 ht rfl rfl (zv_c1 ht rfl rfl ?_)
            refine zv_cl ht rfl rfl rfl (zv_tgv (p49.1.2.2.2.1) rfl) (by omega) (Nat.le_of_ble_eq_true rfl) (x_take (S := S49) (tp := tp) (sz := sz) (r := r) (w := 41) hF49 (by omega) p49 (by omega) (by omega) (by omega) (fun S51 hF51 e51 k51 p51 g51 b51 => ?_) (fun S52 q52 hF52 e52 k52 x52 g52 => ?_))
            · show zEv d 266 139 [.ref r, .int (Int32.ofNat at0), .ref w, .int (Int32.ofNat deep), .int 5, .ref a45, .ref a49] [] S51 post
              refine zv_c1 ht rfl rfl ?_
              refine zv_ci (st' := [.ref (gN S51), .ref r]) (S' := sNew S51 20 0 (zslots 20)) ht rfl rfl (znew_ok (show 1639 ≤ gN S51 from by omega) (show gN S51 < 2000000 from by omega)) ?_
              refine zv_c1 ht rfl rfl (zv_c1 ht rfl rfl ?_)
              refine zv_g3 (q := 0) ht rfl (zFin_new hF51) rfl rfl (zhas_of (Eq.trans (ztyp_new (S := S51) (t := 20) (n := 0) (s := zslots 20) (show r ≠ gN S51 from by omega)) p51.1.2.2.2.1) rfl) (Eq.trans (gP_new (S := S51) (t := 20) (n := 0) (s := zslots 20) (show r ≠ gN S51 from by omega)) p51.1.2.2.2.2) ?_
              refine zv_c1 ht rfl rfl (zv_c1 ht rfl rfl (zv_c1 ht rfl rfl (zv_c1 ht rfl rfl ?_)))
              have C54 : ∀ (pst53 : Outcome × zS → Prop), (pst53 (.returned none, sP (sP (sI (sI (sP (sNew S51 20 0 (zslots 20)) 190 (gN S51) (some 0)) 144 (gN S51) (Int32.ofNat at0)) 187 (gN S51) 5) 188 (gN S51) (some a45)) 189 (gN S51) (some a49))) → zCall (d - 1) 373 [.ref (gN S51), .ref 0, .int (Int32.ofNat at0), .int 5, .ref a45, .ref a49] (sNew S51 20 0 (zslots 20)) pst53 := by
                intro pst53 k60
                have ht55 : ztab 373 = ztb373 := rfl
                show zEv (d - 1) 373 0 [.ref (gN S51), .ref 0, .int (Int32.ofNat at0), .int 5, .ref a45, .ref a49] [] (sNew S51 20 0 (zslots 20)) pst53
                refine zv_c1 ht55 rfl rfl (zv_c1 ht55 rfl rfl ?_)
                refine zv_ci (S' := sP (sNew S51 20 0 (zslots 20)) 190 (gN S51) (some 0)) ht55 rfl rfl ⟨(zhas_of (ztyp_new_at (S := S51) (t := 20) (n := 0) (s := zslots 20) (show 1639 ≤ gN S51 from by omega)) rfl), (show gN S51 < gN S51 + 1 from by omega)⟩ ?_
                refine zv_c1 ht55 rfl rfl (zv_c1 ht55 rfl rfl (zv_c1 ht55 rfl rfl ?_))
                have C57 : ∀ (pst56 : Outcome × zS → Prop), (pst56 (.returned none, sI (sP (sNew S51 20 0 (zslots 20)) 190 (gN S51) (some 0)) 144 (gN S51) (Int32.ofNat at0))) → zCall ((d - 1) - 1) 280 [.ref (gN S51), .ref 0, .int (Int32.ofNat at0)] (sP (sNew S51 20 0 (zslots 20)) 190 (gN S51) (some 0)) pst56 := by
                  intro pst56 k59
                  have ht58 : ztab 280 = ztb280 := rfl
                  show zEv ((d - 1) - 1) 280 0 [.ref (gN S51), .ref 0, .int (Int32.ofNat at0)] [] (sP (sNew S51 20 0 (zslots 20)) 190 (gN S51) (some 0)) pst56
                  refine zv_c1 ht58 rfl rfl (zv_c1 ht58 rfl rfl ?_)
                  refine zv_ci (S' := sP (sNew S51 20 0 (zslots 20)) 190 (gN S51) (some 0)) ht58 rfl rfl (zk5 (ztyp_new_at (S := S51) (t := 20) (n := 0) (s := zslots 20) (show 1639 ≤ gN S51 from by omega)) rfl (show gN S51 < gN S51 + 1 from by omega) rfl gP_sP_at) ?_
                  refine zv_c1 ht58 rfl rfl (zv_c1 ht58 rfl rfl (zv_c1 ht58 rfl rfl (zv_c1 ht58 rfl rfl ?_)))
                  refine zv_ci (S' := sI (sP (sNew S51 20 0 (zslots 20)) 190 (gN S51) (some 0)) 144 (gN S51) (Int32.ofNat at0)) ht58 rfl rfl ⟨(zhas_of (ztyp_new_at (S := S51) (t := 20) (n := 0) (s := zslots 20) (show 1639 ≤ gN S51 from by omega)) rfl), (show gN S51 < gN S51 + 1 from by omega)⟩ ?_
                  exact zv_rt ht58 rfl rfl rfl rfl k59
                refine zv_cl ht55 rfl rfl rfl rfl (by omega) (Nat.le_of_ble_eq_true rfl) (C57 _ ?_)
                show zEv (d - 1) 373 11 [.ref (gN S51), .ref 0, .int (Int32.ofNat at0), .int 5, .ref a45, .ref a49] [] (sI (sP (sNew S51 20 0 (zslots 20)) 190 (gN S51) (some 0)) 144 (gN S51) (Int32.ofNat at0)) pst53
                refine zv_c1 ht55 rfl rfl (zv_c1 ht55 rfl rfl ?_)
                refine zv_ci (S' := sI (sI (sP (sNew S51 20 0 (zslots 20)) 190 (gN S51) (some 0)) 144 (gN S51) (Int32.ofNat at0)) 187 (gN S51) 5) ht55 rfl rfl ⟨(zhas_of (ztyp_new_at (S := S51) (t := 20) (n := 0) (s := zslots 20) (show 1639 ≤ gN S51 from by omega)) rfl), (show gN S51 < gN S51 + 1 from by omega)⟩ ?_
                refine zv_c1 ht55 rfl rfl (zv_c1 ht55 rfl rfl ?_)
                refine zv_ci (S' := sP (sI (sI (sP (sNew S51 20 0 (zslots 20)) 190 (gN S51) (some 0)) 144 (gN S51) (Int32.ofNat at0)) 187 (gN S51) 5) 188 (gN S51) (some a45)) ht55 rfl rfl ⟨(zhas_of (ztyp_new_at (S := S51) (t := 20) (n := 0) (s := zslots 20) (show 1639 ≤ gN S51 from by omega)) rfl), (show gN S51 < gN S51 + 1 from by omega)⟩ ?_
                refine zv_c1 ht55 rfl rfl (zv_c1 ht55 rfl rfl ?_)
                refine zv_ci (S' := sP (sP (sI (sI (sP (sNew S51 20 0 (zslots 20)) 190 (gN S51) (some 0)) 144 (gN S51) (Int32.ofNat at0)) 187 (gN S51) 5) 188 (gN S51) (some a45)) 189 (gN S51) (some a49)) ht55 rfl rfl ⟨(zhas_of (ztyp_new_at (S := S51) (t := 20) (n := 0) (s := zslots 20) (show 1639 ≤ gN S51 from by omega)) rfl), (show gN S51 < gN S51 + 1 from by omega)⟩ ?_
                exact zv_rt ht55 rfl rfl rfl rfl k60
              refine zv_cl ht rfl rfl rfl rfl (by omega) (Nat.le_of_ble_eq_true rfl) (C54 _ ?_)
              show zEv d 266 158 [.ref r, .int (Int32.ofNat at0), .ref w, .int (Int32.ofNat deep), .int 5, .ref a45, .ref a49] [.ref (gN S51), .ref r] (sP (sP (sI (sI (sP (sNew S51 20 0 (zslots 20)) 190 (gN S51) (some 0)) 144 (gN S51) (Int32.ofNat at0)) 187 (gN S51) 5) 188 (gN S51) (some a45)) 189 (gN S51) (some a49)) post
              have C62 : ∀ (pst61 : Outcome × zS → Prop), (∀ S64 : zS, (zFin true S64) → (pJ (tN 16 0 [] at0 [y45, y49]) = .ok (tN 16 0 [] at0 [y45, y49])) → (xJd (sP (sP (sI (sI (sP (sNew S51 20 0 (zslots 20)) 190 (gN S51) (some 0)) 144 (gN S51) (Int32.ofNat at0)) 187 (gN S51) 5) 188 (gN S51) (some a45)) 189 (gN S51) (some a49)) (gN S51) S64) → (xTl (gN S) S64 (tN 16 0 [] at0 [y45, y49]) (gN S51)) → (xR tp sz S64 r (at49 + 1) nd49) → (gN S64 = gN S51 + 1 ∧ gZ S64 = gZ S51 + 20) → pst61 (.returned (some (.ref (gN S51))), S64)) → (∀ S65 : zS, ∀ q65 : Nat, (zFin true S65) → (pJ (tN 16 0 [] at0 [y45, y49]) = .error (3, at0)) → (xFn (sP (sP (sI (sI (sP (sNew S51 20 0 (zslots 20)) 190 (gN S51) (some 0)) 144 (gN S51) (Int32.ofNat at0)) 187 (gN S51) 5) 188 (gN S51) (some a45)) 189 (gN S51) (some a49)) (gN S51) S65) → (xFl S65 q65 3 at0) → (gN S65 = gN S51 + 1 + 1 ∧ gZ S65 ≤ gZ S51 + 20 + 3) → pst61 (.threw q65, S65)) → zCall (d - 1) 253 [.ref r, .ref (gN S51)] (sP (sP (sI (sI (sP (sNew S51 20 0 (zslots 20)) 190 (gN S51) (some 0)) 144 (gN S51) (Int32.ofNat at0)) 187 (gN S51) 5) 188 (gN S51) (some a45)) 189 (gN S51) (some a49)) pst61 := by
                intro pst61 k66 k67
                have ht63 : ztab 253 = ztb253 := rfl
                show zEv (d - 1) 253 0 [.ref r, .ref (gN S51)] [] (sP (sP (sI (sI (sP (sNew S51 20 0 (zslots 20)) 190 (gN S51) (some 0)) 144 (gN S51) (Int32.ofNat at0)) 187 (gN S51) 5) 188 (gN S51) (some a45)) 189 (gN S51) (some a49)) pst61
                refine zv_c1 ht63 rfl rfl ?_
                refine zv_cl ht63 rfl rfl rfl (zv_tgm (ztyp_new_at (S := S51) (t := 20) (n := 0) (s := zslots 20) (show 1639 ≤ gN S51 from by omega)) rfl) (by omega) (Nat.le_of_ble_eq_true rfl) (x_judgeR (S := sP (sP (sI (sI (sP (sNew S51 20 0 (zslots 20)) 190 (gN S51) (some 0)) 144 (gN S51) (Int32.ofNat at0)) 187 (gN S51) 5) 188 (gN S51) (some a45)) 189 (gN S51) (some a49)) (tp := tp) (sz := sz) (r := r) (a := gN S51) (k := 16) (v := 0) (p := at0) (ks := []) (js := [a45, a49]) (cs := [y45, y49]) (g := gN S51 + 1) (lo := gN S) (zFin_sP (zFin_sP (zFin_sP (zFin_new hF51) rfl) rfl) rfl) (by omega) (by omega) (by omega) (by omega) (by omega) rfl (xOwn_P (by decide) (ztyp_new_at (S := S51) (t := 20) (n := 0) (s := zslots 20) (show 1639 ≤ gN S51 from by omega)) (gI_sI_at) (gP_sP_at) (gP_sP_at)) ⟨a45, _, rfl, (xTl.ch t45 (zKE.tr (zKE.tr (zKE.tr (zKE.tr (zKE.tr (zKE.tr (zKE.tr (zKE.tr (zKE.tr zKE.rf (zKE.w k47 (show gN S45 ≤ gN S45 from by omega) (fun _ h => h) (fun _ h => h))) (zKE.w k49 (show gN S45 ≤ gN S47 from by omega) (fun _ h => h) (fun _ h => h))) (zKE.w k51 (show gN S45 ≤ gN S49 from by omega) (fun _ h => h) (fun _ h => h))) (zKE_new (show gN S45 ≤ gN S51 ∧ gN S51 < zLB from ⟨by omega, by have hLB : zLB = 4294967296 := rfl; omega⟩))) (zKE_sP (Or.inr (Or.inr ⟨by omega, by have hLB : zLB = 4294967296 := rfl; omega⟩)))) (zKE_sI (Or.inr (Or.inr ⟨by omega, by have hLB : zLB = 4294967296 := rfl; omega⟩)))) (zKE_sI (Or.inr (Or.inr ⟨by omega, by have hLB : zLB = 4294967296 := rfl; omega⟩)))) (zKE_sP (Or.inr (Or.inr ⟨by omega, by have hLB : zLB = 4294967296 := rfl; omega⟩)))) (zKE_sP (Or.inr (Or.inr ⟨by omega, by have hLB : zLB = 4294967296 := rfl; omega⟩)))) (by omega) (by intro j h1 h2; omega)), ⟨a49, _, rfl, (xTl.ch t49 (zKE.tr (zKE.tr (zKE.tr (zKE.tr (zKE.tr (zKE.tr (zKE.tr zKE.rf (zKE.w k51 (show gN S49 ≤ gN S49 from by omega) (fun _ h => h) (fun _ h => h))) (zKE_new (show gN S49 ≤ gN S51 ∧ gN S51 < zLB from ⟨by omega, by have hLB : zLB = 4294967296 := rfl; omega⟩))) (zKE_sP (Or.inr (Or.inr ⟨by omega, by have hLB : zLB = 4294967296 := rfl; omega⟩)))) (zKE_sI (Or.inr (Or.inr ⟨by omega, by have hLB : zLB = 4294967296 := rfl; omega⟩)))) (zKE_sI (Or.inr (Or.inr ⟨by omega, by have hLB : zLB = 4294967296 := rfl; omega⟩)))) (zKE_sP (Or.inr (Or.inr ⟨by omega, by have hLB : zLB = 4294967296 := rfl; omega⟩)))) (zKE_sP (Or.inr (Or.inr ⟨by omega, by have hLB : zLB = 4294967296 := rfl; omega⟩)))) (by omega) (by intro j h1 h2; omega)), rfl⟩⟩ (by decide) (by omega) (gI_sI_at) (gI_new_at (S := S51) (t := 20) (n := 0) (s := zslots 20)) (gI_new_at (S := S51) (t := 20) (n := 0) (s := zslots 20)) (xR.ke (Fs := []) p51 (zKE.tr (zKE.tr (zKE.tr (zKE.tr (zKE.tr (zKE.tr zKE.rf (zKE_new (show gN S51 ≤ gN S51 ∧ gN S51 < zLB from ⟨by omega, by have hLB : zLB = 4294967296 := rfl; omega⟩))) (zKE_sP (Or.inr (Or.inr ⟨by omega, by have hLB : zLB = 4294967296 := rfl; omega⟩)))) (zKE_sI (Or.inr (Or.inr ⟨by omega, by have hLB : zLB = 4294967296 := rfl; omega⟩)))) (zKE_sI (Or.inr (Or.inr ⟨by omega, by have hLB : zLB = 4294967296 := rfl; omega⟩)))) (zKE_sP (Or.inr (Or.inr ⟨by omega, by have hLB : zLB = 4294967296 := rfl; omega⟩)))) (zKE_sP (Or.inr (Or.inr ⟨by omega, by have hLB : zLB = 4294967296 := rfl; omega⟩)))) (by omega) (by decide)) (by omega) (fun S64 hF64 e64 j64 t64 p64 g64 => ?_) (fun S65 q65 hF65 e65 k65 x65 g65 => ?_))
                · show zEv (d - 1) 253 4 [.ref r, .ref (gN S51)] [] S64 pst61
                  refine zv_c1 ht63 rfl rfl ?_
                  exact zv_rt ht63 rfl rfl rfl rfl (k66 S64 hF64 e64 j64 t64 p64 g64)
                · exact (k67 S65 q65 hF65 e65 k65 x65 g65)
              refine zv_cl ht rfl rfl rfl (zv_tgv (Eq.trans (ztyp_new (S := S51) (t := 20) (n := 0) (s := zslots 20) (show r ≠ gN S51 from by omega)) p51.1.2.2.2.1) rfl) (by omega) (Nat.le_of_ble_eq_true rfl) (C62 _ (fun S64 hF64 e64 j64 t64 p64 g64 => ?_) (fun S65 q65 hF65 e65 k65 x65 g65 => ?_))
              · show zEv d 266 161 [.ref r, .int (Int32.ofNat at0), .ref w, .int (Int32.ofNat deep), .int 5, .ref a45, .ref a49] [.ref (gN S51)] S64 post
                exact zv_rt ht rfl rfl rfl rfl (h1 S41 nd41 hF41 e41 k41 p41 g41 b41 c41 d41 S43 hF43 e43 k43 p43 g43 b43 S45 a45 y45 at45 nd45 hF45 e45 k45 t45 p45 g45 c45 S47 hF47 e47 k47 p47 g47 b47 S49 a49 y49 at49 nd49 hF49 e49 k49 t49 p49 g49 c49 S51 hF51 e51 k51 p51 g51 b51 S64 hF64 e64 j64 t64 p64 g64)
              · exact (h2 S41 nd41 hF41 e41 k41 p41 g41 b41 c41 d41 S43 hF43 e43 k43 p43 g43 b43 S45 a45 y45 at45 nd45 hF45 e45 k45 t45 p45 g45 c45 S47 hF47 e47 k47 p47 g47 b47 S49 a49 y49 at49 nd49 hF49 e49 k49 t49 p49 g49 c49 S51 hF51 e51 k51 p51 g51 b51 S65 q65 hF65 e65 k65 x65 g65)
            · exact (h3 S41 nd41 hF41 e41 k41 p41 g41 b41 c41 d41 S43 hF43 e43 k43 p43 g43 b43 S45 a45 y45 at45 nd45 hF45 e45 k45 t45 p45 g45 c45 S47 hF47 e47 k47 p47 g47 b47 S49 a49 y49 at49 nd49 hF49 e49 k49 t49 p49 g49 c49 S52 q52 hF52 e52 k52 x52 g52)
          · exact (h4 S41 nd41 hF41 e41 k41 p41 g41 b41 c41 d41 S43 hF43 e43 k43 p43 g43 b43 S45 a45 y45 at45 nd45 hF45 e45 k45 t45 p45 g45 c45 S47 hF47 e47 k47 p47 g47 b47 S50 q50 kk50 z50 hF50 e50 k50 x50 g50)
        · exact (h5 S41 nd41 hF41 e41 k41 p41 g41 b41 c41 d41 S43 hF43 e43 k43 p43 g43 b43 S45 a45 y45 at45 nd45 hF45 e45 k45 t45 p45 g45 c45 S48 q48 hF48 e48 k48 x48 g48)
      · exact (h6 S41 nd41 hF41 e41 k41 p41 g41 b41 c41 d41 S43 hF43 e43 k43 p43 g43 b43 S46 q46 kk46 z46 hF46 e46 k46 x46 g46)
    · exact (h7 S41 nd41 hF41 e41 k41 p41 g41 b41 c41 d41 S44 q44 hF44 e44 k44 x44 g44)
  · exact (h8 S42 q42 hF42 e42 k42 x42 g42)

theorem otN {d : Nat} {S : zS} (hF : zFin true S) (hd : 2 ≤ d) {tp : Nat → Nat} {sz at0 nd r : Nat} {w : Nat} {cs : List Nat} (deep : Nat) (hR : xR tp sz S r at0 nd) (hs0 : sz ≤ 300) (ha0 : at0 ≤ sz) (hr1 : 1639 ≤ r) (hr2 : r < gN S) (hN : gN S + 30 * (sz - at0) ≤ 1700000) (hw : xWd S w cs) (hno : ∀ k, k ∈ [11, 12, 13, 14, 23, 24, 25, 26, 27, 28] → ¬ ztn k = cs) (hwN : w < gN S) {post : Outcome × zS → Prop} (h1 : ∀ S41 : zS, (zFin true S41) → (xFr S S41) → (xFl S41 (gN S) 1 at0) → (gN S + 1 = gN S41 ∧ gZ S41 ≤ gZ S + 3) → post (.threw (gN S), S41)) : zCall d 266 [.ref r, .int (Int32.ofNat at0), .ref w, .int (Int32.ofNat deep)] S post := by
  have ht : ztab 266 = ztb266 := rfl
  show zEv d 266 0 [.ref r, .int (Int32.ofNat at0), .ref w, .int (Int32.ofNat deep), .retAddr 0, .retAddr 0, .retAddr 0] [] S post
  refine zv_c1 ht rfl rfl ?_
  refine zv_c2 (L' := [.ref r, .int (Int32.ofNat at0), .ref w, .int (Int32.ofNat deep), .int 0, .retAddr 0, .retAddr 0]) ht rfl rfl ?_
  refine zv_c1 ht rfl rfl (zv_c1 ht rfl rfl ?_)
  refine zv_br ht rfl rfl rfl (fun h => absurd h (by decide)) (fun _ => ?_)
  refine zv_c1 ht rfl rfl ?_
  have C2 : ∀ (pst1 : Outcome × zS → Prop), (pst1 (.returned (some (.ref 4294967318)), S)) → zCall (d - 1) 8 [.int 0] S pst1 := by
    intro pst1 k4
    have ht3 : ztab 8 = ztb8 := rfl
    show zEv (d - 1) 8 0 [.int 0] [] S pst1
    refine zv_c1 ht3 rfl rfl ?_
    refine zv_sw ht3 rfl rfl rfl rfl rfl ?_
    refine And.intro (fun _ => ?_) (fun h => absurd (by decide) h)
    refine zv_c1 ht3 rfl rfl ?_
    exact zv_rt ht3 rfl rfl rfl rfl k4
  refine zv_cl ht rfl rfl rfl rfl (by omega) (Nat.le_of_ble_eq_true rfl) (C2 _ ?_)
  show zEv d 266 14 [.ref r, .int (Int32.ofNat at0), .ref w, .int (Int32.ofNat deep), .int 0, .retAddr 0, .retAddr 0] [.ref 4294967318] S post
  refine zv_c1 ht rfl rfl ?_
  refine zv_cl ht rfl rfl rfl (zv_tgv ((zStr.t (xR.lit hR 11 (by decide)))) rfl) (by omega) (Nat.le_of_ble_eq_true rfl) (x_eqW (S := S) hF (by omega) (xR.lit hR 11 (by decide)) hw.1 (v := 0) (zbo_neg (fun e => hno 11 (by decide) e.symm)) ?_)
  show zEv d 266 18 [.ref r, .int (Int32.ofNat at0), .ref w, .int (Int32.ofNat deep), .int 0, .retAddr 0, .retAddr 0] [.int 0] S post
  refine zv_br ht rfl rfl rfl (fun h => absurd h (by decide)) (fun _ => ?_)
  refine zv_c1 ht rfl rfl ?_
  refine zv_c2 (L' := [.ref r, .int (Int32.ofNat at0), .ref w, .int (Int32.ofNat deep), .int 1, .retAddr 0, .retAddr 0]) ht rfl rfl ?_
  refine zv_c1 ht rfl rfl (zv_c1 ht rfl rfl (zv_c1 ht rfl rfl ?_))
  refine zv_br ht rfl rfl rfl (fun h => absurd h (by decide)) (fun _ => ?_)
  refine zv_c1 ht rfl rfl ?_
  have C6 : ∀ (pst5 : Outcome × zS → Prop), (pst5 (.returned (some (.ref 4294967320)), S)) → zCall (d - 1) 8 [.int 1] S pst5 := by
    intro pst5 k8
    have ht7 : ztab 8 = ztb8 := rfl
    show zEv (d - 1) 8 0 [.int 1] [] S pst5
    refine zv_c1 ht7 rfl rfl ?_
    refine zv_sw ht7 rfl rfl rfl rfl rfl ?_
    refine And.intro (fun h => absurd h (by decide)) (fun _ => ?_)
    refine And.intro (fun _ => ?_) (fun h => absurd (by decide) h)
    refine zv_c1 ht7 rfl rfl ?_
    exact zv_rt ht7 rfl rfl rfl rfl k8
  refine zv_cl ht rfl rfl rfl rfl (by omega) (Nat.le_of_ble_eq_true rfl) (C6 _ ?_)
  show zEv d 266 14 [.ref r, .int (Int32.ofNat at0), .ref w, .int (Int32.ofNat deep), .int 1, .retAddr 0, .retAddr 0] [.ref 4294967320] S post
  refine zv_c1 ht rfl rfl ?_
  refine zv_cl ht rfl rfl rfl (zv_tgv ((zStr.t (xR.lit hR 12 (by decide)))) rfl) (by omega) (Nat.le_of_ble_eq_true rfl) (x_eqW (S := S) hF (by omega) (xR.lit hR 12 (by decide)) hw.1 (v := 0) (zbo_neg (fun e => hno 12 (by decide) e.symm)) ?_)
  show zEv d 266 18 [.ref r, .int (Int32.ofNat at0), .ref w, .int (Int32.ofNat deep), .int 1, .retAddr 0, .retAddr 0] [.int 0] S post
  refine zv_br ht rfl rfl rfl (fun h => absurd h (by decide)) (fun _ => ?_)
  refine zv_c1 ht rfl rfl ?_
  refine zv_c2 (L' := [.ref r, .int (Int32.ofNat at0), .ref w, .int (Int32.ofNat deep), .int 2, .retAddr 0, .retAddr 0]) ht rfl rfl ?_
  refine zv_c1 ht rfl rfl (zv_c1 ht rfl rfl (zv_c1 ht rfl rfl ?_))
  refine zv_br ht rfl rfl rfl (fun h => absurd h (by decide)) (fun _ => ?_)
  refine zv_c1 ht rfl rfl ?_
  have C10 : ∀ (pst9 : Outcome × zS → Prop), (pst9 (.returned (some (.ref 4294967322)), S)) → zCall (d - 1) 8 [.int 2] S pst9 := by
    intro pst9 k12
    have ht11 : ztab 8 = ztb8 := rfl
    show zEv (d - 1) 8 0 [.int 2] [] S pst9
    refine zv_c1 ht11 rfl rfl ?_
    refine zv_sw ht11 rfl rfl rfl rfl rfl ?_
    refine And.intro (fun h => absurd h (by decide)) (fun _ => ?_)
    refine And.intro (fun h => absurd h (by decide)) (fun _ => ?_)
    refine And.intro (fun _ => ?_) (fun h => absurd (by decide) h)
    refine zv_c1 ht11 rfl rfl ?_
    exact zv_rt ht11 rfl rfl rfl rfl k12
  refine zv_cl ht rfl rfl rfl rfl (by omega) (Nat.le_of_ble_eq_true rfl) (C10 _ ?_)
  show zEv d 266 14 [.ref r, .int (Int32.ofNat at0), .ref w, .int (Int32.ofNat deep), .int 2, .retAddr 0, .retAddr 0] [.ref 4294967322] S post
  refine zv_c1 ht rfl rfl ?_
  refine zv_cl ht rfl rfl rfl (zv_tgv ((zStr.t (xR.lit hR 13 (by decide)))) rfl) (by omega) (Nat.le_of_ble_eq_true rfl) (x_eqW (S := S) hF (by omega) (xR.lit hR 13 (by decide)) hw.1 (v := 0) (zbo_neg (fun e => hno 13 (by decide) e.symm)) ?_)
  show zEv d 266 18 [.ref r, .int (Int32.ofNat at0), .ref w, .int (Int32.ofNat deep), .int 2, .retAddr 0, .retAddr 0] [.int 0] S post
  refine zv_br ht rfl rfl rfl (fun h => absurd h (by decide)) (fun _ => ?_)
  refine zv_c1 ht rfl rfl ?_
  refine zv_c2 (L' := [.ref r, .int (Int32.ofNat at0), .ref w, .int (Int32.ofNat deep), .int 3, .retAddr 0, .retAddr 0]) ht rfl rfl ?_
  refine zv_c1 ht rfl rfl (zv_c1 ht rfl rfl (zv_c1 ht rfl rfl ?_))
  refine zv_br ht rfl rfl rfl (fun h => absurd h (by decide)) (fun _ => ?_)
  refine zv_c1 ht rfl rfl ?_
  have C14 : ∀ (pst13 : Outcome × zS → Prop), (pst13 (.returned (some (.ref 4294967324)), S)) → zCall (d - 1) 8 [.int 3] S pst13 := by
    intro pst13 k16
    have ht15 : ztab 8 = ztb8 := rfl
    show zEv (d - 1) 8 0 [.int 3] [] S pst13
    refine zv_c1 ht15 rfl rfl ?_
    refine zv_sw ht15 rfl rfl rfl rfl rfl ?_
    refine And.intro (fun h => absurd h (by decide)) (fun _ => ?_)
    refine And.intro (fun h => absurd h (by decide)) (fun _ => ?_)
    refine And.intro (fun h => absurd h (by decide)) (fun _ => ?_)
    refine zv_c1 ht15 rfl rfl ?_
    exact zv_rt ht15 rfl rfl rfl rfl k16
  refine zv_cl ht rfl rfl rfl rfl (by omega) (Nat.le_of_ble_eq_true rfl) (C14 _ ?_)
  show zEv d 266 14 [.ref r, .int (Int32.ofNat at0), .ref w, .int (Int32.ofNat deep), .int 3, .retAddr 0, .retAddr 0] [.ref 4294967324] S post
  refine zv_c1 ht rfl rfl ?_
  refine zv_cl ht rfl rfl rfl (zv_tgv ((zStr.t (xR.lit hR 14 (by decide)))) rfl) (by omega) (Nat.le_of_ble_eq_true rfl) (x_eqW (S := S) hF (by omega) (xR.lit hR 14 (by decide)) hw.1 (v := 0) (zbo_neg (fun e => hno 14 (by decide) e.symm)) ?_)
  show zEv d 266 18 [.ref r, .int (Int32.ofNat at0), .ref w, .int (Int32.ofNat deep), .int 3, .retAddr 0, .retAddr 0] [.int 0] S post
  refine zv_br ht rfl rfl rfl (fun h => absurd h (by decide)) (fun _ => ?_)
  refine zv_c1 ht rfl rfl ?_
  refine zv_c2 (L' := [.ref r, .int (Int32.ofNat at0), .ref w, .int (Int32.ofNat deep), .int 4, .retAddr 0, .retAddr 0]) ht rfl rfl ?_
  refine zv_c1 ht rfl rfl (zv_c1 ht rfl rfl (zv_c1 ht rfl rfl ?_))
  refine zv_br ht rfl rfl rfl (fun _ => ?_) (fun h => absurd (by decide) h)
  refine zv_c1 ht rfl rfl ?_
  refine zv_c2 (L' := [.ref r, .int (Int32.ofNat at0), .ref w, .int (Int32.ofNat deep), .int 0, .retAddr 0, .retAddr 0]) ht rfl rfl ?_
  refine zv_c1 ht rfl rfl (zv_c1 ht rfl rfl ?_)
  refine zv_br ht rfl rfl rfl (fun h => absurd h (by decide)) (fun _ => ?_)
  refine zv_c1 ht rfl rfl ?_
  have C18 : ∀ (pst17 : Outcome × zS → Prop), (pst17 (.returned (some (.ref 4294967342)), S)) → zCall (d - 1) 11 [.int 0] S pst17 := by
    intro pst17 k20
    have ht19 : ztab 11 = ztb11 := rfl
    show zEv (d - 1) 11 0 [.int 0] [] S pst17
    refine zv_c1 ht19 rfl rfl ?_
    refine zv_sw ht19 rfl rfl rfl rfl rfl ?_
    refine And.intro (fun _ => ?_) (fun h => absurd (by decide) h)
    refine zv_c1 ht19 rfl rfl ?_
    exact zv_rt ht19 rfl rfl rfl rfl k20
  refine zv_cl ht rfl rfl rfl rfl (by omega) (Nat.le_of_ble_eq_true rfl) (C18 _ ?_)
  show zEv d 266 73 [.ref r, .int (Int32.ofNat at0), .ref w, .int (Int32.ofNat deep), .int 0, .retAddr 0, .retAddr 0] [.ref 4294967342] S post
  refine zv_c1 ht rfl rfl ?_
  refine zv_cl ht rfl rfl rfl (zv_tgv ((zStr.t (xR.lit hR 23 (by decide)))) rfl) (by omega) (Nat.le_of_ble_eq_true rfl) (x_eqW (S := S) hF (by omega) (xR.lit hR 23 (by decide)) hw.1 (v := 0) (zbo_neg (fun e => hno 23 (by decide) e.symm)) ?_)
  show zEv d 266 77 [.ref r, .int (Int32.ofNat at0), .ref w, .int (Int32.ofNat deep), .int 0, .retAddr 0, .retAddr 0] [.int 0] S post
  refine zv_br ht rfl rfl rfl (fun h => absurd h (by decide)) (fun _ => ?_)
  refine zv_c1 ht rfl rfl ?_
  refine zv_c2 (L' := [.ref r, .int (Int32.ofNat at0), .ref w, .int (Int32.ofNat deep), .int 1, .retAddr 0, .retAddr 0]) ht rfl rfl ?_
  refine zv_c1 ht rfl rfl (zv_c1 ht rfl rfl (zv_c1 ht rfl rfl ?_))
  refine zv_br ht rfl rfl rfl (fun h => absurd h (by decide)) (fun _ => ?_)
  refine zv_c1 ht rfl rfl ?_
  have C22 : ∀ (pst21 : Outcome × zS → Prop), (pst21 (.returned (some (.ref 4294967344)), S)) → zCall (d - 1) 11 [.int 1] S pst21 := by
    intro pst21 k24
    have ht23 : ztab 11 = ztb11 := rfl
    show zEv (d - 1) 11 0 [.int 1] [] S pst21
    refine zv_c1 ht23 rfl rfl ?_
    refine zv_sw ht23 rfl rfl rfl rfl rfl ?_
    refine And.intro (fun h => absurd h (by decide)) (fun _ => ?_)
    refine And.intro (fun _ => ?_) (fun h => absurd (by decide) h)
    refine zv_c1 ht23 rfl rfl ?_
    exact zv_rt ht23 rfl rfl rfl rfl k24
  refine zv_cl ht rfl rfl rfl rfl (by omega) (Nat.le_of_ble_eq_true rfl) (C22 _ ?_)
  show zEv d 266 73 [.ref r, .int (Int32.ofNat at0), .ref w, .int (Int32.ofNat deep), .int 1, .retAddr 0, .retAddr 0] [.ref 4294967344] S post
  refine zv_c1 ht rfl rfl ?_
  refine zv_cl ht rfl rfl rfl (zv_tgv ((zStr.t (xR.lit hR 24 (by decide)))) rfl) (by omega) (Nat.le_of_ble_eq_true rfl) (x_eqW (S := S) hF (by omega) (xR.lit hR 24 (by decide)) hw.1 (v := 0) (zbo_neg (fun e => hno 24 (by decide) e.symm)) ?_)
  show zEv d 266 77 [.ref r, .int (Int32.ofNat at0), .ref w, .int (Int32.ofNat deep), .int 1, .retAddr 0, .retAddr 0] [.int 0] S post
  refine zv_br ht rfl rfl rfl (fun h => absurd h (by decide)) (fun _ => ?_)
  refine zv_c1 ht rfl rfl ?_
  refine zv_c2 (L' := [.ref r, .int (Int32.ofNat at0), .ref w, .int (Int32.ofNat deep), .int 2, .retAddr 0, .retAddr 0]) ht rfl rfl ?_
  refine zv_c1 ht rfl rfl (zv_c1 ht rfl rfl (zv_c1 ht rfl rfl ?_))
  refine zv_br ht rfl rfl rfl (fun h => absurd h (by decide)) (fun _ => ?_)
  refine zv_c1 ht rfl rfl ?_
  have C26 : ∀ (pst25 : Outcome × zS → Prop), (pst25 (.returned (some (.ref 4294967346)), S)) → zCall (d - 1) 11 [.int 2] S pst25 := by
    intro pst25 k28
    have ht27 : ztab 11 = ztb11 := rfl
    show zEv (d - 1) 11 0 [.int 2] [] S pst25
    refine zv_c1 ht27 rfl rfl ?_
    refine zv_sw ht27 rfl rfl rfl rfl rfl ?_
    refine And.intro (fun h => absurd h (by decide)) (fun _ => ?_)
    refine And.intro (fun h => absurd h (by decide)) (fun _ => ?_)
    refine And.intro (fun _ => ?_) (fun h => absurd (by decide) h)
    refine zv_c1 ht27 rfl rfl ?_
    exact zv_rt ht27 rfl rfl rfl rfl k28
  refine zv_cl ht rfl rfl rfl rfl (by omega) (Nat.le_of_ble_eq_true rfl) (C26 _ ?_)
  show zEv d 266 73 [.ref r, .int (Int32.ofNat at0), .ref w, .int (Int32.ofNat deep), .int 2, .retAddr 0, .retAddr 0] [.ref 4294967346] S post
  refine zv_c1 ht rfl rfl ?_
  refine zv_cl ht rfl rfl rfl (zv_tgv ((zStr.t (xR.lit hR 25 (by decide)))) rfl) (by omega) (Nat.le_of_ble_eq_true rfl) (x_eqW (S := S) hF (by omega) (xR.lit hR 25 (by decide)) hw.1 (v := 0) (zbo_neg (fun e => hno 25 (by decide) e.symm)) ?_)
  show zEv d 266 77 [.ref r, .int (Int32.ofNat at0), .ref w, .int (Int32.ofNat deep), .int 2, .retAddr 0, .retAddr 0] [.int 0] S post
  refine zv_br ht rfl rfl rfl (fun h => absurd h (by decide)) (fun _ => ?_)
  refine zv_c1 ht rfl rfl ?_
  refine zv_c2 (L' := [.ref r, .int (Int32.ofNat at0), .ref w, .int (Int32.ofNat deep), .int 3, .retAddr 0, .retAddr 0]) ht rfl rfl ?_
  refine zv_c1 ht rfl rfl (zv_c1 ht rfl rfl (zv_c1 ht rfl rfl ?_))
  refine zv_br ht rfl rfl rfl (fun h => absurd h (by decide)) (fun _ => ?_)
  refine zv_c1 ht rfl rfl ?_
  have C30 : ∀ (pst29 : Outcome × zS → Prop), (pst29 (.returned (some (.ref 4294967348)), S)) → zCall (d - 1) 11 [.int 3] S pst29 := by
    intro pst29 k32
    have ht31 : ztab 11 = ztb11 := rfl
    show zEv (d - 1) 11 0 [.int 3] [] S pst29
    refine zv_c1 ht31 rfl rfl ?_
    refine zv_sw ht31 rfl rfl rfl rfl rfl ?_
    refine And.intro (fun h => absurd h (by decide)) (fun _ => ?_)
    refine And.intro (fun h => absurd h (by decide)) (fun _ => ?_)
    refine And.intro (fun h => absurd h (by decide)) (fun _ => ?_)
    refine And.intro (fun _ => ?_) (fun h => absurd (by decide) h)
    refine zv_c1 ht31 rfl rfl ?_
    exact zv_rt ht31 rfl rfl rfl rfl k32
  refine zv_cl ht rfl rfl rfl rfl (by omega) (Nat.le_of_ble_eq_true rfl) (C30 _ ?_)
  show zEv d 266 73 [.ref r, .int (Int32.ofNat at0), .ref w, .int (Int32.ofNat deep), .int 3, .retAddr 0, .retAddr 0] [.ref 4294967348] S post
  refine zv_c1 ht rfl rfl ?_
  refine zv_cl ht rfl rfl rfl (zv_tgv ((zStr.t (xR.lit hR 26 (by decide)))) rfl) (by omega) (Nat.le_of_ble_eq_true rfl) (x_eqW (S := S) hF (by omega) (xR.lit hR 26 (by decide)) hw.1 (v := 0) (zbo_neg (fun e => hno 26 (by decide) e.symm)) ?_)
  show zEv d 266 77 [.ref r, .int (Int32.ofNat at0), .ref w, .int (Int32.ofNat deep), .int 3, .retAddr 0, .retAddr 0] [.int 0] S post
  refine zv_br ht rfl rfl rfl (fun h => absurd h (by decide)) (fun _ => ?_)
  refine zv_c1 ht rfl rfl ?_
  refine zv_c2 (L' := [.ref r, .int (Int32.ofNat at0), .ref w, .int (Int32.ofNat deep), .int 4, .retAddr 0, .retAddr 0]) ht rfl rfl ?_
  refine zv_c1 ht rfl rfl (zv_c1 ht rfl rfl (zv_c1 ht rfl rfl ?_))
  refine zv_br ht rfl rfl rfl (fun h => absurd h (by decide)) (fun _ => ?_)
  refine zv_c1 ht rfl rfl ?_
  have C34 : ∀ (pst33 : Outcome × zS → Prop), (pst33 (.returned (some (.ref 4294967350)), S)) → zCall (d - 1) 11 [.int 4] S pst33 := by
    intro pst33 k36
    have ht35 : ztab 11 = ztb11 := rfl
    show zEv (d - 1) 11 0 [.int 4] [] S pst33
    refine zv_c1 ht35 rfl rfl ?_
    refine zv_sw ht35 rfl rfl rfl rfl rfl ?_
    refine And.intro (fun h => absurd h (by decide)) (fun _ => ?_)
    refine And.intro (fun h => absurd h (by decide)) (fun _ => ?_)
    refine And.intro (fun h => absurd h (by decide)) (fun _ => ?_)
    refine And.intro (fun h => absurd h (by decide)) (fun _ => ?_)
    refine And.intro (fun _ => ?_) (fun h => absurd (by decide) h)
    refine zv_c1 ht35 rfl rfl ?_
    exact zv_rt ht35 rfl rfl rfl rfl k36
  refine zv_cl ht rfl rfl rfl rfl (by omega) (Nat.le_of_ble_eq_true rfl) (C34 _ ?_)
  show zEv d 266 73 [.ref r, .int (Int32.ofNat at0), .ref w, .int (Int32.ofNat deep), .int 4, .retAddr 0, .retAddr 0] [.ref 4294967350] S post
  refine zv_c1 ht rfl rfl ?_
  refine zv_cl ht rfl rfl rfl (zv_tgv ((zStr.t (xR.lit hR 27 (by decide)))) rfl) (by omega) (Nat.le_of_ble_eq_true rfl) (x_eqW (S := S) hF (by omega) (xR.lit hR 27 (by decide)) hw.1 (v := 0) (zbo_neg (fun e => hno 27 (by decide) e.symm)) ?_)
  show zEv d 266 77 [.ref r, .int (Int32.ofNat at0), .ref w, .int (Int32.ofNat deep), .int 4, .retAddr 0, .retAddr 0] [.int 0] S post
  refine zv_br ht rfl rfl rfl (fun h => absurd h (by decide)) (fun _ => ?_)
  refine zv_c1 ht rfl rfl ?_
  refine zv_c2 (L' := [.ref r, .int (Int32.ofNat at0), .ref w, .int (Int32.ofNat deep), .int 5, .retAddr 0, .retAddr 0]) ht rfl rfl ?_
  refine zv_c1 ht rfl rfl (zv_c1 ht rfl rfl (zv_c1 ht rfl rfl ?_))
  refine zv_br ht rfl rfl rfl (fun h => absurd h (by decide)) (fun _ => ?_)
  refine zv_c1 ht rfl rfl ?_
  have C38 : ∀ (pst37 : Outcome × zS → Prop), (pst37 (.returned (some (.ref 4294967352)), S)) → zCall (d - 1) 11 [.int 5] S pst37 := by
    intro pst37 k40
    have ht39 : ztab 11 = ztb11 := rfl
    show zEv (d - 1) 11 0 [.int 5] [] S pst37
    refine zv_c1 ht39 rfl rfl ?_
    refine zv_sw ht39 rfl rfl rfl rfl rfl ?_
    refine And.intro (fun h => absurd h (by decide)) (fun _ => ?_)
    refine And.intro (fun h => absurd h (by decide)) (fun _ => ?_)
    refine And.intro (fun h => absurd h (by decide)) (fun _ => ?_)
    refine And.intro (fun h => absurd h (by decide)) (fun _ => ?_)
    refine And.intro (fun h => absurd h (by decide)) (fun _ => ?_)
    refine zv_c1 ht39 rfl rfl ?_
    exact zv_rt ht39 rfl rfl rfl rfl k40
  refine zv_cl ht rfl rfl rfl rfl (by omega) (Nat.le_of_ble_eq_true rfl) (C38 _ ?_)
  show zEv d 266 73 [.ref r, .int (Int32.ofNat at0), .ref w, .int (Int32.ofNat deep), .int 5, .retAddr 0, .retAddr 0] [.ref 4294967352] S post
  refine zv_c1 ht rfl rfl ?_
  refine zv_cl ht rfl rfl rfl (zv_tgv ((zStr.t (xR.lit hR 28 (by decide)))) rfl) (by omega) (Nat.le_of_ble_eq_true rfl) (x_eqW (S := S) hF (by omega) (xR.lit hR 28 (by decide)) hw.1 (v := 0) (zbo_neg (fun e => hno 28 (by decide) e.symm)) ?_)
  show zEv d 266 77 [.ref r, .int (Int32.ofNat at0), .ref w, .int (Int32.ofNat deep), .int 5, .retAddr 0, .retAddr 0] [.int 0] S post
  refine zv_br ht rfl rfl rfl (fun h => absurd h (by decide)) (fun _ => ?_)
  refine zv_c1 ht rfl rfl ?_
  refine zv_c2 (L' := [.ref r, .int (Int32.ofNat at0), .ref w, .int (Int32.ofNat deep), .int 6, .retAddr 0, .retAddr 0]) ht rfl rfl ?_
  refine zv_c1 ht rfl rfl (zv_c1 ht rfl rfl (zv_c1 ht rfl rfl ?_))
  refine zv_br ht rfl rfl rfl (fun _ => ?_) (fun h => absurd (by decide) h)
  refine zv_c1 ht rfl rfl ?_
  refine zv_cl ht rfl rfl rfl (zv_tgv (hR.1.2.2.2.1) rfl) (by omega) (Nat.le_of_ble_eq_true rfl) (x_form (S := S) (tp := tp) (sz := sz) (r := r) hF (by omega) hR (by omega) (fun S41 hF41 k41 x41 g41 => ?_))
  show zEv d 266 172 [.ref r, .int (Int32.ofNat at0), .ref w, .int (Int32.ofNat deep), .int 6, .retAddr 0, .retAddr 0] [.ref (gN S)] S41 post
  exact zv_th ht rfl rfl rfl ⟨x41.1, (show gN S < gN S41 from by omega)⟩ rfl (h1 S41 hF41 k41 x41 g41)

section X20
variable {d : Nat} {post : Outcome × zS → Prop} {tp : Nat → Nat} {sz : Nat}
theorem x_ot11 {S : zS} (hF : zFin true S) (hK2 : 12 ≤ d) {r at0 nd w deep K : Nat} {rec : Nat → Nat → Nat → pE (zNd × Nat × Nat)} (hK : K + 3 ≤ d) (hmono : pMono rec) (hR : xR tp sz S r at0 nd) (hnd : nd ≤ 80) (hN0 : gN S + 30 * (sz - at0) ≤ 1700000) (hdp : deep < 1000) (hRd : ∀ dp d', deep ≤ 24 → dp = deep + 1 → K ≤ d' → xRd tp sz d' dp rec) (hw : xWd S w (ztn 11)) (hwl : at0 + 6 ≤ sz)
    (h : ∀ o S', xEc tp sz r S (gN S + 30 * (sz - (at0 + 6)) + 2) (gZ S + 150 * (sz - (at0 + 6)) + 60) (pNm tp sz rec 6 at0 (at0 + 6) deep nd) o S' → post (o, S')) : zCall d 266 [.ref r, .int (Int32.ofNat at0), .ref w, .int (Int32.ofNat deep)] S post := by
  have h8 := hR.2.2.2.1
  have h9 := hR.2.2.2.2.1
  have eU : pNm tp sz rec 6 at0 (at0 + 6) deep nd = (do
      let rd1 ← pRead at0 deep nd false
      pW tp sz rec 6 at0 deep (at0 + 6) rd1) := rfl
  refine ot11 (K := K) (rec := rec) hF (by omega) deep hR h8.1 h8.2 h9.1 h9.2 hN0 hdp hnd hK hK2 hmono hRd hw hw.2.1 hwl ?_ ?_ ?_
  · intro S5 nd5 hF5 e5 k5 p5 g5 b5 c5 d5 S7 a7 y7 at7 nd7 hF7 e7 k7 t7 p7 g7 c7
    exact h _ _ (xEc.good (S' := S7) hF7 (zKE.tr (zKE.tr (zKE.tr zKE.rf (zKE.w k5 (show gN S ≤ gN S from by omega) (fun _ h => h) (fun _ h => h))) (zKE_sI (Or.inl (by decide)))) (zKE.w k7 (show gN S ≤ gN S5 from by omega) (fun _ h => h) (fun _ h => h))) t7 p7 (by omega) (eU.trans ((pb_ok e5).trans (e7))))
  · intro S5 nd5 hF5 e5 k5 p5 g5 b5 c5 d5 S8 q8 kk8 z8 hF8 e8 k8 x8 g8
    exact h _ _ (xEc.err (S' := S8) hF8 (zKE.tr (zKE.tr (zKE.tr zKE.rf (zKE.w k5 (show gN S ≤ gN S from by omega) (fun _ h => h) (fun _ h => h))) (zKE_sI (Or.inl (by decide)))) (zKE.w k8 (show gN S ≤ gN S5 from by omega) (fun _ h => h) (fun _ h => h))) x8 (by omega) (eU.trans ((pb_ok e5).trans (e8))))
  · intro S6 q6 hF6 e6 k6 x6 g6
    exact h _ _ (xEc.err (S' := S6) hF6 (zKE.tr zKE.rf (zKE.w k6 (show gN S ≤ gN S from by omega) (fun _ h => h) (fun _ h => h))) x6 (by omega) (eU.trans (pb_er e6)))
theorem x_ot12 {S : zS} (hF : zFin true S) (hK2 : 12 ≤ d) {r at0 nd w deep K : Nat} {rec : Nat → Nat → Nat → pE (zNd × Nat × Nat)} (hK : K + 3 ≤ d) (hmono : pMono rec) (hR : xR tp sz S r at0 nd) (hnd : nd ≤ 80) (hN0 : gN S + 30 * (sz - at0) ≤ 1700000) (hdp : deep < 1000) (hRd : ∀ dp d', deep ≤ 24 → dp = deep + 1 → K ≤ d' → xRd tp sz d' dp rec) (hw : xWd S w (ztn 12)) (hwl : at0 + 7 ≤ sz)
    (h : ∀ o S', xEc tp sz r S (gN S + 30 * (sz - (at0 + 7)) + 2) (gZ S + 150 * (sz - (at0 + 7)) + 60) (pNm tp sz rec 7 at0 (at0 + 7) deep nd) o S' → post (o, S')) : zCall d 266 [.ref r, .int (Int32.ofNat at0), .ref w, .int (Int32.ofNat deep)] S post := by
  have h8 := hR.2.2.2.1
  have h9 := hR.2.2.2.2.1
  have eU : pNm tp sz rec 7 at0 (at0 + 7) deep nd = (do
      let rd1 ← pRead at0 deep nd false
      pW tp sz rec 7 at0 deep (at0 + 7) rd1) := rfl
  refine ot12 (K := K) (rec := rec) hF (by omega) deep hR h8.1 h8.2 h9.1 h9.2 hN0 hdp hnd hK hK2 hmono hRd hw hw.2.1 hwl ?_ ?_ ?_
  · intro S9 nd9 hF9 e9 k9 p9 g9 b9 c9 d9 S11 a11 y11 at11 nd11 hF11 e11 k11 t11 p11 g11 c11
    exact h _ _ (xEc.good (S' := S11) hF11 (zKE.tr (zKE.tr (zKE.tr zKE.rf (zKE.w k9 (show gN S ≤ gN S from by omega) (fun _ h => h) (fun _ h => h))) (zKE_sI (Or.inl (by decide)))) (zKE.w k11 (show gN S ≤ gN S9 from by omega) (fun _ h => h) (fun _ h => h))) t11 p11 (by omega) (eU.trans ((pb_ok e9).trans (e11))))
  · intro S9 nd9 hF9 e9 k9 p9 g9 b9 c9 d9 S12 q12 kk12 z12 hF12 e12 k12 x12 g12
    exact h _ _ (xEc.err (S' := S12) hF12 (zKE.tr (zKE.tr (zKE.tr zKE.rf (zKE.w k9 (show gN S ≤ gN S from by omega) (fun _ h => h) (fun _ h => h))) (zKE_sI (Or.inl (by decide)))) (zKE.w k12 (show gN S ≤ gN S9 from by omega) (fun _ h => h) (fun _ h => h))) x12 (by omega) (eU.trans ((pb_ok e9).trans (e12))))
  · intro S10 q10 hF10 e10 k10 x10 g10
    exact h _ _ (xEc.err (S' := S10) hF10 (zKE.tr zKE.rf (zKE.w k10 (show gN S ≤ gN S from by omega) (fun _ h => h) (fun _ h => h))) x10 (by omega) (eU.trans (pb_er e10)))
theorem x_ot13 {S : zS} (hF : zFin true S) (hK2 : 12 ≤ d) {r at0 nd w deep K : Nat} {rec : Nat → Nat → Nat → pE (zNd × Nat × Nat)} (hK : K + 3 ≤ d) (hmono : pMono rec) (hR : xR tp sz S r at0 nd) (hnd : nd ≤ 80) (hN0 : gN S + 30 * (sz - at0) ≤ 1700000) (hdp : deep < 1000) (hRd : ∀ dp d', deep ≤ 24 → dp = deep + 1 → K ≤ d' → xRd tp sz d' dp rec) (hw : xWd S w (ztn 13)) (hwl : at0 + 9 ≤ sz)
    (h : ∀ o S', xEc tp sz r S (gN S + 30 * (sz - (at0 + 9)) + 2) (gZ S + 150 * (sz - (at0 + 9)) + 60) (pNm tp sz rec 8 at0 (at0 + 9) deep nd) o S' → post (o, S')) : zCall d 266 [.ref r, .int (Int32.ofNat at0), .ref w, .int (Int32.ofNat deep)] S post := by
  have h8 := hR.2.2.2.1
  have h9 := hR.2.2.2.2.1
  have eU : pNm tp sz rec 8 at0 (at0 + 9) deep nd = (do
      let rd1 ← pRead at0 deep nd false
      pW tp sz rec 8 at0 deep (at0 + 9) rd1) := rfl
  refine ot13 (K := K) (rec := rec) hF (by omega) deep hR h8.1 h8.2 h9.1 h9.2 hN0 hdp hnd hK hK2 hmono hRd hw hw.2.1 hwl ?_ ?_ ?_
  · intro S13 nd13 hF13 e13 k13 p13 g13 b13 c13 d13 S15 a15 y15 at15 nd15 hF15 e15 k15 t15 p15 g15 c15
    exact h _ _ (xEc.good (S' := S15) hF15 (zKE.tr (zKE.tr (zKE.tr zKE.rf (zKE.w k13 (show gN S ≤ gN S from by omega) (fun _ h => h) (fun _ h => h))) (zKE_sI (Or.inl (by decide)))) (zKE.w k15 (show gN S ≤ gN S13 from by omega) (fun _ h => h) (fun _ h => h))) t15 p15 (by omega) (eU.trans ((pb_ok e13).trans (e15))))
  · intro S13 nd13 hF13 e13 k13 p13 g13 b13 c13 d13 S16 q16 kk16 z16 hF16 e16 k16 x16 g16
    exact h _ _ (xEc.err (S' := S16) hF16 (zKE.tr (zKE.tr (zKE.tr zKE.rf (zKE.w k13 (show gN S ≤ gN S from by omega) (fun _ h => h) (fun _ h => h))) (zKE_sI (Or.inl (by decide)))) (zKE.w k16 (show gN S ≤ gN S13 from by omega) (fun _ h => h) (fun _ h => h))) x16 (by omega) (eU.trans ((pb_ok e13).trans (e16))))
  · intro S14 q14 hF14 e14 k14 x14 g14
    exact h _ _ (xEc.err (S' := S14) hF14 (zKE.tr zKE.rf (zKE.w k14 (show gN S ≤ gN S from by omega) (fun _ h => h) (fun _ h => h))) x14 (by omega) (eU.trans (pb_er e14)))
theorem x_ot14 {S : zS} (hF : zFin true S) (hK2 : 12 ≤ d) {r at0 nd w deep K : Nat} {rec : Nat → Nat → Nat → pE (zNd × Nat × Nat)} (hK : K + 3 ≤ d) (hmono : pMono rec) (hR : xR tp sz S r at0 nd) (hnd : nd ≤ 80) (hN0 : gN S + 30 * (sz - at0) ≤ 1700000) (hdp : deep < 1000) (hRd : ∀ dp d', deep ≤ 24 → dp = deep + 1 → K ≤ d' → xRd tp sz d' dp rec) (hw : xWd S w (ztn 14)) (hwl : at0 + 7 ≤ sz)
    (h : ∀ o S', xEc tp sz r S (gN S + 30 * (sz - (at0 + 7)) + 2) (gZ S + 150 * (sz - (at0 + 7)) + 60) (pNm tp sz rec 9 at0 (at0 + 7) deep nd) o S' → post (o, S')) : zCall d 266 [.ref r, .int (Int32.ofNat at0), .ref w, .int (Int32.ofNat deep)] S post := by
  have h8 := hR.2.2.2.1
  have h9 := hR.2.2.2.2.1
  have eU : pNm tp sz rec 9 at0 (at0 + 7) deep nd = (do
      let rd1 ← pRead at0 deep nd false
      pW tp sz rec 9 at0 deep (at0 + 7) rd1) := rfl
  refine ot14 (K := K) (rec := rec) hF (by omega) deep hR h8.1 h8.2 h9.1 h9.2 hN0 hdp hnd hK hK2 hmono hRd hw hw.2.1 hwl ?_ ?_ ?_
  · intro S17 nd17 hF17 e17 k17 p17 g17 b17 c17 d17 S19 a19 y19 at19 nd19 hF19 e19 k19 t19 p19 g19 c19
    exact h _ _ (xEc.good (S' := S19) hF19 (zKE.tr (zKE.tr (zKE.tr zKE.rf (zKE.w k17 (show gN S ≤ gN S from by omega) (fun _ h => h) (fun _ h => h))) (zKE_sI (Or.inl (by decide)))) (zKE.w k19 (show gN S ≤ gN S17 from by omega) (fun _ h => h) (fun _ h => h))) t19 p19 (by omega) (eU.trans ((pb_ok e17).trans (e19))))
  · intro S17 nd17 hF17 e17 k17 p17 g17 b17 c17 d17 S20 q20 kk20 z20 hF20 e20 k20 x20 g20
    exact h _ _ (xEc.err (S' := S20) hF20 (zKE.tr (zKE.tr (zKE.tr zKE.rf (zKE.w k17 (show gN S ≤ gN S from by omega) (fun _ h => h) (fun _ h => h))) (zKE_sI (Or.inl (by decide)))) (zKE.w k20 (show gN S ≤ gN S17 from by omega) (fun _ h => h) (fun _ h => h))) x20 (by omega) (eU.trans ((pb_ok e17).trans (e20))))
  · intro S18 q18 hF18 e18 k18 x18 g18
    exact h _ _ (xEc.err (S' := S18) hF18 (zKE.tr zKE.rf (zKE.w k18 (show gN S ≤ gN S from by omega) (fun _ h => h) (fun _ h => h))) x18 (by omega) (eU.trans (pb_er e18)))
theorem x_ot23 {S : zS} (hF : zFin true S) (hK2 : 12 ≤ d) {r at0 nd w deep K : Nat} {rec : Nat → Nat → Nat → pE (zNd × Nat × Nat)} (hK : K + 3 ≤ d) (hmono : pMono rec) (hR : xR tp sz S r at0 nd) (hnd : nd ≤ 80) (hN0 : gN S + 30 * (sz - at0) ≤ 1700000) (hdp : deep < 1000) (hRd : ∀ dp d', deep ≤ 24 → dp = deep + 1 → K ≤ d' → xRd tp sz d' dp rec) (hw : xWd S w (ztn 23)) (hwl : at0 + 5 ≤ sz)
    (h : ∀ o S', xEc tp sz r S (gN S + 30 * (sz - (at0 + 5)) + 2) (gZ S + 150 * (sz - (at0 + 5)) + 60) (pNm tp sz rec 11 at0 (at0 + 5) deep nd) o S' → post (o, S')) : zCall d 266 [.ref r, .int (Int32.ofNat at0), .ref w, .int (Int32.ofNat deep)] S post := by
  have h8 := hR.2.2.2.1
  have h9 := hR.2.2.2.2.1
  have eU : pNm tp sz rec 11 at0 (at0 + 5) deep nd = (do
      let rd1 ← pRead at0 deep nd false
      let a0 ← pWant tp sz 40 (at0 + 5)
      let a ← rec (deep + 1) a0 rd1
      let at1 ← pWant tp sz 44 a.2.1
      let b ← rec (deep + 1) at1 a.2.2
      let at3 ← pWant tp sz 41 b.2.1
      let x ← pJ (tN 11 0 [] at0 [a.1, b.1])
      .ok (x, at3, b.2.2)) := rfl
  refine ot23 (K := K) (rec := rec) hF (by omega) deep hR h8.1 h8.2 h9.1 h9.2 hN0 hdp hnd hK hK2 hmono hRd hw hw.2.1 hwl ?_ ?_ ?_ ?_ ?_ ?_ ?_ ?_
  · intro S21 nd21 hF21 e21 k21 p21 g21 b21 c21 d21 S23 hF23 e23 k23 p23 g23 b23 S25 a25 y25 at25 nd25 hF25 e25 k25 t25 p25 g25 c25 S27 hF27 e27 k27 p27 g27 b27 S29 a29 y29 at29 nd29 hF29 e29 k29 t29 p29 g29 c29 S31 hF31 e31 k31 p31 g31 b31 S44 hF44 e44 j44 t44 p44 g44
    exact h _ _ (xEc.good (S' := S44) hF44 (zKE.tr (zKE.tr (zKE.tr (zKE.tr (zKE.tr (zKE.tr (zKE.tr (zKE.tr (zKE.tr (zKE.tr (zKE.tr (zKE.tr (zKE.tr (zKE.tr zKE.rf (zKE.w k21 (show gN S ≤ gN S from by omega) (fun _ h => h) (fun _ h => h))) (zKE_sI (Or.inl (by decide)))) (zKE.w k23 (show gN S ≤ gN S21 from by omega) (fun _ h => h) (fun _ h => h))) (zKE.w k25 (show gN S ≤ gN S23 from by omega) (fun _ h => h) (fun _ h => h))) (zKE.w k27 (show gN S ≤ gN S25 from by omega) (fun _ h => h) (fun _ h => h))) (zKE.w k29 (show gN S ≤ gN S27 from by omega) (fun _ h => h) (fun _ h => h))) (zKE.w k31 (show gN S ≤ gN S29 from by omega) (fun _ h => h) (fun _ h => h))) (zKE_new (show gN S ≤ gN S31 ∧ gN S31 < zLB from ⟨by omega, by have hLB : zLB = 4294967296 := rfl; omega⟩))) (zKE_sP (Or.inr (Or.inr ⟨by omega, by have hLB : zLB = 4294967296 := rfl; omega⟩)))) (zKE_sI (Or.inr (Or.inr ⟨by omega, by have hLB : zLB = 4294967296 := rfl; omega⟩)))) (zKE_sI (Or.inr (Or.inr ⟨by omega, by have hLB : zLB = 4294967296 := rfl; omega⟩)))) (zKE_sP (Or.inr (Or.inr ⟨by omega, by have hLB : zLB = 4294967296 := rfl; omega⟩)))) (zKE_sP (Or.inr (Or.inr ⟨by omega, by have hLB : zLB = 4294967296 := rfl; omega⟩)))) (zKE.w k44 (show gN S ≤ gN S31 + 1 from by omega) (fun _ h => h) (fun _ h => h))) t44 p44 (by omega) (eU.trans ((pb_ok e21).trans ((pb_ok e23).trans ((pb_ok e25).trans ((pb_ok e27).trans ((pb_ok e29).trans ((pb_ok e31).trans ((pb_ok e44).trans (rfl))))))))))
  · intro S21 nd21 hF21 e21 k21 p21 g21 b21 c21 d21 S23 hF23 e23 k23 p23 g23 b23 S25 a25 y25 at25 nd25 hF25 e25 k25 t25 p25 g25 c25 S27 hF27 e27 k27 p27 g27 b27 S29 a29 y29 at29 nd29 hF29 e29 k29 t29 p29 g29 c29 S31 hF31 e31 k31 p31 g31 b31 S45 q45 hF45 e45 k45 x45 g45
    exact h _ _ (xEc.err (S' := S45) hF45 (zKE.tr (zKE.tr (zKE.tr (zKE.tr (zKE.tr (zKE.tr (zKE.tr (zKE.tr (zKE.tr (zKE.tr (zKE.tr (zKE.tr (zKE.tr (zKE.tr zKE.rf (zKE.w k21 (show gN S ≤ gN S from by omega) (fun _ h => h) (fun _ h => h))) (zKE_sI (Or.inl (by decide)))) (zKE.w k23 (show gN S ≤ gN S21 from by omega) (fun _ h => h) (fun _ h => h))) (zKE.w k25 (show gN S ≤ gN S23 from by omega) (fun _ h => h) (fun _ h => h))) (zKE.w k27 (show gN S ≤ gN S25 from by omega) (fun _ h => h) (fun _ h => h))) (zKE.w k29 (show gN S ≤ gN S27 from by omega) (fun _ h => h) (fun _ h => h))) (zKE.w k31 (show gN S ≤ gN S29 from by omega) (fun _ h => h) (fun _ h => h))) (zKE_new (show gN S ≤ gN S31 ∧ gN S31 < zLB from ⟨by omega, by have hLB : zLB = 4294967296 := rfl; omega⟩))) (zKE_sP (Or.inr (Or.inr ⟨by omega, by have hLB : zLB = 4294967296 := rfl; omega⟩)))) (zKE_sI (Or.inr (Or.inr ⟨by omega, by have hLB : zLB = 4294967296 := rfl; omega⟩)))) (zKE_sI (Or.inr (Or.inr ⟨by omega, by have hLB : zLB = 4294967296 := rfl; omega⟩)))) (zKE_sP (Or.inr (Or.inr ⟨by omega, by have hLB : zLB = 4294967296 := rfl; omega⟩)))) (zKE_sP (Or.inr (Or.inr ⟨by omega, by have hLB : zLB = 4294967296 := rfl; omega⟩)))) (zKE.w k45 (show gN S ≤ gN S31 + 1 from by omega) (fun _ h => h) (fun _ h => h))) x45 (by omega) (eU.trans ((pb_ok e21).trans ((pb_ok e23).trans ((pb_ok e25).trans ((pb_ok e27).trans ((pb_ok e29).trans ((pb_ok e31).trans (pb_er e45)))))))))
  · intro S21 nd21 hF21 e21 k21 p21 g21 b21 c21 d21 S23 hF23 e23 k23 p23 g23 b23 S25 a25 y25 at25 nd25 hF25 e25 k25 t25 p25 g25 c25 S27 hF27 e27 k27 p27 g27 b27 S29 a29 y29 at29 nd29 hF29 e29 k29 t29 p29 g29 c29 S32 q32 hF32 e32 k32 x32 g32
    exact h _ _ (xEc.err (S' := S32) hF32 (zKE.tr (zKE.tr (zKE.tr (zKE.tr (zKE.tr (zKE.tr (zKE.tr zKE.rf (zKE.w k21 (show gN S ≤ gN S from by omega) (fun _ h => h) (fun _ h => h))) (zKE_sI (Or.inl (by decide)))) (zKE.w k23 (show gN S ≤ gN S21 from by omega) (fun _ h => h) (fun _ h => h))) (zKE.w k25 (show gN S ≤ gN S23 from by omega) (fun _ h => h) (fun _ h => h))) (zKE.w k27 (show gN S ≤ gN S25 from by omega) (fun _ h => h) (fun _ h => h))) (zKE.w k29 (show gN S ≤ gN S27 from by omega) (fun _ h => h) (fun _ h => h))) (zKE.w k32 (show gN S ≤ gN S29 from by omega) (fun _ h => h) (fun _ h => h))) x32 (by omega) (eU.trans ((pb_ok e21).trans ((pb_ok e23).trans ((pb_ok e25).trans ((pb_ok e27).trans ((pb_ok e29).trans (pb_er e32))))))))
  · intro S21 nd21 hF21 e21 k21 p21 g21 b21 c21 d21 S23 hF23 e23 k23 p23 g23 b23 S25 a25 y25 at25 nd25 hF25 e25 k25 t25 p25 g25 c25 S27 hF27 e27 k27 p27 g27 b27 S30 q30 kk30 z30 hF30 e30 k30 x30 g30
    exact h _ _ (xEc.err (S' := S30) hF30 (zKE.tr (zKE.tr (zKE.tr (zKE.tr (zKE.tr (zKE.tr zKE.rf (zKE.w k21 (show gN S ≤ gN S from by omega) (fun _ h => h) (fun _ h => h))) (zKE_sI (Or.inl (by decide)))) (zKE.w k23 (show gN S ≤ gN S21 from by omega) (fun _ h => h) (fun _ h => h))) (zKE.w k25 (show gN S ≤ gN S23 from by omega) (fun _ h => h) (fun _ h => h))) (zKE.w k27 (show gN S ≤ gN S25 from by omega) (fun _ h => h) (fun _ h => h))) (zKE.w k30 (show gN S ≤ gN S27 from by omega) (fun _ h => h) (fun _ h => h))) x30 (by omega) (eU.trans ((pb_ok e21).trans ((pb_ok e23).trans ((pb_ok e25).trans ((pb_ok e27).trans (pb_er e30)))))))
  · intro S21 nd21 hF21 e21 k21 p21 g21 b21 c21 d21 S23 hF23 e23 k23 p23 g23 b23 S25 a25 y25 at25 nd25 hF25 e25 k25 t25 p25 g25 c25 S28 q28 hF28 e28 k28 x28 g28
    exact h _ _ (xEc.err (S' := S28) hF28 (zKE.tr (zKE.tr (zKE.tr (zKE.tr (zKE.tr zKE.rf (zKE.w k21 (show gN S ≤ gN S from by omega) (fun _ h => h) (fun _ h => h))) (zKE_sI (Or.inl (by decide)))) (zKE.w k23 (show gN S ≤ gN S21 from by omega) (fun _ h => h) (fun _ h => h))) (zKE.w k25 (show gN S ≤ gN S23 from by omega) (fun _ h => h) (fun _ h => h))) (zKE.w k28 (show gN S ≤ gN S25 from by omega) (fun _ h => h) (fun _ h => h))) x28 (by omega) (eU.trans ((pb_ok e21).trans ((pb_ok e23).trans ((pb_ok e25).trans (pb_er e28))))))
  · intro S21 nd21 hF21 e21 k21 p21 g21 b21 c21 d21 S23 hF23 e23 k23 p23 g23 b23 S26 q26 kk26 z26 hF26 e26 k26 x26 g26
    exact h _ _ (xEc.err (S' := S26) hF26 (zKE.tr (zKE.tr (zKE.tr (zKE.tr zKE.rf (zKE.w k21 (show gN S ≤ gN S from by omega) (fun _ h => h) (fun _ h => h))) (zKE_sI (Or.inl (by decide)))) (zKE.w k23 (show gN S ≤ gN S21 from by omega) (fun _ h => h) (fun _ h => h))) (zKE.w k26 (show gN S ≤ gN S23 from by omega) (fun _ h => h) (fun _ h => h))) x26 (by omega) (eU.trans ((pb_ok e21).trans ((pb_ok e23).trans (pb_er e26)))))
  · intro S21 nd21 hF21 e21 k21 p21 g21 b21 c21 d21 S24 q24 hF24 e24 k24 x24 g24
    exact h _ _ (xEc.err (S' := S24) hF24 (zKE.tr (zKE.tr (zKE.tr zKE.rf (zKE.w k21 (show gN S ≤ gN S from by omega) (fun _ h => h) (fun _ h => h))) (zKE_sI (Or.inl (by decide)))) (zKE.w k24 (show gN S ≤ gN S21 from by omega) (fun _ h => h) (fun _ h => h))) x24 (by omega) (eU.trans ((pb_ok e21).trans (pb_er e24))))
  · intro S22 q22 hF22 e22 k22 x22 g22
    exact h _ _ (xEc.err (S' := S22) hF22 (zKE.tr zKE.rf (zKE.w k22 (show gN S ≤ gN S from by omega) (fun _ h => h) (fun _ h => h))) x22 (by omega) (eU.trans (pb_er e22)))
theorem x_ot24 {S : zS} (hF : zFin true S) (hK2 : 12 ≤ d) {r at0 nd w deep K : Nat} {rec : Nat → Nat → Nat → pE (zNd × Nat × Nat)} (hK : K + 3 ≤ d) (hmono : pMono rec) (hR : xR tp sz S r at0 nd) (hnd : nd ≤ 80) (hN0 : gN S + 30 * (sz - at0) ≤ 1700000) (hdp : deep < 1000) (hRd : ∀ dp d', deep ≤ 24 → dp = deep + 1 → K ≤ d' → xRd tp sz d' dp rec) (hw : xWd S w (ztn 24)) (hwl : at0 + 5 ≤ sz)
    (h : ∀ o S', xEc tp sz r S (gN S + 30 * (sz - (at0 + 5)) + 2) (gZ S + 150 * (sz - (at0 + 5)) + 60) (pNm tp sz rec 12 at0 (at0 + 5) deep nd) o S' → post (o, S')) : zCall d 266 [.ref r, .int (Int32.ofNat at0), .ref w, .int (Int32.ofNat deep)] S post := by
  have h8 := hR.2.2.2.1
  have h9 := hR.2.2.2.2.1
  have eU : pNm tp sz rec 12 at0 (at0 + 5) deep nd = (do
      let rd1 ← pRead at0 deep nd false
      let a0 ← pWant tp sz 40 (at0 + 5)
      let a ← rec (deep + 1) a0 rd1
      let at1 ← pWant tp sz 44 a.2.1
      let b ← rec (deep + 1) at1 a.2.2
      let at3 ← pWant tp sz 41 b.2.1
      let x ← pJ (tN 12 0 [] at0 [a.1, b.1])
      .ok (x, at3, b.2.2)) := rfl
  refine ot24 (K := K) (rec := rec) hF (by omega) deep hR h8.1 h8.2 h9.1 h9.2 hN0 hdp hnd hK hK2 hmono hRd hw hw.2.1 hwl ?_ ?_ ?_ ?_ ?_ ?_ ?_ ?_
  · intro S25 nd25 hF25 e25 k25 p25 g25 b25 c25 d25 S27 hF27 e27 k27 p27 g27 b27 S29 a29 y29 at29 nd29 hF29 e29 k29 t29 p29 g29 c29 S31 hF31 e31 k31 p31 g31 b31 S33 a33 y33 at33 nd33 hF33 e33 k33 t33 p33 g33 c33 S35 hF35 e35 k35 p35 g35 b35 S48 hF48 e48 j48 t48 p48 g48
    exact h _ _ (xEc.good (S' := S48) hF48 (zKE.tr (zKE.tr (zKE.tr (zKE.tr (zKE.tr (zKE.tr (zKE.tr (zKE.tr (zKE.tr (zKE.tr (zKE.tr (zKE.tr (zKE.tr (zKE.tr zKE.rf (zKE.w k25 (show gN S ≤ gN S from by omega) (fun _ h => h) (fun _ h => h))) (zKE_sI (Or.inl (by decide)))) (zKE.w k27 (show gN S ≤ gN S25 from by omega) (fun _ h => h) (fun _ h => h))) (zKE.w k29 (show gN S ≤ gN S27 from by omega) (fun _ h => h) (fun _ h => h))) (zKE.w k31 (show gN S ≤ gN S29 from by omega) (fun _ h => h) (fun _ h => h))) (zKE.w k33 (show gN S ≤ gN S31 from by omega) (fun _ h => h) (fun _ h => h))) (zKE.w k35 (show gN S ≤ gN S33 from by omega) (fun _ h => h) (fun _ h => h))) (zKE_new (show gN S ≤ gN S35 ∧ gN S35 < zLB from ⟨by omega, by have hLB : zLB = 4294967296 := rfl; omega⟩))) (zKE_sP (Or.inr (Or.inr ⟨by omega, by have hLB : zLB = 4294967296 := rfl; omega⟩)))) (zKE_sI (Or.inr (Or.inr ⟨by omega, by have hLB : zLB = 4294967296 := rfl; omega⟩)))) (zKE_sI (Or.inr (Or.inr ⟨by omega, by have hLB : zLB = 4294967296 := rfl; omega⟩)))) (zKE_sP (Or.inr (Or.inr ⟨by omega, by have hLB : zLB = 4294967296 := rfl; omega⟩)))) (zKE_sP (Or.inr (Or.inr ⟨by omega, by have hLB : zLB = 4294967296 := rfl; omega⟩)))) (zKE.w k48 (show gN S ≤ gN S35 + 1 from by omega) (fun _ h => h) (fun _ h => h))) t48 p48 (by omega) (eU.trans ((pb_ok e25).trans ((pb_ok e27).trans ((pb_ok e29).trans ((pb_ok e31).trans ((pb_ok e33).trans ((pb_ok e35).trans ((pb_ok e48).trans (rfl))))))))))
  · intro S25 nd25 hF25 e25 k25 p25 g25 b25 c25 d25 S27 hF27 e27 k27 p27 g27 b27 S29 a29 y29 at29 nd29 hF29 e29 k29 t29 p29 g29 c29 S31 hF31 e31 k31 p31 g31 b31 S33 a33 y33 at33 nd33 hF33 e33 k33 t33 p33 g33 c33 S35 hF35 e35 k35 p35 g35 b35 S49 q49 hF49 e49 k49 x49 g49
    exact h _ _ (xEc.err (S' := S49) hF49 (zKE.tr (zKE.tr (zKE.tr (zKE.tr (zKE.tr (zKE.tr (zKE.tr (zKE.tr (zKE.tr (zKE.tr (zKE.tr (zKE.tr (zKE.tr (zKE.tr zKE.rf (zKE.w k25 (show gN S ≤ gN S from by omega) (fun _ h => h) (fun _ h => h))) (zKE_sI (Or.inl (by decide)))) (zKE.w k27 (show gN S ≤ gN S25 from by omega) (fun _ h => h) (fun _ h => h))) (zKE.w k29 (show gN S ≤ gN S27 from by omega) (fun _ h => h) (fun _ h => h))) (zKE.w k31 (show gN S ≤ gN S29 from by omega) (fun _ h => h) (fun _ h => h))) (zKE.w k33 (show gN S ≤ gN S31 from by omega) (fun _ h => h) (fun _ h => h))) (zKE.w k35 (show gN S ≤ gN S33 from by omega) (fun _ h => h) (fun _ h => h))) (zKE_new (show gN S ≤ gN S35 ∧ gN S35 < zLB from ⟨by omega, by have hLB : zLB = 4294967296 := rfl; omega⟩))) (zKE_sP (Or.inr (Or.inr ⟨by omega, by have hLB : zLB = 4294967296 := rfl; omega⟩)))) (zKE_sI (Or.inr (Or.inr ⟨by omega, by have hLB : zLB = 4294967296 := rfl; omega⟩)))) (zKE_sI (Or.inr (Or.inr ⟨by omega, by have hLB : zLB = 4294967296 := rfl; omega⟩)))) (zKE_sP (Or.inr (Or.inr ⟨by omega, by have hLB : zLB = 4294967296 := rfl; omega⟩)))) (zKE_sP (Or.inr (Or.inr ⟨by omega, by have hLB : zLB = 4294967296 := rfl; omega⟩)))) (zKE.w k49 (show gN S ≤ gN S35 + 1 from by omega) (fun _ h => h) (fun _ h => h))) x49 (by omega) (eU.trans ((pb_ok e25).trans ((pb_ok e27).trans ((pb_ok e29).trans ((pb_ok e31).trans ((pb_ok e33).trans ((pb_ok e35).trans (pb_er e49)))))))))
  · intro S25 nd25 hF25 e25 k25 p25 g25 b25 c25 d25 S27 hF27 e27 k27 p27 g27 b27 S29 a29 y29 at29 nd29 hF29 e29 k29 t29 p29 g29 c29 S31 hF31 e31 k31 p31 g31 b31 S33 a33 y33 at33 nd33 hF33 e33 k33 t33 p33 g33 c33 S36 q36 hF36 e36 k36 x36 g36
    exact h _ _ (xEc.err (S' := S36) hF36 (zKE.tr (zKE.tr (zKE.tr (zKE.tr (zKE.tr (zKE.tr (zKE.tr zKE.rf (zKE.w k25 (show gN S ≤ gN S from by omega) (fun _ h => h) (fun _ h => h))) (zKE_sI (Or.inl (by decide)))) (zKE.w k27 (show gN S ≤ gN S25 from by omega) (fun _ h => h) (fun _ h => h))) (zKE.w k29 (show gN S ≤ gN S27 from by omega) (fun _ h => h) (fun _ h => h))) (zKE.w k31 (show gN S ≤ gN S29 from by omega) (fun _ h => h) (fun _ h => h))) (zKE.w k33 (show gN S ≤ gN S31 from by omega) (fun _ h => h) (fun _ h => h))) (zKE.w k36 (show gN S ≤ gN S33 from by omega) (fun _ h => h) (fun _ h => h))) x36 (by omega) (eU.trans ((pb_ok e25).trans ((pb_ok e27).trans ((pb_ok e29).trans ((pb_ok e31).trans ((pb_ok e33).trans (pb_er e36))))))))
  · intro S25 nd25 hF25 e25 k25 p25 g25 b25 c25 d25 S27 hF27 e27 k27 p27 g27 b27 S29 a29 y29 at29 nd29 hF29 e29 k29 t29 p29 g29 c29 S31 hF31 e31 k31 p31 g31 b31 S34 q34 kk34 z34 hF34 e34 k34 x34 g34
    exact h _ _ (xEc.err (S' := S34) hF34 (zKE.tr (zKE.tr (zKE.tr (zKE.tr (zKE.tr (zKE.tr zKE.rf (zKE.w k25 (show gN S ≤ gN S from by omega) (fun _ h => h) (fun _ h => h))) (zKE_sI (Or.inl (by decide)))) (zKE.w k27 (show gN S ≤ gN S25 from by omega) (fun _ h => h) (fun _ h => h))) (zKE.w k29 (show gN S ≤ gN S27 from by omega) (fun _ h => h) (fun _ h => h))) (zKE.w k31 (show gN S ≤ gN S29 from by omega) (fun _ h => h) (fun _ h => h))) (zKE.w k34 (show gN S ≤ gN S31 from by omega) (fun _ h => h) (fun _ h => h))) x34 (by omega) (eU.trans ((pb_ok e25).trans ((pb_ok e27).trans ((pb_ok e29).trans ((pb_ok e31).trans (pb_er e34)))))))
  · intro S25 nd25 hF25 e25 k25 p25 g25 b25 c25 d25 S27 hF27 e27 k27 p27 g27 b27 S29 a29 y29 at29 nd29 hF29 e29 k29 t29 p29 g29 c29 S32 q32 hF32 e32 k32 x32 g32
    exact h _ _ (xEc.err (S' := S32) hF32 (zKE.tr (zKE.tr (zKE.tr (zKE.tr (zKE.tr zKE.rf (zKE.w k25 (show gN S ≤ gN S from by omega) (fun _ h => h) (fun _ h => h))) (zKE_sI (Or.inl (by decide)))) (zKE.w k27 (show gN S ≤ gN S25 from by omega) (fun _ h => h) (fun _ h => h))) (zKE.w k29 (show gN S ≤ gN S27 from by omega) (fun _ h => h) (fun _ h => h))) (zKE.w k32 (show gN S ≤ gN S29 from by omega) (fun _ h => h) (fun _ h => h))) x32 (by omega) (eU.trans ((pb_ok e25).trans ((pb_ok e27).trans ((pb_ok e29).trans (pb_er e32))))))
  · intro S25 nd25 hF25 e25 k25 p25 g25 b25 c25 d25 S27 hF27 e27 k27 p27 g27 b27 S30 q30 kk30 z30 hF30 e30 k30 x30 g30
    exact h _ _ (xEc.err (S' := S30) hF30 (zKE.tr (zKE.tr (zKE.tr (zKE.tr zKE.rf (zKE.w k25 (show gN S ≤ gN S from by omega) (fun _ h => h) (fun _ h => h))) (zKE_sI (Or.inl (by decide)))) (zKE.w k27 (show gN S ≤ gN S25 from by omega) (fun _ h => h) (fun _ h => h))) (zKE.w k30 (show gN S ≤ gN S27 from by omega) (fun _ h => h) (fun _ h => h))) x30 (by omega) (eU.trans ((pb_ok e25).trans ((pb_ok e27).trans (pb_er e30)))))
  · intro S25 nd25 hF25 e25 k25 p25 g25 b25 c25 d25 S28 q28 hF28 e28 k28 x28 g28
    exact h _ _ (xEc.err (S' := S28) hF28 (zKE.tr (zKE.tr (zKE.tr zKE.rf (zKE.w k25 (show gN S ≤ gN S from by omega) (fun _ h => h) (fun _ h => h))) (zKE_sI (Or.inl (by decide)))) (zKE.w k28 (show gN S ≤ gN S25 from by omega) (fun _ h => h) (fun _ h => h))) x28 (by omega) (eU.trans ((pb_ok e25).trans (pb_er e28))))
  · intro S26 q26 hF26 e26 k26 x26 g26
    exact h _ _ (xEc.err (S' := S26) hF26 (zKE.tr zKE.rf (zKE.w k26 (show gN S ≤ gN S from by omega) (fun _ h => h) (fun _ h => h))) x26 (by omega) (eU.trans (pb_er e26)))
theorem x_ot25 {S : zS} (hF : zFin true S) (hK2 : 12 ≤ d) {r at0 nd w deep K : Nat} {rec : Nat → Nat → Nat → pE (zNd × Nat × Nat)} (hK : K + 3 ≤ d) (hmono : pMono rec) (hR : xR tp sz S r at0 nd) (hnd : nd ≤ 80) (hN0 : gN S + 30 * (sz - at0) ≤ 1700000) (hdp : deep < 1000) (hRd : ∀ dp d', deep ≤ 24 → dp = deep + 1 → K ≤ d' → xRd tp sz d' dp rec) (hw : xWd S w (ztn 25)) (hwl : at0 + 4 ≤ sz)
    (h : ∀ o S', xEc tp sz r S (gN S + 30 * (sz - (at0 + 4)) + 2) (gZ S + 150 * (sz - (at0 + 4)) + 60) (pNm tp sz rec 13 at0 (at0 + 4) deep nd) o S' → post (o, S')) : zCall d 266 [.ref r, .int (Int32.ofNat at0), .ref w, .int (Int32.ofNat deep)] S post := by
  have h8 := hR.2.2.2.1
  have h9 := hR.2.2.2.2.1
  have eU : pNm tp sz rec 13 at0 (at0 + 4) deep nd = (do
      let rd1 ← pRead at0 deep nd false
      let a0 ← pWant tp sz 40 (at0 + 4)
      let a ← rec (deep + 1) a0 rd1
      let at1 ← pWant tp sz 44 a.2.1
      let b ← rec (deep + 1) at1 a.2.2
      let at3 ← pWant tp sz 41 b.2.1
      let x ← pJ (tN 13 0 [] at0 [a.1, b.1])
      .ok (x, at3, b.2.2)) := rfl
  refine ot25 (K := K) (rec := rec) hF (by omega) deep hR h8.1 h8.2 h9.1 h9.2 hN0 hdp hnd hK hK2 hmono hRd hw hw.2.1 hwl ?_ ?_ ?_ ?_ ?_ ?_ ?_ ?_
  · intro S29 nd29 hF29 e29 k29 p29 g29 b29 c29 d29 S31 hF31 e31 k31 p31 g31 b31 S33 a33 y33 at33 nd33 hF33 e33 k33 t33 p33 g33 c33 S35 hF35 e35 k35 p35 g35 b35 S37 a37 y37 at37 nd37 hF37 e37 k37 t37 p37 g37 c37 S39 hF39 e39 k39 p39 g39 b39 S52 hF52 e52 j52 t52 p52 g52
    exact h _ _ (xEc.good (S' := S52) hF52 (zKE.tr (zKE.tr (zKE.tr (zKE.tr (zKE.tr (zKE.tr (zKE.tr (zKE.tr (zKE.tr (zKE.tr (zKE.tr (zKE.tr (zKE.tr (zKE.tr zKE.rf (zKE.w k29 (show gN S ≤ gN S from by omega) (fun _ h => h) (fun _ h => h))) (zKE_sI (Or.inl (by decide)))) (zKE.w k31 (show gN S ≤ gN S29 from by omega) (fun _ h => h) (fun _ h => h))) (zKE.w k33 (show gN S ≤ gN S31 from by omega) (fun _ h => h) (fun _ h => h))) (zKE.w k35 (show gN S ≤ gN S33 from by omega) (fun _ h => h) (fun _ h => h))) (zKE.w k37 (show gN S ≤ gN S35 from by omega) (fun _ h => h) (fun _ h => h))) (zKE.w k39 (show gN S ≤ gN S37 from by omega) (fun _ h => h) (fun _ h => h))) (zKE_new (show gN S ≤ gN S39 ∧ gN S39 < zLB from ⟨by omega, by have hLB : zLB = 4294967296 := rfl; omega⟩))) (zKE_sP (Or.inr (Or.inr ⟨by omega, by have hLB : zLB = 4294967296 := rfl; omega⟩)))) (zKE_sI (Or.inr (Or.inr ⟨by omega, by have hLB : zLB = 4294967296 := rfl; omega⟩)))) (zKE_sI (Or.inr (Or.inr ⟨by omega, by have hLB : zLB = 4294967296 := rfl; omega⟩)))) (zKE_sP (Or.inr (Or.inr ⟨by omega, by have hLB : zLB = 4294967296 := rfl; omega⟩)))) (zKE_sP (Or.inr (Or.inr ⟨by omega, by have hLB : zLB = 4294967296 := rfl; omega⟩)))) (zKE.w k52 (show gN S ≤ gN S39 + 1 from by omega) (fun _ h => h) (fun _ h => h))) t52 p52 (by omega) (eU.trans ((pb_ok e29).trans ((pb_ok e31).trans ((pb_ok e33).trans ((pb_ok e35).trans ((pb_ok e37).trans ((pb_ok e39).trans ((pb_ok e52).trans (rfl))))))))))
  · intro S29 nd29 hF29 e29 k29 p29 g29 b29 c29 d29 S31 hF31 e31 k31 p31 g31 b31 S33 a33 y33 at33 nd33 hF33 e33 k33 t33 p33 g33 c33 S35 hF35 e35 k35 p35 g35 b35 S37 a37 y37 at37 nd37 hF37 e37 k37 t37 p37 g37 c37 S39 hF39 e39 k39 p39 g39 b39 S53 q53 hF53 e53 k53 x53 g53
    exact h _ _ (xEc.err (S' := S53) hF53 (zKE.tr (zKE.tr (zKE.tr (zKE.tr (zKE.tr (zKE.tr (zKE.tr (zKE.tr (zKE.tr (zKE.tr (zKE.tr (zKE.tr (zKE.tr (zKE.tr zKE.rf (zKE.w k29 (show gN S ≤ gN S from by omega) (fun _ h => h) (fun _ h => h))) (zKE_sI (Or.inl (by decide)))) (zKE.w k31 (show gN S ≤ gN S29 from by omega) (fun _ h => h) (fun _ h => h))) (zKE.w k33 (show gN S ≤ gN S31 from by omega) (fun _ h => h) (fun _ h => h))) (zKE.w k35 (show gN S ≤ gN S33 from by omega) (fun _ h => h) (fun _ h => h))) (zKE.w k37 (show gN S ≤ gN S35 from by omega) (fun _ h => h) (fun _ h => h))) (zKE.w k39 (show gN S ≤ gN S37 from by omega) (fun _ h => h) (fun _ h => h))) (zKE_new (show gN S ≤ gN S39 ∧ gN S39 < zLB from ⟨by omega, by have hLB : zLB = 4294967296 := rfl; omega⟩))) (zKE_sP (Or.inr (Or.inr ⟨by omega, by have hLB : zLB = 4294967296 := rfl; omega⟩)))) (zKE_sI (Or.inr (Or.inr ⟨by omega, by have hLB : zLB = 4294967296 := rfl; omega⟩)))) (zKE_sI (Or.inr (Or.inr ⟨by omega, by have hLB : zLB = 4294967296 := rfl; omega⟩)))) (zKE_sP (Or.inr (Or.inr ⟨by omega, by have hLB : zLB = 4294967296 := rfl; omega⟩)))) (zKE_sP (Or.inr (Or.inr ⟨by omega, by have hLB : zLB = 4294967296 := rfl; omega⟩)))) (xFn.ke k53 (show gN S ≤ gN S39 + 1 from by omega) ⟨by omega, by have hLB : zLB = 4294967296 := rfl; omega⟩)) x53 (by omega) (eU.trans ((pb_ok e29).trans ((pb_ok e31).trans ((pb_ok e33).trans ((pb_ok e35).trans ((pb_ok e37).trans ((pb_ok e39).trans (pb_er e53)))))))))
  · intro S29 nd29 hF29 e29 k29 p29 g29 b29 c29 d29 S31 hF31 e31 k31 p31 g31 b31 S33 a33 y33 at33 nd33 hF33 e33 k33 t33 p33 g33 c33 S35 hF35 e35 k35 p35 g35 b35 S37 a37 y37 at37 nd37 hF37 e37 k37 t37 p37 g37 c37 S40 q40 hF40 e40 k40 x40 g40
    exact h _ _ (xEc.err (S' := S40) hF40 (zKE.tr (zKE.tr (zKE.tr (zKE.tr (zKE.tr (zKE.tr (zKE.tr zKE.rf (zKE.w k29 (show gN S ≤ gN S from by omega) (fun _ h => h) (fun _ h => h))) (zKE_sI (Or.inl (by decide)))) (zKE.w k31 (show gN S ≤ gN S29 from by omega) (fun _ h => h) (fun _ h => h))) (zKE.w k33 (show gN S ≤ gN S31 from by omega) (fun _ h => h) (fun _ h => h))) (zKE.w k35 (show gN S ≤ gN S33 from by omega) (fun _ h => h) (fun _ h => h))) (zKE.w k37 (show gN S ≤ gN S35 from by omega) (fun _ h => h) (fun _ h => h))) (zKE.w k40 (show gN S ≤ gN S37 from by omega) (fun _ h => h) (fun _ h => h))) x40 (by omega) (eU.trans ((pb_ok e29).trans ((pb_ok e31).trans ((pb_ok e33).trans ((pb_ok e35).trans ((pb_ok e37).trans (pb_er e40))))))))
  · intro S29 nd29 hF29 e29 k29 p29 g29 b29 c29 d29 S31 hF31 e31 k31 p31 g31 b31 S33 a33 y33 at33 nd33 hF33 e33 k33 t33 p33 g33 c33 S35 hF35 e35 k35 p35 g35 b35 S38 q38 kk38 z38 hF38 e38 k38 x38 g38
    exact h _ _ (xEc.err (S' := S38) hF38 (zKE.tr (zKE.tr (zKE.tr (zKE.tr (zKE.tr (zKE.tr zKE.rf (zKE.w k29 (show gN S ≤ gN S from by omega) (fun _ h => h) (fun _ h => h))) (zKE_sI (Or.inl (by decide)))) (zKE.w k31 (show gN S ≤ gN S29 from by omega) (fun _ h => h) (fun _ h => h))) (zKE.w k33 (show gN S ≤ gN S31 from by omega) (fun _ h => h) (fun _ h => h))) (zKE.w k35 (show gN S ≤ gN S33 from by omega) (fun _ h => h) (fun _ h => h))) (zKE.w k38 (show gN S ≤ gN S35 from by omega) (fun _ h => h) (fun _ h => h))) x38 (by omega) (eU.trans ((pb_ok e29).trans ((pb_ok e31).trans ((pb_ok e33).trans ((pb_ok e35).trans (pb_er e38)))))))
  · intro S29 nd29 hF29 e29 k29 p29 g29 b29 c29 d29 S31 hF31 e31 k31 p31 g31 b31 S33 a33 y33 at33 nd33 hF33 e33 k33 t33 p33 g33 c33 S36 q36 hF36 e36 k36 x36 g36
    exact h _ _ (xEc.err (S' := S36) hF36 (zKE.tr (zKE.tr (zKE.tr (zKE.tr (zKE.tr zKE.rf (zKE.w k29 (show gN S ≤ gN S from by omega) (fun _ h => h) (fun _ h => h))) (zKE_sI (Or.inl (by decide)))) (zKE.w k31 (show gN S ≤ gN S29 from by omega) (fun _ h => h) (fun _ h => h))) (zKE.w k33 (show gN S ≤ gN S31 from by omega) (fun _ h => h) (fun _ h => h))) (zKE.w k36 (show gN S ≤ gN S33 from by omega) (fun _ h => h) (fun _ h => h))) x36 (by omega) (eU.trans ((pb_ok e29).trans ((pb_ok e31).trans ((pb_ok e33).trans (pb_er e36))))))
  · intro S29 nd29 hF29 e29 k29 p29 g29 b29 c29 d29 S31 hF31 e31 k31 p31 g31 b31 S34 q34 kk34 z34 hF34 e34 k34 x34 g34
    exact h _ _ (xEc.err (S' := S34) hF34 (zKE.tr (zKE.tr (zKE.tr (zKE.tr zKE.rf (zKE.w k29 (show gN S ≤ gN S from by omega) (fun _ h => h) (fun _ h => h))) (zKE_sI (Or.inl (by decide)))) (zKE.w k31 (show gN S ≤ gN S29 from by omega) (fun _ h => h) (fun _ h => h))) (zKE.w k34 (show gN S ≤ gN S31 from by omega) (fun _ h => h) (fun _ h => h))) x34 (by omega) (eU.trans ((pb_ok e29).trans ((pb_ok e31).trans (pb_er e34)))))
  · intro S29 nd29 hF29 e29 k29 p29 g29 b29 c29 d29 S32 q32 hF32 e32 k32 x32 g32
    exact h _ _ (xEc.err (S' := S32) hF32 (zKE.tr (zKE.tr (zKE.tr zKE.rf (zKE.w k29 (show gN S ≤ gN S from by omega) (fun _ h => h) (fun _ h => h))) (zKE_sI (Or.inl (by decide)))) (zKE.w k32 (show gN S ≤ gN S29 from by omega) (fun _ h => h) (fun _ h => h))) x32 (by omega) (eU.trans ((pb_ok e29).trans (pb_er e32))))
  · intro S30 q30 hF30 e30 k30 x30 g30
    exact h _ _ (xEc.err (S' := S30) hF30 (zKE.tr zKE.rf (zKE.w k30 (show gN S ≤ gN S from by omega) (fun _ h => h) (fun _ h => h))) x30 (by omega) (eU.trans (pb_er e30)))
theorem x_ot26 {S : zS} (hF : zFin true S) (hK2 : 12 ≤ d) {r at0 nd w deep K : Nat} {rec : Nat → Nat → Nat → pE (zNd × Nat × Nat)} (hK : K + 3 ≤ d) (hmono : pMono rec) (hR : xR tp sz S r at0 nd) (hnd : nd ≤ 80) (hN0 : gN S + 30 * (sz - at0) ≤ 1700000) (hdp : deep < 1000) (hRd : ∀ dp d', deep ≤ 24 → dp = deep + 1 → K ≤ d' → xRd tp sz d' dp rec) (hw : xWd S w (ztn 26)) (hwl : at0 + 4 ≤ sz)
    (h : ∀ o S', xEc tp sz r S (gN S + 30 * (sz - (at0 + 4)) + 2) (gZ S + 150 * (sz - (at0 + 4)) + 60) (pNm tp sz rec 14 at0 (at0 + 4) deep nd) o S' → post (o, S')) : zCall d 266 [.ref r, .int (Int32.ofNat at0), .ref w, .int (Int32.ofNat deep)] S post := by
  have h8 := hR.2.2.2.1
  have h9 := hR.2.2.2.2.1
  have eU : pNm tp sz rec 14 at0 (at0 + 4) deep nd = (do
      let rd1 ← pRead at0 deep nd false
      let a0 ← pWant tp sz 40 (at0 + 4)
      let a ← rec (deep + 1) a0 rd1
      let at1 ← pWant tp sz 44 a.2.1
      let b ← rec (deep + 1) at1 a.2.2
      let at3 ← pWant tp sz 41 b.2.1
      let x ← pJ (tN 14 0 [] at0 [a.1, b.1])
      .ok (x, at3, b.2.2)) := rfl
  refine ot26 (K := K) (rec := rec) hF (by omega) deep hR h8.1 h8.2 h9.1 h9.2 hN0 hdp hnd hK hK2 hmono hRd hw hw.2.1 hwl ?_ ?_ ?_ ?_ ?_ ?_ ?_ ?_
  · intro S33 nd33 hF33 e33 k33 p33 g33 b33 c33 d33 S35 hF35 e35 k35 p35 g35 b35 S37 a37 y37 at37 nd37 hF37 e37 k37 t37 p37 g37 c37 S39 hF39 e39 k39 p39 g39 b39 S41 a41 y41 at41 nd41 hF41 e41 k41 t41 p41 g41 c41 S43 hF43 e43 k43 p43 g43 b43 S56 hF56 e56 j56 t56 p56 g56
    exact h _ _ (xEc.good (S' := S56) hF56 (zKE.tr (zKE.tr (zKE.tr (zKE.tr (zKE.tr (zKE.tr (zKE.tr (zKE.tr (zKE.tr (zKE.tr (zKE.tr (zKE.tr (zKE.tr (zKE.tr zKE.rf (zKE.w k33 (show gN S ≤ gN S from by omega) (fun _ h => h) (fun _ h => h))) (zKE_sI (Or.inl (by decide)))) (zKE.w k35 (show gN S ≤ gN S33 from by omega) (fun _ h => h) (fun _ h => h))) (zKE.w k37 (show gN S ≤ gN S35 from by omega) (fun _ h => h) (fun _ h => h))) (zKE.w k39 (show gN S ≤ gN S37 from by omega) (fun _ h => h) (fun _ h => h))) (zKE.w k41 (show gN S ≤ gN S39 from by omega) (fun _ h => h) (fun _ h => h))) (zKE.w k43 (show gN S ≤ gN S41 from by omega) (fun _ h => h) (fun _ h => h))) (zKE_new (show gN S ≤ gN S43 ∧ gN S43 < zLB from ⟨by omega, by have hLB : zLB = 4294967296 := rfl; omega⟩))) (zKE_sP (Or.inr (Or.inr ⟨by omega, by have hLB : zLB = 4294967296 := rfl; omega⟩)))) (zKE_sI (Or.inr (Or.inr ⟨by omega, by have hLB : zLB = 4294967296 := rfl; omega⟩)))) (zKE_sI (Or.inr (Or.inr ⟨by omega, by have hLB : zLB = 4294967296 := rfl; omega⟩)))) (zKE_sP (Or.inr (Or.inr ⟨by omega, by have hLB : zLB = 4294967296 := rfl; omega⟩)))) (zKE_sP (Or.inr (Or.inr ⟨by omega, by have hLB : zLB = 4294967296 := rfl; omega⟩)))) (xJd.ke j56 ⟨by omega, by have hLB : zLB = 4294967296 := rfl; omega⟩)) t56 p56 (by omega) (eU.trans ((pb_ok e33).trans ((pb_ok e35).trans ((pb_ok e37).trans ((pb_ok e39).trans ((pb_ok e41).trans ((pb_ok e43).trans ((pb_ok e56).trans (rfl))))))))))
  · intro S33 nd33 hF33 e33 k33 p33 g33 b33 c33 d33 S35 hF35 e35 k35 p35 g35 b35 S37 a37 y37 at37 nd37 hF37 e37 k37 t37 p37 g37 c37 S39 hF39 e39 k39 p39 g39 b39 S41 a41 y41 at41 nd41 hF41 e41 k41 t41 p41 g41 c41 S43 hF43 e43 k43 p43 g43 b43 S57 q57 hF57 e57 k57 x57 g57
    exact h _ _ (xEc.err (S' := S57) hF57 (zKE.tr (zKE.tr (zKE.tr (zKE.tr (zKE.tr (zKE.tr (zKE.tr (zKE.tr (zKE.tr (zKE.tr (zKE.tr (zKE.tr (zKE.tr (zKE.tr zKE.rf (zKE.w k33 (show gN S ≤ gN S from by omega) (fun _ h => h) (fun _ h => h))) (zKE_sI (Or.inl (by decide)))) (zKE.w k35 (show gN S ≤ gN S33 from by omega) (fun _ h => h) (fun _ h => h))) (zKE.w k37 (show gN S ≤ gN S35 from by omega) (fun _ h => h) (fun _ h => h))) (zKE.w k39 (show gN S ≤ gN S37 from by omega) (fun _ h => h) (fun _ h => h))) (zKE.w k41 (show gN S ≤ gN S39 from by omega) (fun _ h => h) (fun _ h => h))) (zKE.w k43 (show gN S ≤ gN S41 from by omega) (fun _ h => h) (fun _ h => h))) (zKE_new (show gN S ≤ gN S43 ∧ gN S43 < zLB from ⟨by omega, by have hLB : zLB = 4294967296 := rfl; omega⟩))) (zKE_sP (Or.inr (Or.inr ⟨by omega, by have hLB : zLB = 4294967296 := rfl; omega⟩)))) (zKE_sI (Or.inr (Or.inr ⟨by omega, by have hLB : zLB = 4294967296 := rfl; omega⟩)))) (zKE_sI (Or.inr (Or.inr ⟨by omega, by have hLB : zLB = 4294967296 := rfl; omega⟩)))) (zKE_sP (Or.inr (Or.inr ⟨by omega, by have hLB : zLB = 4294967296 := rfl; omega⟩)))) (zKE_sP (Or.inr (Or.inr ⟨by omega, by have hLB : zLB = 4294967296 := rfl; omega⟩)))) (xFn.ke k57 (show gN S ≤ gN S43 + 1 from by omega) ⟨by omega, by have hLB : zLB = 4294967296 := rfl; omega⟩)) x57 (by omega) (eU.trans ((pb_ok e33).trans ((pb_ok e35).trans ((pb_ok e37).trans ((pb_ok e39).trans ((pb_ok e41).trans ((pb_ok e43).trans (pb_er e57)))))))))
  · intro S33 nd33 hF33 e33 k33 p33 g33 b33 c33 d33 S35 hF35 e35 k35 p35 g35 b35 S37 a37 y37 at37 nd37 hF37 e37 k37 t37 p37 g37 c37 S39 hF39 e39 k39 p39 g39 b39 S41 a41 y41 at41 nd41 hF41 e41 k41 t41 p41 g41 c41 S44 q44 hF44 e44 k44 x44 g44
    exact h _ _ (xEc.err (S' := S44) hF44 (zKE.tr (zKE.tr (zKE.tr (zKE.tr (zKE.tr (zKE.tr (zKE.tr zKE.rf (zKE.w k33 (show gN S ≤ gN S from by omega) (fun _ h => h) (fun _ h => h))) (zKE_sI (Or.inl (by decide)))) (zKE.w k35 (show gN S ≤ gN S33 from by omega) (fun _ h => h) (fun _ h => h))) (zKE.w k37 (show gN S ≤ gN S35 from by omega) (fun _ h => h) (fun _ h => h))) (zKE.w k39 (show gN S ≤ gN S37 from by omega) (fun _ h => h) (fun _ h => h))) (zKE.w k41 (show gN S ≤ gN S39 from by omega) (fun _ h => h) (fun _ h => h))) (zKE.w k44 (show gN S ≤ gN S41 from by omega) (fun _ h => h) (fun _ h => h))) x44 (by omega) (eU.trans ((pb_ok e33).trans ((pb_ok e35).trans ((pb_ok e37).trans ((pb_ok e39).trans ((pb_ok e41).trans (pb_er e44))))))))
  · intro S33 nd33 hF33 e33 k33 p33 g33 b33 c33 d33 S35 hF35 e35 k35 p35 g35 b35 S37 a37 y37 at37 nd37 hF37 e37 k37 t37 p37 g37 c37 S39 hF39 e39 k39 p39 g39 b39 S42 q42 kk42 z42 hF42 e42 k42 x42 g42
    exact h _ _ (xEc.err (S' := S42) hF42 (zKE.tr (zKE.tr (zKE.tr (zKE.tr (zKE.tr (zKE.tr zKE.rf (zKE.w k33 (show gN S ≤ gN S from by omega) (fun _ h => h) (fun _ h => h))) (zKE_sI (Or.inl (by decide)))) (zKE.w k35 (show gN S ≤ gN S33 from by omega) (fun _ h => h) (fun _ h => h))) (zKE.w k37 (show gN S ≤ gN S35 from by omega) (fun _ h => h) (fun _ h => h))) (zKE.w k39 (show gN S ≤ gN S37 from by omega) (fun _ h => h) (fun _ h => h))) (zKE.w k42 (show gN S ≤ gN S39 from by omega) (fun _ h => h) (fun _ h => h))) x42 (by omega) (eU.trans ((pb_ok e33).trans ((pb_ok e35).trans ((pb_ok e37).trans ((pb_ok e39).trans (pb_er e42)))))))
  · intro S33 nd33 hF33 e33 k33 p33 g33 b33 c33 d33 S35 hF35 e35 k35 p35 g35 b35 S37 a37 y37 at37 nd37 hF37 e37 k37 t37 p37 g37 c37 S40 q40 hF40 e40 k40 x40 g40
    exact h _ _ (xEc.err (S' := S40) hF40 (zKE.tr (zKE.tr (zKE.tr (zKE.tr (zKE.tr zKE.rf (zKE.w k33 (show gN S ≤ gN S from by omega) (fun _ h => h) (fun _ h => h))) (zKE_sI (Or.inl (by decide)))) (zKE.w k35 (show gN S ≤ gN S33 from by omega) (fun _ h => h) (fun _ h => h))) (zKE.w k37 (show gN S ≤ gN S35 from by omega) (fun _ h => h) (fun _ h => h))) (zKE.w k40 (show gN S ≤ gN S37 from by omega) (fun _ h => h) (fun _ h => h))) x40 (by omega) (eU.trans ((pb_ok e33).trans ((pb_ok e35).trans ((pb_ok e37).trans (pb_er e40))))))
  · intro S33 nd33 hF33 e33 k33 p33 g33 b33 c33 d33 S35 hF35 e35 k35 p35 g35 b35 S38 q38 kk38 z38 hF38 e38 k38 x38 g38
    exact h _ _ (xEc.err (S' := S38) hF38 (zKE.tr (zKE.tr (zKE.tr (zKE.tr zKE.rf (zKE.w k33 (show gN S ≤ gN S from by omega) (fun _ h => h) (fun _ h => h))) (zKE_sI (Or.inl (by decide)))) (zKE.w k35 (show gN S ≤ gN S33 from by omega) (fun _ h => h) (fun _ h => h))) (zKE.w k38 (show gN S ≤ gN S35 from by omega) (fun _ h => h) (fun _ h => h))) x38 (by omega) (eU.trans ((pb_ok e33).trans ((pb_ok e35).trans (pb_er e38)))))
  · intro S33 nd33 hF33 e33 k33 p33 g33 b33 c33 d33 S36 q36 hF36 e36 k36 x36 g36
    exact h _ _ (xEc.err (S' := S36) hF36 (zKE.tr (zKE.tr (zKE.tr zKE.rf (zKE.w k33 (show gN S ≤ gN S from by omega) (fun _ h => h) (fun _ h => h))) (zKE_sI (Or.inl (by decide)))) (zKE.w k36 (show gN S ≤ gN S33 from by omega) (fun _ h => h) (fun _ h => h))) x36 (by omega) (eU.trans ((pb_ok e33).trans (pb_er e36))))
  · intro S34 q34 hF34 e34 k34 x34 g34
    exact h _ _ (xEc.err (S' := S34) hF34 (zKE.tr zKE.rf (zKE.w k34 (show gN S ≤ gN S from by omega) (fun _ h => h) (fun _ h => h))) x34 (by omega) (eU.trans (pb_er e34)))
theorem x_ot27 {S : zS} (hF : zFin true S) (hK2 : 12 ≤ d) {r at0 nd w deep K : Nat} {rec : Nat → Nat → Nat → pE (zNd × Nat × Nat)} (hK : K + 3 ≤ d) (hmono : pMono rec) (hR : xR tp sz S r at0 nd) (hnd : nd ≤ 80) (hN0 : gN S + 30 * (sz - at0) ≤ 1700000) (hdp : deep < 1000) (hRd : ∀ dp d', deep ≤ 24 → dp = deep + 1 → K ≤ d' → xRd tp sz d' dp rec) (hw : xWd S w (ztn 27)) (hwl : at0 + 4 ≤ sz)
    (h : ∀ o S', xEc tp sz r S (gN S + 30 * (sz - (at0 + 4)) + 2) (gZ S + 150 * (sz - (at0 + 4)) + 60) (pNm tp sz rec 15 at0 (at0 + 4) deep nd) o S' → post (o, S')) : zCall d 266 [.ref r, .int (Int32.ofNat at0), .ref w, .int (Int32.ofNat deep)] S post := by
  have h8 := hR.2.2.2.1
  have h9 := hR.2.2.2.2.1
  have eU : pNm tp sz rec 15 at0 (at0 + 4) deep nd = (do
      let rd1 ← pRead at0 deep nd false
      let a0 ← pWant tp sz 40 (at0 + 4)
      let a ← rec (deep + 1) a0 rd1
      let at1 ← pWant tp sz 44 a.2.1
      let b ← rec (deep + 1) at1 a.2.2
      let at3 ← pWant tp sz 41 b.2.1
      let x ← pJ (tN 15 0 [] at0 [a.1, b.1])
      .ok (x, at3, b.2.2)) := rfl
  refine ot27 (K := K) (rec := rec) hF (by omega) deep hR h8.1 h8.2 h9.1 h9.2 hN0 hdp hnd hK hK2 hmono hRd hw hw.2.1 hwl ?_ ?_ ?_ ?_ ?_ ?_ ?_ ?_
  · intro S37 nd37 hF37 e37 k37 p37 g37 b37 c37 d37 S39 hF39 e39 k39 p39 g39 b39 S41 a41 y41 at41 nd41 hF41 e41 k41 t41 p41 g41 c41 S43 hF43 e43 k43 p43 g43 b43 S45 a45 y45 at45 nd45 hF45 e45 k45 t45 p45 g45 c45 S47 hF47 e47 k47 p47 g47 b47 S60 hF60 e60 j60 t60 p60 g60
    exact h _ _ (xEc.good (S' := S60) hF60 (zKE.tr (zKE.tr (zKE.tr (zKE.tr (zKE.tr (zKE.tr (zKE.tr (zKE.tr (zKE.tr (zKE.tr (zKE.tr (zKE.tr (zKE.tr (zKE.tr zKE.rf (zKE.w k37 (show gN S ≤ gN S from by omega) (fun _ h => h) (fun _ h => h))) (zKE_sI (Or.inl (by decide)))) (zKE.w k39 (show gN S ≤ gN S37 from by omega) (fun _ h => h) (fun _ h => h))) (zKE.w k41 (show gN S ≤ gN S39 from by omega) (fun _ h => h) (fun _ h => h))) (zKE.w k43 (show gN S ≤ gN S41 from by omega) (fun _ h => h) (fun _ h => h))) (zKE.w k45 (show gN S ≤ gN S43 from by omega) (fun _ h => h) (fun _ h => h))) (zKE.w k47 (show gN S ≤ gN S45 from by omega) (fun _ h => h) (fun _ h => h))) (zKE_new (show gN S ≤ gN S47 ∧ gN S47 < zLB from ⟨by omega, by have hLB : zLB = 4294967296 := rfl; omega⟩))) (zKE_sP (Or.inr (Or.inr ⟨by omega, by have hLB : zLB = 4294967296 := rfl; omega⟩)))) (zKE_sI (Or.inr (Or.inr ⟨by omega, by have hLB : zLB = 4294967296 := rfl; omega⟩)))) (zKE_sI (Or.inr (Or.inr ⟨by omega, by have hLB : zLB = 4294967296 := rfl; omega⟩)))) (zKE_sP (Or.inr (Or.inr ⟨by omega, by have hLB : zLB = 4294967296 := rfl; omega⟩)))) (zKE_sP (Or.inr (Or.inr ⟨by omega, by have hLB : zLB = 4294967296 := rfl; omega⟩)))) (xJd.ke j60 ⟨by omega, by have hLB : zLB = 4294967296 := rfl; omega⟩)) t60 p60 (by omega) (eU.trans ((pb_ok e37).trans ((pb_ok e39).trans ((pb_ok e41).trans ((pb_ok e43).trans ((pb_ok e45).trans ((pb_ok e47).trans ((pb_ok e60).trans (rfl))))))))))
  · intro S37 nd37 hF37 e37 k37 p37 g37 b37 c37 d37 S39 hF39 e39 k39 p39 g39 b39 S41 a41 y41 at41 nd41 hF41 e41 k41 t41 p41 g41 c41 S43 hF43 e43 k43 p43 g43 b43 S45 a45 y45 at45 nd45 hF45 e45 k45 t45 p45 g45 c45 S47 hF47 e47 k47 p47 g47 b47 S61 q61 hF61 e61 k61 x61 g61
    exact h _ _ (xEc.err (S' := S61) hF61 (zKE.tr (zKE.tr (zKE.tr (zKE.tr (zKE.tr (zKE.tr (zKE.tr (zKE.tr (zKE.tr (zKE.tr (zKE.tr (zKE.tr (zKE.tr (zKE.tr zKE.rf (zKE.w k37 (show gN S ≤ gN S from by omega) (fun _ h => h) (fun _ h => h))) (zKE_sI (Or.inl (by decide)))) (zKE.w k39 (show gN S ≤ gN S37 from by omega) (fun _ h => h) (fun _ h => h))) (zKE.w k41 (show gN S ≤ gN S39 from by omega) (fun _ h => h) (fun _ h => h))) (zKE.w k43 (show gN S ≤ gN S41 from by omega) (fun _ h => h) (fun _ h => h))) (zKE.w k45 (show gN S ≤ gN S43 from by omega) (fun _ h => h) (fun _ h => h))) (zKE.w k47 (show gN S ≤ gN S45 from by omega) (fun _ h => h) (fun _ h => h))) (zKE_new (show gN S ≤ gN S47 ∧ gN S47 < zLB from ⟨by omega, by have hLB : zLB = 4294967296 := rfl; omega⟩))) (zKE_sP (Or.inr (Or.inr ⟨by omega, by have hLB : zLB = 4294967296 := rfl; omega⟩)))) (zKE_sI (Or.inr (Or.inr ⟨by omega, by have hLB : zLB = 4294967296 := rfl; omega⟩)))) (zKE_sI (Or.inr (Or.inr ⟨by omega, by have hLB : zLB = 4294967296 := rfl; omega⟩)))) (zKE_sP (Or.inr (Or.inr ⟨by omega, by have hLB : zLB = 4294967296 := rfl; omega⟩)))) (zKE_sP (Or.inr (Or.inr ⟨by omega, by have hLB : zLB = 4294967296 := rfl; omega⟩)))) (xFn.ke k61 (show gN S ≤ gN S47 + 1 from by omega) ⟨by omega, by have hLB : zLB = 4294967296 := rfl; omega⟩)) x61 (by omega) (eU.trans ((pb_ok e37).trans ((pb_ok e39).trans ((pb_ok e41).trans ((pb_ok e43).trans ((pb_ok e45).trans ((pb_ok e47).trans (pb_er e61)))))))))
  · intro S37 nd37 hF37 e37 k37 p37 g37 b37 c37 d37 S39 hF39 e39 k39 p39 g39 b39 S41 a41 y41 at41 nd41 hF41 e41 k41 t41 p41 g41 c41 S43 hF43 e43 k43 p43 g43 b43 S45 a45 y45 at45 nd45 hF45 e45 k45 t45 p45 g45 c45 S48 q48 hF48 e48 k48 x48 g48
    exact h _ _ (xEc.err (S' := S48) hF48 (zKE.tr (zKE.tr (zKE.tr (zKE.tr (zKE.tr (zKE.tr (zKE.tr zKE.rf (zKE.w k37 (show gN S ≤ gN S from by omega) (fun _ h => h) (fun _ h => h))) (zKE_sI (Or.inl (by decide)))) (zKE.w k39 (show gN S ≤ gN S37 from by omega) (fun _ h => h) (fun _ h => h))) (zKE.w k41 (show gN S ≤ gN S39 from by omega) (fun _ h => h) (fun _ h => h))) (zKE.w k43 (show gN S ≤ gN S41 from by omega) (fun _ h => h) (fun _ h => h))) (zKE.w k45 (show gN S ≤ gN S43 from by omega) (fun _ h => h) (fun _ h => h))) (zKE.w k48 (show gN S ≤ gN S45 from by omega) (fun _ h => h) (fun _ h => h))) x48 (by omega) (eU.trans ((pb_ok e37).trans ((pb_ok e39).trans ((pb_ok e41).trans ((pb_ok e43).trans ((pb_ok e45).trans (pb_er e48))))))))
  · intro S37 nd37 hF37 e37 k37 p37 g37 b37 c37 d37 S39 hF39 e39 k39 p39 g39 b39 S41 a41 y41 at41 nd41 hF41 e41 k41 t41 p41 g41 c41 S43 hF43 e43 k43 p43 g43 b43 S46 q46 kk46 z46 hF46 e46 k46 x46 g46
    exact h _ _ (xEc.err (S' := S46) hF46 (zKE.tr (zKE.tr (zKE.tr (zKE.tr (zKE.tr (zKE.tr zKE.rf (zKE.w k37 (show gN S ≤ gN S from by omega) (fun _ h => h) (fun _ h => h))) (zKE_sI (Or.inl (by decide)))) (zKE.w k39 (show gN S ≤ gN S37 from by omega) (fun _ h => h) (fun _ h => h))) (zKE.w k41 (show gN S ≤ gN S39 from by omega) (fun _ h => h) (fun _ h => h))) (zKE.w k43 (show gN S ≤ gN S41 from by omega) (fun _ h => h) (fun _ h => h))) (zKE.w k46 (show gN S ≤ gN S43 from by omega) (fun _ h => h) (fun _ h => h))) x46 (by omega) (eU.trans ((pb_ok e37).trans ((pb_ok e39).trans ((pb_ok e41).trans ((pb_ok e43).trans (pb_er e46)))))))
  · intro S37 nd37 hF37 e37 k37 p37 g37 b37 c37 d37 S39 hF39 e39 k39 p39 g39 b39 S41 a41 y41 at41 nd41 hF41 e41 k41 t41 p41 g41 c41 S44 q44 hF44 e44 k44 x44 g44
    exact h _ _ (xEc.err (S' := S44) hF44 (zKE.tr (zKE.tr (zKE.tr (zKE.tr (zKE.tr zKE.rf (zKE.w k37 (show gN S ≤ gN S from by omega) (fun _ h => h) (fun _ h => h))) (zKE_sI (Or.inl (by decide)))) (zKE.w k39 (show gN S ≤ gN S37 from by omega) (fun _ h => h) (fun _ h => h))) (zKE.w k41 (show gN S ≤ gN S39 from by omega) (fun _ h => h) (fun _ h => h))) (zKE.w k44 (show gN S ≤ gN S41 from by omega) (fun _ h => h) (fun _ h => h))) x44 (by omega) (eU.trans ((pb_ok e37).trans ((pb_ok e39).trans ((pb_ok e41).trans (pb_er e44))))))
  · intro S37 nd37 hF37 e37 k37 p37 g37 b37 c37 d37 S39 hF39 e39 k39 p39 g39 b39 S42 q42 kk42 z42 hF42 e42 k42 x42 g42
    exact h _ _ (xEc.err (S' := S42) hF42 (zKE.tr (zKE.tr (zKE.tr (zKE.tr zKE.rf (zKE.w k37 (show gN S ≤ gN S from by omega) (fun _ h => h) (fun _ h => h))) (zKE_sI (Or.inl (by decide)))) (zKE.w k39 (show gN S ≤ gN S37 from by omega) (fun _ h => h) (fun _ h => h))) (zKE.w k42 (show gN S ≤ gN S39 from by omega) (fun _ h => h) (fun _ h => h))) x42 (by omega) (eU.trans ((pb_ok e37).trans ((pb_ok e39).trans (pb_er e42)))))
  · intro S37 nd37 hF37 e37 k37 p37 g37 b37 c37 d37 S40 q40 hF40 e40 k40 x40 g40
    exact h _ _ (xEc.err (S' := S40) hF40 (zKE.tr (zKE.tr (zKE.tr zKE.rf (zKE.w k37 (show gN S ≤ gN S from by omega) (fun _ h => h) (fun _ h => h))) (zKE_sI (Or.inl (by decide)))) (zKE.w k40 (show gN S ≤ gN S37 from by omega) (fun _ h => h) (fun _ h => h))) x40 (by omega) (eU.trans ((pb_ok e37).trans (pb_er e40))))
  · intro S38 q38 hF38 e38 k38 x38 g38
    exact h _ _ (xEc.err (S' := S38) hF38 (zKE.tr zKE.rf (zKE.w k38 (show gN S ≤ gN S from by omega) (fun _ h => h) (fun _ h => h))) x38 (by omega) (eU.trans (pb_er e38)))
theorem x_ot28 {S : zS} (hF : zFin true S) (hK2 : 12 ≤ d) {r at0 nd w deep K : Nat} {rec : Nat → Nat → Nat → pE (zNd × Nat × Nat)} (hK : K + 3 ≤ d) (hmono : pMono rec) (hR : xR tp sz S r at0 nd) (hnd : nd ≤ 80) (hN0 : gN S + 30 * (sz - at0) ≤ 1700000) (hdp : deep < 1000) (hRd : ∀ dp d', deep ≤ 24 → dp = deep + 1 → K ≤ d' → xRd tp sz d' dp rec) (hw : xWd S w (ztn 28)) (hwl : at0 + 4 ≤ sz)
    (h : ∀ o S', xEc tp sz r S (gN S + 30 * (sz - (at0 + 4)) + 2) (gZ S + 150 * (sz - (at0 + 4)) + 60) (pNm tp sz rec 16 at0 (at0 + 4) deep nd) o S' → post (o, S')) : zCall d 266 [.ref r, .int (Int32.ofNat at0), .ref w, .int (Int32.ofNat deep)] S post := by
  have h8 := hR.2.2.2.1
  have h9 := hR.2.2.2.2.1
  have eU : pNm tp sz rec 16 at0 (at0 + 4) deep nd = (do
      let rd1 ← pRead at0 deep nd false
      let a0 ← pWant tp sz 40 (at0 + 4)
      let a ← rec (deep + 1) a0 rd1
      let at1 ← pWant tp sz 44 a.2.1
      let b ← rec (deep + 1) at1 a.2.2
      let at3 ← pWant tp sz 41 b.2.1
      let x ← pJ (tN 16 0 [] at0 [a.1, b.1])
      .ok (x, at3, b.2.2)) := rfl
  refine ot28 (K := K) (rec := rec) hF (by omega) deep hR h8.1 h8.2 h9.1 h9.2 hN0 hdp hnd hK hK2 hmono hRd hw hw.2.1 hwl ?_ ?_ ?_ ?_ ?_ ?_ ?_ ?_
  · intro S41 nd41 hF41 e41 k41 p41 g41 b41 c41 d41 S43 hF43 e43 k43 p43 g43 b43 S45 a45 y45 at45 nd45 hF45 e45 k45 t45 p45 g45 c45 S47 hF47 e47 k47 p47 g47 b47 S49 a49 y49 at49 nd49 hF49 e49 k49 t49 p49 g49 c49 S51 hF51 e51 k51 p51 g51 b51 S64 hF64 e64 j64 t64 p64 g64
    exact h _ _ (xEc.good (S' := S64) hF64 (zKE.tr (zKE.tr (zKE.tr (zKE.tr (zKE.tr (zKE.tr (zKE.tr (zKE.tr (zKE.tr (zKE.tr (zKE.tr (zKE.tr (zKE.tr (zKE.tr zKE.rf (zKE.w k41 (show gN S ≤ gN S from by omega) (fun _ h => h) (fun _ h => h))) (zKE_sI (Or.inl (by decide)))) (zKE.w k43 (show gN S ≤ gN S41 from by omega) (fun _ h => h) (fun _ h => h))) (zKE.w k45 (show gN S ≤ gN S43 from by omega) (fun _ h => h) (fun _ h => h))) (zKE.w k47 (show gN S ≤ gN S45 from by omega) (fun _ h => h) (fun _ h => h))) (zKE.w k49 (show gN S ≤ gN S47 from by omega) (fun _ h => h) (fun _ h => h))) (zKE.w k51 (show gN S ≤ gN S49 from by omega) (fun _ h => h) (fun _ h => h))) (zKE_new (show gN S ≤ gN S51 ∧ gN S51 < zLB from ⟨by omega, by have hLB : zLB = 4294967296 := rfl; omega⟩))) (zKE_sP (Or.inr (Or.inr ⟨by omega, by have hLB : zLB = 4294967296 := rfl; omega⟩)))) (zKE_sI (Or.inr (Or.inr ⟨by omega, by have hLB : zLB = 4294967296 := rfl; omega⟩)))) (zKE_sI (Or.inr (Or.inr ⟨by omega, by have hLB : zLB = 4294967296 := rfl; omega⟩)))) (zKE_sP (Or.inr (Or.inr ⟨by omega, by have hLB : zLB = 4294967296 := rfl; omega⟩)))) (zKE_sP (Or.inr (Or.inr ⟨by omega, by have hLB : zLB = 4294967296 := rfl; omega⟩)))) (xJd.ke j64 ⟨by omega, by have hLB : zLB = 4294967296 := rfl; omega⟩)) t64 p64 (by omega) (eU.trans ((pb_ok e41).trans ((pb_ok e43).trans ((pb_ok e45).trans ((pb_ok e47).trans ((pb_ok e49).trans ((pb_ok e51).trans ((pb_ok e64).trans (rfl))))))))))
  · intro S41 nd41 hF41 e41 k41 p41 g41 b41 c41 d41 S43 hF43 e43 k43 p43 g43 b43 S45 a45 y45 at45 nd45 hF45 e45 k45 t45 p45 g45 c45 S47 hF47 e47 k47 p47 g47 b47 S49 a49 y49 at49 nd49 hF49 e49 k49 t49 p49 g49 c49 S51 hF51 e51 k51 p51 g51 b51 S65 q65 hF65 e65 k65 x65 g65
    exact h _ _ (xEc.err (S' := S65) hF65 (zKE.tr (zKE.tr (zKE.tr (zKE.tr (zKE.tr (zKE.tr (zKE.tr (zKE.tr (zKE.tr (zKE.tr (zKE.tr (zKE.tr (zKE.tr (zKE.tr zKE.rf (zKE.w k41 (show gN S ≤ gN S from by omega) (fun _ h => h) (fun _ h => h))) (zKE_sI (Or.inl (by decide)))) (zKE.w k43 (show gN S ≤ gN S41 from by omega) (fun _ h => h) (fun _ h => h))) (zKE.w k45 (show gN S ≤ gN S43 from by omega) (fun _ h => h) (fun _ h => h))) (zKE.w k47 (show gN S ≤ gN S45 from by omega) (fun _ h => h) (fun _ h => h))) (zKE.w k49 (show gN S ≤ gN S47 from by omega) (fun _ h => h) (fun _ h => h))) (zKE.w k51 (show gN S ≤ gN S49 from by omega) (fun _ h => h) (fun _ h => h))) (zKE_new (show gN S ≤ gN S51 ∧ gN S51 < zLB from ⟨by omega, by have hLB : zLB = 4294967296 := rfl; omega⟩))) (zKE_sP (Or.inr (Or.inr ⟨by omega, by have hLB : zLB = 4294967296 := rfl; omega⟩)))) (zKE_sI (Or.inr (Or.inr ⟨by omega, by have hLB : zLB = 4294967296 := rfl; omega⟩)))) (zKE_sI (Or.inr (Or.inr ⟨by omega, by have hLB : zLB = 4294967296 := rfl; omega⟩)))) (zKE_sP (Or.inr (Or.inr ⟨by omega, by have hLB : zLB = 4294967296 := rfl; omega⟩)))) (zKE_sP (Or.inr (Or.inr ⟨by omega, by have hLB : zLB = 4294967296 := rfl; omega⟩)))) (xFn.ke k65 (show gN S ≤ gN S51 + 1 from by omega) ⟨by omega, by have hLB : zLB = 4294967296 := rfl; omega⟩)) x65 (by omega) (eU.trans ((pb_ok e41).trans ((pb_ok e43).trans ((pb_ok e45).trans ((pb_ok e47).trans ((pb_ok e49).trans ((pb_ok e51).trans (pb_er e65)))))))))
  · intro S41 nd41 hF41 e41 k41 p41 g41 b41 c41 d41 S43 hF43 e43 k43 p43 g43 b43 S45 a45 y45 at45 nd45 hF45 e45 k45 t45 p45 g45 c45 S47 hF47 e47 k47 p47 g47 b47 S49 a49 y49 at49 nd49 hF49 e49 k49 t49 p49 g49 c49 S52 q52 hF52 e52 k52 x52 g52
    exact h _ _ (xEc.err (S' := S52) hF52 (zKE.tr (zKE.tr (zKE.tr (zKE.tr (zKE.tr (zKE.tr (zKE.tr zKE.rf (zKE.w k41 (show gN S ≤ gN S from by omega) (fun _ h => h) (fun _ h => h))) (zKE_sI (Or.inl (by decide)))) (zKE.w k43 (show gN S ≤ gN S41 from by omega) (fun _ h => h) (fun _ h => h))) (zKE.w k45 (show gN S ≤ gN S43 from by omega) (fun _ h => h) (fun _ h => h))) (zKE.w k47 (show gN S ≤ gN S45 from by omega) (fun _ h => h) (fun _ h => h))) (zKE.w k49 (show gN S ≤ gN S47 from by omega) (fun _ h => h) (fun _ h => h))) (zKE.w k52 (show gN S ≤ gN S49 from by omega) (fun _ h => h) (fun _ h => h))) x52 (by omega) (eU.trans ((pb_ok e41).trans ((pb_ok e43).trans ((pb_ok e45).trans ((pb_ok e47).trans ((pb_ok e49).trans (pb_er e52))))))))
  · intro S41 nd41 hF41 e41 k41 p41 g41 b41 c41 d41 S43 hF43 e43 k43 p43 g43 b43 S45 a45 y45 at45 nd45 hF45 e45 k45 t45 p45 g45 c45 S47 hF47 e47 k47 p47 g47 b47 S50 q50 kk50 z50 hF50 e50 k50 x50 g50
    exact h _ _ (xEc.err (S' := S50) hF50 (zKE.tr (zKE.tr (zKE.tr (zKE.tr (zKE.tr (zKE.tr zKE.rf (zKE.w k41 (show gN S ≤ gN S from by omega) (fun _ h => h) (fun _ h => h))) (zKE_sI (Or.inl (by decide)))) (zKE.w k43 (show gN S ≤ gN S41 from by omega) (fun _ h => h) (fun _ h => h))) (zKE.w k45 (show gN S ≤ gN S43 from by omega) (fun _ h => h) (fun _ h => h))) (zKE.w k47 (show gN S ≤ gN S45 from by omega) (fun _ h => h) (fun _ h => h))) (zKE.w k50 (show gN S ≤ gN S47 from by omega) (fun _ h => h) (fun _ h => h))) x50 (by omega) (eU.trans ((pb_ok e41).trans ((pb_ok e43).trans ((pb_ok e45).trans ((pb_ok e47).trans (pb_er e50)))))))
  · intro S41 nd41 hF41 e41 k41 p41 g41 b41 c41 d41 S43 hF43 e43 k43 p43 g43 b43 S45 a45 y45 at45 nd45 hF45 e45 k45 t45 p45 g45 c45 S48 q48 hF48 e48 k48 x48 g48
    exact h _ _ (xEc.err (S' := S48) hF48 (zKE.tr (zKE.tr (zKE.tr (zKE.tr (zKE.tr zKE.rf (zKE.w k41 (show gN S ≤ gN S from by omega) (fun _ h => h) (fun _ h => h))) (zKE_sI (Or.inl (by decide)))) (zKE.w k43 (show gN S ≤ gN S41 from by omega) (fun _ h => h) (fun _ h => h))) (zKE.w k45 (show gN S ≤ gN S43 from by omega) (fun _ h => h) (fun _ h => h))) (zKE.w k48 (show gN S ≤ gN S45 from by omega) (fun _ h => h) (fun _ h => h))) x48 (by omega) (eU.trans ((pb_ok e41).trans ((pb_ok e43).trans ((pb_ok e45).trans (pb_er e48))))))
  · intro S41 nd41 hF41 e41 k41 p41 g41 b41 c41 d41 S43 hF43 e43 k43 p43 g43 b43 S46 q46 kk46 z46 hF46 e46 k46 x46 g46
    exact h _ _ (xEc.err (S' := S46) hF46 (zKE.tr (zKE.tr (zKE.tr (zKE.tr zKE.rf (zKE.w k41 (show gN S ≤ gN S from by omega) (fun _ h => h) (fun _ h => h))) (zKE_sI (Or.inl (by decide)))) (zKE.w k43 (show gN S ≤ gN S41 from by omega) (fun _ h => h) (fun _ h => h))) (zKE.w k46 (show gN S ≤ gN S43 from by omega) (fun _ h => h) (fun _ h => h))) x46 (by omega) (eU.trans ((pb_ok e41).trans ((pb_ok e43).trans (pb_er e46)))))
  · intro S41 nd41 hF41 e41 k41 p41 g41 b41 c41 d41 S44 q44 hF44 e44 k44 x44 g44
    exact h _ _ (xEc.err (S' := S44) hF44 (zKE.tr (zKE.tr (zKE.tr zKE.rf (zKE.w k41 (show gN S ≤ gN S from by omega) (fun _ h => h) (fun _ h => h))) (zKE_sI (Or.inl (by decide)))) (zKE.w k44 (show gN S ≤ gN S41 from by omega) (fun _ h => h) (fun _ h => h))) x44 (by omega) (eU.trans ((pb_ok e41).trans (pb_er e44))))
  · intro S42 q42 hF42 e42 k42 x42 g42
    exact h _ _ (xEc.err (S' := S42) hF42 (zKE.tr zKE.rf (zKE.w k42 (show gN S ≤ gN S from by omega) (fun _ h => h) (fun _ h => h))) x42 (by omega) (eU.trans (pb_er e42)))
def pFl (p : Nat) : pE (zNd × Nat × Nat) := .error (1, p)
theorem x_otN {S : zS} (hF : zFin true S) (hd : 11 ≤ d) {r at0 nd w deep : Nat} {cs : List Nat} (hR : xR tp sz S r at0 nd) (hN0 : gN S + 30 * (sz - at0) ≤ 1700000) (hw : xWd S w cs) (_ : 0 ≤ d) (hno : ∀ k, k ∈ [5, 6, 7, 10, 11, 12, 13, 14, 15, 16, 17, 18, 19, 20, 21, 22, 23, 24, 25, 26, 27, 28] → ¬ ztn k = cs)
    (h : ∀ S' q, zFin true S' → pFl at0 = .error (1, at0) → xFr S S' → xFl S' q 1 at0 → gN S ≤ gN S' ∧ gN S' ≤ gN S + 1 ∧ gZ S' ≤ gZ S + 3 → post (.threw q, S')) : zCall d 266 [.ref r, .int (Int32.ofNat at0), .ref w, .int (Int32.ofNat deep)] S post := by
  have h8 := hR.2.2.2.1
  have h9 := hR.2.2.2.2.1
  refine otN hF (by omega) deep hR h8.1 h8.2 h9.1 h9.2 hN0 hw (fun k hk => hno k ?_) hw.2.1 (fun S2 f2 k2 x2 g2 => h S2 _ f2 rfl k2 x2 ⟨by omega, by omega, g2.2⟩)
  simp only [List.mem_cons, List.not_mem_nil, or_false] at hk ⊢
  omega
end X20

