set_option maxRecDepth 100000
/-! ===== the house looks for what is no wrapper ===== -/
section X23
variable {d : Nat} {post : Outcome × zS → Prop} {tp : Nat → Nat} {sz : Nat}
theorem j_ixM {S : zS} (hF : zFin true S) {v : Nat} {cs : List Nat} (hvt : ztyp S v = 101 ∨ ztyp S v = 121) (hl : zlen S v = cs.length) (hn : cs.length < 1000000) (hb : ∀ j, j < cs.length → gA S v j = Int32.ofNat (cs.getD j 0)) (h7 : ∀ c ∈ cs, c < 128) (c : Nat) (hc : c < 128) {m : Nat} (hm : m = cs.length)
    (h : ∀ x : Int32, (x < 0 ↔ c ∉ cs) → post (.returned (some (.int x)), S)) : zCall d 406 [.ref v, .int (Int32.ofNat c), .int 0, .int (Int32.ofNat m)] S post := by
  subst hm
  exact j_ixL hF hvt hl hn hb h7 c hc h
end X23
theorem ix395 {d : Nat} {S : zS} (hF : zFin true S) (hd : 4 ≤ d) {s v : Nat} {cs : List Nat} (c : Nat) (h22 : ztyp S s = 22) (hv : gP S 199 s = some v) (hc0 : gI S 200 s = 0) (hvt : ztyp S v = 101 ∨ ztyp S v = 121) (hl : zlen S v = cs.length) (hn : cs.length < 1000000) (hb : ∀ j, j < cs.length → gA S v j = Int32.ofNat (cs.getD j 0)) (h7 : ∀ c ∈ cs, c < 128) (hc : c < 128) {post : Outcome × zS → Prop} (h1 : (0 < min cs.length cs.length) → ∀ x : Int32, ((x < 0 ↔ c ∉ cs)) → post (.returned (some (.int x)), S)) (h2 : (¬ (0 < min cs.length cs.length)) → post (.returned (some (.int (-1))), S)) : zCall d 395 [.ref s, .int (Int32.ofNat c)] S post := by
  have ht : ztab 395 = ztb395 := rfl
  show zEv d 395 0 [.ref s, .int (Int32.ofNat c)] [] S post
  refine zv_c1 ht rfl rfl (zv_c1 ht rfl rfl (zv_c1 ht rfl rfl ?_))
  have C2 : ∀ (pst1 : Outcome × zS → Prop), ((0 < min cs.length cs.length) → ∀ x : Int32, ((x < 0 ↔ c ∉ cs)) → pst1 (.returned (some (.int x)), S)) → ((¬ (0 < min cs.length cs.length)) → pst1 (.returned (some (.int (-1))), S)) → zCall (d - 1) 396 [.ref s, .int (Int32.ofNat c), .int 0] S pst1 := by
    intro pst1 k28 k29
    have ht3 : ztab 396 = ztb396 := rfl
    show zEv (d - 1) 396 0 [.ref s, .int (Int32.ofNat c), .int 0] [] S pst1
    refine zv_c1 ht3 rfl rfl ?_
    have C5 : ∀ (pst4 : Outcome × zS → Prop), (pst4 (.returned (some (.int 1)), S)) → zCall ((d - 1) - 1) 386 [.ref s] S pst4 := by
      intro pst4 k7
      have ht6 : ztab 386 = ztb386 := rfl
      show zEv ((d - 1) - 1) 386 0 [.ref s] [] S pst4
      refine zv_c1 ht6 rfl rfl ?_
      refine zv_br ht6 rfl rfl rfl (fun h => absurd h (by decide)) (fun _ => ?_)
      refine zv_c1 ht6 rfl rfl ?_
      refine zv_ei (x := 0) ht6 rfl rfl (zhas_of (h22) rfl) hc0 ?_
      refine zv_br ht6 rfl rfl rfl (fun h => absurd h (by decide)) (fun _ => ?_)
      refine zv_c1 ht6 rfl rfl (zv_c1 ht6 rfl rfl ?_)
      exact zv_rc ht6 rfl rfl rfl rfl (by decide) k7
    refine zv_cl ht3 rfl rfl rfl (zv_tgv (h22) rfl) (by omega) (Nat.le_of_ble_eq_true rfl) (C5 _ ?_)
    show zEv (d - 1) 396 4 [.ref s, .int (Int32.ofNat c), .int 0] [.int 1] S pst1
    refine zv_br ht3 rfl rfl rfl (fun h => absurd h (by decide)) (fun _ => ?_)
    refine zv_c1 ht3 rfl rfl ?_
    refine zv_g3 (q := v) ht3 rfl hF rfl rfl (zhas_of (h22) rfl) hv ?_
    refine zv_c1 ht3 rfl rfl (zv_c1 ht3 rfl rfl (zv_c1 ht3 rfl rfl ?_))
    have C9 : ∀ (pst8 : Outcome × zS → Prop), (pst8 (.returned (some (.int (Int32.ofNat cs.length))), S)) → zCall ((d - 1) - 1) 392 [.ref s] S pst8 := by
      intro pst8 k15
      have ht10 : ztab 392 = ztb392 := rfl
      show zEv ((d - 1) - 1) 392 0 [.ref s] [] S pst8
      refine zv_c1 ht10 rfl rfl ?_
      refine zv_g3 (q := v) ht10 rfl hF rfl rfl (zhas_of (h22) rfl) hv ?_
      refine zv_ei (x := Int32.ofNat cs.length) ht10 rfl rfl (zv_l2 (hvt)) (congrArg Int32.ofNat (hl)) ?_
      refine zv_c1 ht10 rfl rfl ?_
      have C12 : ∀ (pst11 : Outcome × zS → Prop), (pst11 (.returned (some (.int 0)), S)) → zCall (((d - 1) - 1) - 1) 393 [.ref s] S pst11 := by
        intro pst11 k14
        have ht13 : ztab 393 = ztb393 := rfl
        show zEv (((d - 1) - 1) - 1) 393 0 [.ref s] [] S pst11
        refine zv_c1 ht13 rfl rfl ?_
        refine zv_br ht13 rfl rfl rfl (fun h => absurd h (by decide)) (fun _ => ?_)
        refine zv_c1 ht13 rfl rfl ?_
        refine zv_ei (x := 0) ht13 rfl rfl (zhas_of (h22) rfl) hc0 ?_
        refine zv_c1 ht13 rfl rfl ?_
        exact zv_rc ht13 rfl rfl rfl rfl (by decide) k14
      refine zv_cl ht10 rfl rfl rfl (zv_tgv (h22) rfl) (by omega) (Nat.le_of_ble_eq_true rfl) (C12 _ ?_)
      show zEv ((d - 1) - 1) 392 9 [.ref s] [.int 0, .int (Int32.ofNat cs.length)] S pst8
      refine zv_e1 (x := Int32.ofNat cs.length) ht10 rfl rfl (zi_shr0 rfl) ?_
      exact zv_rt ht10 rfl rfl rfl rfl k15
    refine zv_cl ht3 rfl rfl rfl (zv_tgv (h22) rfl) (by omega) (Nat.le_of_ble_eq_true rfl) (C9 _ ?_)
    show zEv (d - 1) 396 17 [.ref s, .int (Int32.ofNat c), .int 0] [.int (Int32.ofNat cs.length), .int 0, .int (Int32.ofNat c), .ref v] S pst1
    have C17 : ∀ (pst16 : Outcome × zS → Prop), ((0 < min cs.length cs.length) → ∀ x : Int32, ((x < 0 ↔ c ∉ cs)) → pst16 (.returned (some (.int x)), S)) → ((¬ (0 < min cs.length cs.length)) → pst16 (.returned (some (.int (-1))), S)) → zCall ((d - 1) - 1) 404 [.ref v, .int (Int32.ofNat c), .int 0, .int (Int32.ofNat cs.length)] S pst16 := by
      intro pst16 k26 k27
      have ht18 : ztab 404 = ztb404 := rfl
      show zEv ((d - 1) - 1) 404 0 [.ref v, .int (Int32.ofNat c), .int 0, .int (Int32.ofNat cs.length)] [] S pst16
      refine zv_c1 ht18 rfl rfl ?_
      have C20 : ∀ (pst19 : Outcome × zS → Prop), (pst19 (.returned (some (.int 1)), S)) → zCall (((d - 1) - 1) - 1) 405 [.int (Int32.ofNat c)] S pst19 := by
        intro pst19 k24
        have ht21 : ztab 405 = ztb405 := rfl
        show zEv (((d - 1) - 1) - 1) 405 0 [.int (Int32.ofNat c)] [] S pst19
        refine zv_c1 ht21 rfl rfl ?_
        refine zv_br ht21 rfl rfl rfl (fun b22 => (show False from by have hq := b22; have hz : c < 0 := (zi_ltE (a := c) (b := 0) rfl rfl (by omega) (by omega)).mp hq; omega).elim) (fun b22 => ?_)
        refine zv_c1 ht21 rfl rfl (zv_c1 ht21 rfl rfl ?_)
        refine zv_br ht21 rfl rfl rfl (fun b23 => (show False from by have hq := b23; have hz : 255 < c := (zi_ltE (a := 255) (b := c) rfl rfl (by omega) (by omega)).mp hq; omega).elim) (fun b23 => ?_)
        refine zv_c1 ht21 rfl rfl (zv_c1 ht21 rfl rfl ?_)
        exact zv_rc ht21 rfl rfl rfl rfl (by decide) k24
      refine zv_cl ht18 rfl rfl rfl rfl (by omega) (Nat.le_of_ble_eq_true rfl) (C20 _ ?_)
      show zEv ((d - 1) - 1) 404 4 [.ref v, .int (Int32.ofNat c), .int 0, .int (Int32.ofNat cs.length)] [.int 1] S pst16
      refine zv_br ht18 rfl rfl rfl (fun _ => ?_) (fun h => absurd (by decide) h)
      refine zv_c1 ht18 rfl rfl (zv_c1 ht18 rfl rfl ?_)
      refine zv_e1 (x := 0) ht18 rfl rfl (zi_maxE rfl rfl (by omega) (by omega)) ?_
      refine zv_c2 (L' := [.ref v, .int (Int32.ofNat c), .int 0, .int (Int32.ofNat cs.length)]) ht18 rfl rfl ?_
      refine zv_c1 ht18 rfl rfl (zv_c1 ht18 rfl rfl ?_)
      refine zv_ei (x := Int32.ofNat cs.length) ht18 rfl rfl (zv_l2 (hvt)) (congrArg Int32.ofNat (hl)) ?_
      refine zv_e1 (x := Int32.ofNat (min cs.length cs.length)) ht18 rfl rfl (zi_minE rfl rfl (by omega) (by omega)) ?_
      refine zv_c2 (L' := [.ref v, .int (Int32.ofNat c), .int 0, .int (Int32.ofNat (min cs.length cs.length))]) ht18 rfl rfl ?_
      refine zv_c1 ht18 rfl rfl (zv_c1 ht18 rfl rfl ?_)
      refine zv_br ht18 rfl rfl rfl (fun b25 => ?_) (fun b25 => ?_)
      · replace b25 : 0 < min cs.length cs.length := (zi_ltE (a := 0) (b := (min cs.length cs.length)) rfl rfl (by omega) (by omega)).mp b25
        refine zv_c1 ht18 rfl rfl (zv_c1 ht18 rfl rfl (zv_c1 ht18 rfl rfl (zv_c1 ht18 rfl rfl ?_)))
        refine zv_cl ht18 rfl rfl rfl rfl (by omega) (Nat.le_of_ble_eq_true rfl) (j_ixM (S := S) (cs := cs) hF hvt hl hn hb h7 c (by omega) (m := min cs.length cs.length) (by omega) (fun x hx => ?_))
        show zEv ((d - 1) - 1) 404 36 [.ref v, .int (Int32.ofNat c), .int 0, .int (Int32.ofNat (min cs.length cs.length))] [.int x] S pst16
        exact zv_rt ht18 rfl rfl rfl rfl (k26 b25 x hx)
      · replace b25 : ¬ (0 < min cs.length cs.length) := fun h => b25 ((zi_ltE (a := 0) (b := (min cs.length cs.length)) rfl rfl (by omega) (by omega)).mpr h)
        refine zv_c1 ht18 rfl rfl ?_
        exact zv_rt ht18 rfl rfl rfl rfl (k27 b25)
    refine zv_cl ht3 rfl rfl rfl rfl (by omega) (Nat.le_of_ble_eq_true rfl) (C17 _ (fun b25 x hx => ?_) (fun b25 => ?_))
    · show zEv (d - 1) 396 20 [.ref s, .int (Int32.ofNat c), .int 0] [.int x] S pst1
      refine zv_c1 ht3 rfl rfl ?_
      exact zv_rt ht3 rfl rfl rfl rfl (k28 b25 x hx)
    · show zEv (d - 1) 396 20 [.ref s, .int (Int32.ofNat c), .int 0] [.int (-1)] S pst1
      refine zv_c1 ht3 rfl rfl ?_
      exact zv_rt ht3 rfl rfl rfl rfl (k29 b25)
  refine zv_cl ht rfl rfl rfl (zv_tgv (h22) rfl) (by omega) (Nat.le_of_ble_eq_true rfl) (C2 _ (fun b25 x hx => ?_) (fun b25 => ?_))
  · show zEv d 395 6 [.ref s, .int (Int32.ofNat c)] [.int x] S post
    exact zv_rt ht rfl rfl rfl rfl (h1 b25 x hx)
  · show zEv d 395 6 [.ref s, .int (Int32.ofNat c)] [.int (-1)] S post
    exact zv_rt ht rfl rfl rfl rfl (h2 b25)

section X23b
variable {d : Nat} {post : Outcome × zS → Prop} {tp : Nat → Nat} {sz : Nat}
/-- is a letter in a text? -/
theorem x_index {S : zS} (hF : zFin true S) (hd : 4 ≤ d) {s c : Nat} {cs : List Nat} (hs : zStr S s cs) (hc : c < 128) (h0 : 0 < cs.length) (h : ∀ x : Int32, (x < 0 ↔ c ∉ cs) → post (.returned (some (.int x)), S)) : zCall d 395 [.ref s, .int (Int32.ofNat c)] S post := by
  obtain ⟨v, h22, hv, hc0, hvt, hln, hb, h128, hl1⟩ := hs
  refine ix395 hF (by omega) c h22 hv hc0 hvt hln (by omega) hb h128 hc (fun _ x hx => h x hx) (fun b => absurd (by omega) b)
theorem pWr_in {c : Nat} : (∃ w, pWr c = some w) ↔ c ∈ ztn 29 := by
  have e : ztn 29 = [97, 115, 99, 100, 118, 106, 110, 116, 108, 117] := by decide
  rw [e]
  constructor
  · rintro ⟨w, h⟩
    unfold pWr at h
    refine Classical.byContradiction fun hn => ?_
    simp only [List.mem_cons, List.not_mem_nil, or_false, not_or] at hn
    have e : ∀ v, ¬ c = v → (c == v) = false := fun v h => beq_false_of_ne h
    simp only [List.lookup, e _ hn.1, e _ hn.2.1, e _ hn.2.2.1, e _ hn.2.2.2.1, e _ hn.2.2.2.2.1, e _ hn.2.2.2.2.2.1, e _ hn.2.2.2.2.2.2.1, e _ hn.2.2.2.2.2.2.2.1, e _ hn.2.2.2.2.2.2.2.2.1, e _ hn.2.2.2.2.2.2.2.2.2] at h
    cases h
  · intro h
    simp only [List.mem_cons, List.not_mem_nil, or_false] at h
    rcases h with rfl | rfl | rfl | rfl | rfl | rfl | rfl | rfl | rfl | rfl
    all_goals exact ⟨_, rfl⟩
end X23b
theorem fw2 {d : Nat} {S : zS} (hF : zFin true S) (hd : 6 ≤ d) {tp : Nat → Nat} {sz at0 nd r : Nat} {cs : List Nat} (w k wl c : Nat) (hR : xR tp sz S r at0 nd) (hs0 : sz ≤ 300) (ha0 : at0 ≤ sz) (hr1 : 1639 ≤ r) (hr2 : r < gN S) (hw : xWd S w cs) (hwN : w < gN S) (hwl : cs.length = wl) (hwl2 : wl ≤ 300) (hN2 : gN S < 1900000) (hk : k < wl) (hcc : cs.getD k 0 = c) (hc : c < 128) {post : Outcome × zS → Prop} (h1 : ∀ x : Int32, ((x < 0 ↔ c ∉ ztn 29)) → ((0 : Int32) ≤ x) → zEv d 267 2 [.ref r, .ref w, .int (Int32.ofNat (k + 1))] [] S post) (h2 : ∀ x : Int32, ((x < 0 ↔ c ∉ ztn 29)) → (¬ ((0 : Int32) ≤ x)) → post (.threw (gN S), sI (sI (sT (sNew S 8 0 (zslots 8)) (gN S) 8 1) 136 (gN S) 1) 137 (gN S) (Int32.ofNat (at0 + k)))) : zEv d 267 2 [.ref r, .ref w, .int (Int32.ofNat k)] [] S post := by
  have ht : ztab 267 = ztb267 := rfl
  refine zv_c1 ht rfl rfl (zv_c1 ht rfl rfl ?_)
  refine zv_cl ht rfl rfl rfl (zv_tgv ((zStr.t hw.1)) rfl) (by omega) (Nat.le_of_ble_eq_true rfl) (x_len (S := S) hF (by omega) hw.1 (n := wl) hwl ?_)
  show zEv d 267 7 [.ref r, .ref w, .int (Int32.ofNat k)] [.int (Int32.ofNat wl), .int (Int32.ofNat k)] S post
  refine zv_br ht rfl rfl rfl (fun b1 => (show False from by have hq := b1; have hz : wl ≤ k := (zi_leE (a := wl) (b := k) rfl rfl (by omega) (by omega)).mp hq; omega).elim) (fun b1 => ?_)
  refine zv_c1 ht rfl rfl (zv_c1 ht rfl rfl (zv_c1 ht rfl rfl ?_))
  refine zv_cl ht rfl rfl rfl (zv_tgv ((zStr.t hw.1)) rfl) (by omega) (Nat.le_of_ble_eq_true rfl) (x_char (S := S) hF (by omega) hw.1 (i := k) (by omega) (c := c) hcc ?_)
  show zEv d 267 17 [.ref r, .ref w, .int (Int32.ofNat k)] [.int (Int32.ofNat c), .ref 4294967354] S post
  refine zv_cl ht rfl rfl rfl (zv_tgv ((zStr.t (xR.lit hR 29 (by decide)))) rfl) (by omega) (Nat.le_of_ble_eq_true rfl) (x_index (S := S) hF (by omega) (xR.lit hR 29 (by decide)) hc (by decide) (fun x hx => ?_))
  show zEv d 267 20 [.ref r, .ref w, .int (Int32.ofNat k)] [.int x] S post
  refine zv_br ht rfl rfl rfl (fun b2 => ?_) (fun b2 => ?_)
  · refine zv_iinc (L' := [.ref r, .ref w, .int (Int32.ofNat (k + 1))]) (i := 2) (x := Int32.ofNat (k + 1)) ht rfl rfl (zi_addE (a := k) (b := 1) rfl rfl) rfl ?_
    refine zv_c1 ht rfl rfl ?_
    exact (h1 x hx b2)
  · refine zv_ci (st' := [.ref (gN S)]) (S' := sNew S 8 0 (zslots 8)) ht rfl rfl (znew_ok (show 1639 ≤ gN S from by omega) (show gN S < 2000000 from by omega)) ?_
    refine zv_c1 ht rfl rfl (zv_c1 ht rfl rfl (zv_c1 ht rfl rfl ?_))
    refine zv_ei (x := Int32.ofNat at0) ht rfl rfl (zhas_of (Eq.trans (ztyp_new (S := S) (t := 8) (n := 0) (s := zslots 8) (show r ≠ gN S from by omega)) hR.1.2.2.2.1) rfl) (Eq.trans (gI_new (S := S) (t := 8) (n := 0) (s := zslots 8) (show r ≠ gN S from by omega)) hR.1.1) ?_
    refine zv_c1 ht rfl rfl ?_
    refine zv_e1 (x := Int32.ofNat (at0 + k)) ht rfl rfl (zi_addE (a := at0) (b := k) rfl rfl) ?_
    have C4 : ∀ (pst3 : Outcome × zS → Prop), (pst3 (.returned none, sI (sI (sT (sNew S 8 0 (zslots 8)) (gN S) 8 1) 136 (gN S) 1) 137 (gN S) (Int32.ofNat (at0 + k)))) → zCall (d - 1) 269 [.ref (gN S), .int 1, .int (Int32.ofNat (at0 + k))] (sNew S 8 0 (zslots 8)) pst3 := by
      intro pst3 k6
      have ht5 : ztab 269 = ztb269 := rfl
      show zEv (d - 1) 269 0 [.ref (gN S), .int 1, .int (Int32.ofNat (at0 + k))] [] (sNew S 8 0 (zslots 8)) pst3
      refine zv_c1 ht5 rfl rfl ?_
      refine zv_ci (S' := sT (sNew S 8 0 (zslots 8)) (gN S) 8 1) ht5 rfl rfl ⟨ztyp_new_at (S := S) (t := 8) (n := 0) (s := zslots 8) (show 1639 ≤ gN S from by omega), (show gN S < gN S + 1 from by omega), zlen_new_at (S := S) (t := 8) (n := 0) (s := zslots 8) (show 1639 ≤ gN S from by omega)⟩ ?_
      refine zv_c1 ht5 rfl rfl (zv_c1 ht5 rfl rfl ?_)
      refine zv_ci (S' := sI (sT (sNew S 8 0 (zslots 8)) (gN S) 8 1) 136 (gN S) 1) ht5 rfl rfl ⟨⟨(zhas_of (ztyp_sT1 (show 1639 ≤ gN S from by omega)) rfl), (show gN S < gN S + 1 from by omega)⟩, zlen_sT1 (show 1639 ≤ gN S from by omega)⟩ ?_
      refine zv_c1 ht5 rfl rfl (zv_c1 ht5 rfl rfl ?_)
      refine zv_ci (S' := sI (sI (sT (sNew S 8 0 (zslots 8)) (gN S) 8 1) 136 (gN S) 1) 137 (gN S) (Int32.ofNat (at0 + k))) ht5 rfl rfl ⟨⟨(zhas_of (ztyp_sT1 (show 1639 ≤ gN S from by omega)) rfl), (show gN S < gN S + 1 from by omega)⟩, zlen_sT1 (show 1639 ≤ gN S from by omega)⟩ ?_
      exact zv_rt ht5 rfl rfl rfl rfl k6
    refine zv_cl ht rfl rfl rfl rfl (by omega) (Nat.le_of_ble_eq_true rfl) (C4 _ ?_)
    show zEv d 267 37 [.ref r, .ref w, .int (Int32.ofNat k)] [.ref (gN S)] (sI (sI (sT (sNew S 8 0 (zslots 8)) (gN S) 8 1) 136 (gN S) 1) 137 (gN S) (Int32.ofNat (at0 + k))) post
    exact zv_th ht rfl rfl rfl ⟨ztyp_sT1 (show 1639 ≤ gN S from by omega), (show gN S < gN S + 1 from by omega)⟩ rfl (h2 x hx b2)

theorem fw2e {d : Nat} {S : zS} (hF : zFin true S) (hd : 3 ≤ d) {tp : Nat → Nat} {sz at0 nd r : Nat} {cs : List Nat} (w k wl : Nat) (hR : xR tp sz S r at0 nd) (hs0 : sz ≤ 300) (ha0 : at0 ≤ sz) (hr1 : 1639 ≤ r) (hr2 : r < gN S) (hw : xWd S w cs) (hwN : w < gN S) (hwl : cs.length = wl) (hwl2 : wl ≤ 300) (hN2 : gN S < 1900000) (hk : k = wl) {post : Outcome × zS → Prop} (h1 : post (.returned none, S)) : zEv d 267 2 [.ref r, .ref w, .int (Int32.ofNat k)] [] S post := by
  have ht : ztab 267 = ztb267 := rfl
  refine zv_c1 ht rfl rfl (zv_c1 ht rfl rfl ?_)
  refine zv_cl ht rfl rfl rfl (zv_tgv ((zStr.t hw.1)) rfl) (by omega) (Nat.le_of_ble_eq_true rfl) (x_len (S := S) hF (by omega) hw.1 (n := wl) hwl ?_)
  show zEv d 267 7 [.ref r, .ref w, .int (Int32.ofNat k)] [.int (Int32.ofNat wl), .int (Int32.ofNat k)] S post
  refine zv_br ht rfl rfl rfl (fun b1 => ?_) (fun b1 => (show False from by have hq := b1; have hz : ¬ (wl ≤ k) := fun h => hq ((zi_leE (a := wl) (b := k) rfl rfl (by omega) (by omega)).mpr h); omega).elim)
  exact zv_rt ht rfl rfl rfl rfl h1

theorem fw0 {d : Nat} {S : zS} (hF : zFin true S) {tp : Nat → Nat} {sz at0 nd r : Nat} (w : Nat) (hR : xR tp sz S r at0 nd) (hs0 : sz ≤ 300) (ha0 : at0 ≤ sz) (hr1 : 1639 ≤ r) (hr2 : r < gN S)  {post : Outcome × zS → Prop} (h1 : zEv d 267 2 [.ref r, .ref w, .int (Int32.ofNat 0)] [] S post) : zCall d 267 [.ref r, .ref w] S post := by
  have ht : ztab 267 = ztb267 := rfl
  show zEv d 267 0 [.ref r, .ref w, .retAddr 0] [] S post
  refine zv_c1 ht rfl rfl ?_
  refine zv_c2 (L' := [.ref r, .ref w, .int 0]) ht rfl rfl ?_
  exact h1


