set_option maxRecDepth 100000
/-! ===== texts ===== -/
theorem zStr_inj {S : zS} {s : Nat} {cs ds : List Nat} (h1 : zStr S s cs) (h2 : zStr S s ds) : cs = ds := by
  obtain ⟨v, -, hv, -, -, hl, hb, h7, hn⟩ := h1
  obtain ⟨w, -, hw, -, -, hl2, hb2, h72, hn2⟩ := h2
  have e : v = w := Option.some.inj (hv.symm.trans hw)
  subst e
  have hlen : cs.length = ds.length := by rw [← hl, ← hl2]
  apply List.ext_getElem hlen
  intro i h3 h4
  have e1 := (hb i h3).symm.trans (hb2 i h4)
  have q1 : cs.getD i 0 < 128 := h7 _ (getD_mem h3)
  have q2 : ds.getD i 0 < 128 := h72 _ (getD_mem h4)
  have e2 := (zi_eqE rfl rfl (by omega) (by omega)).mp e1
  simpa [List.getD_eq_getElem?_getD, h3, h4] using e2
theorem getD_ext {cs ds : List Nat} (hl : cs.length = ds.length) (h : ∀ i, i < cs.length → cs.getD i 0 = ds.getD i 0) : cs = ds := by
  apply List.ext_getElem hl
  intro i h3 h4
  have := h i h3
  simpa [List.getD_eq_getElem?_getD, h3, h4] using this
theorem eq0 {d : Nat} {S : zS} (hF : zFin true S) {v w : Nat} (hn : zlen S v < 1000000) (hm : zlen S w < 1000000) (hvt : ztyp S v = 101 ∨ ztyp S v = 121)(hwt : ztyp S w = 101 ∨ ztyp S w = 121) {post : Outcome × zS → Prop} (h1 : (¬ (zlen S v = zlen S w)) → post (.returned (some (.int 0)), S)) (h2 : (zlen S v = zlen S w) → zEv d 402 9 [.ref v, .ref w, .int (Int32.ofNat 0)] [] S post) : zCall d 402 [.ref v, .ref w] S post := by
  have ht : ztab 402 = ztb402 := rfl
  show zEv d 402 0 [.ref v, .ref w, .retAddr 0] [] S post
  refine zv_c1 ht rfl rfl ?_
  refine zv_ci (st' := [.int (Int32.ofNat (zlen S v))]) ht rfl rfl (zv_l2 (hvt)) ?_
  refine zv_c1 ht rfl rfl ?_
  refine zv_ci (st' := [.int (Int32.ofNat (zlen S w)), .int (Int32.ofNat (zlen S v))]) ht rfl rfl (zv_l2 (hwt)) ?_
  refine zv_br ht rfl rfl rfl (fun b1 => ?_) (fun b1 => ?_)
  · replace b1 : ¬ (zlen S v = zlen S w) := fun h => b1 ((zi_eqE (a := (zlen S v)) (b := (zlen S w)) rfl rfl (by omega) (by omega)).mpr h)
    refine zv_c1 ht rfl rfl ?_
    exact zv_rc ht rfl rfl rfl rfl (by decide) (h1 b1)
  · replace b1 : zlen S v = zlen S w := (zi_eqE (a := (zlen S v)) (b := (zlen S w)) rfl rfl (by omega) (by omega)).mp (Classical.not_not.mp b1)
    refine zv_c1 ht rfl rfl ?_
    refine zv_c2 (L' := [.ref v, .ref w, .int 0]) ht rfl rfl ?_
    exact (h2 b1)

theorem eq1 {d : Nat} {S : zS} (hF : zFin true S) {v w : Nat} (k : Nat) (hn : zlen S v < 1000000) (hk : k ≤ zlen S v) (hm : zlen S w = zlen S v) (hvt : ztyp S v = 101 ∨ ztyp S v = 121)(hwt : ztyp S w = 101 ∨ ztyp S w = 121) {post : Outcome × zS → Prop} (h1 : ((zlen S v ≤ k) ∨ (¬ ((gA S v k) = (gA S w k)))) → post (.returned (some (.int (zbo (zlen S v ≤ k)))), S)) (h2 : (¬ (zlen S v ≤ k)) → ((gA S v k) = (gA S w k)) → zEv d 402 9 [.ref v, .ref w, .int (Int32.ofNat (k + 1))] [] S post) : zEv d 402 9 [.ref v, .ref w, .int (Int32.ofNat k)] [] S post := by
  have ht : ztab 402 = ztb402 := rfl
  refine zv_c1 ht rfl rfl (zv_c1 ht rfl rfl ?_)
  refine zv_ci (st' := [.int (Int32.ofNat (zlen S v)), .int (Int32.ofNat k)]) ht rfl rfl (zv_l2 (hvt)) ?_
  refine zv_br ht rfl rfl rfl (fun b1 => ?_) (fun b1 => ?_)
  · replace b1 : zlen S v ≤ k := (zi_leE (a := (zlen S v)) (b := k) rfl rfl (by omega) (by omega)).mp b1
    refine zv_c1 ht rfl rfl ?_
    exact zv_rc ht rfl rfl rfl rfl (by decide) (zv_sub (zz := zbo (zlen S v ≤ k)) (zy := 1) (p := fun zz => post (.returned (some (.int zz)), S)) (zbo_pos b1) (h1 (Or.inl b1)))
  · replace b1 : ¬ (zlen S v ≤ k) := fun h => b1 ((zi_leE (a := (zlen S v)) (b := k) rfl rfl (by omega) (by omega)).mpr h)
    refine zv_c1 ht rfl rfl (zv_c1 ht rfl rfl ?_)
    refine zv_baE (j := k) (x := gA S v k) ht rfl rfl rfl rfl (zi_natE (a := k) rfl (by omega)) ⟨(zv_b2 hvt), zi_inL (a := k) (m := zlen S v) rfl rfl (by omega) (by omega)⟩ rfl ?_
    refine zv_c1 ht rfl rfl (zv_c1 ht rfl rfl ?_)
    refine zv_baE (j := k) (x := gA S w k) ht rfl rfl rfl rfl (zi_natE (a := k) rfl (by omega)) ⟨(zv_b2 hwt), zi_inL (a := k) (m := zlen S w) rfl rfl (by omega) (by omega)⟩ rfl ?_
    refine zv_br ht rfl rfl rfl (fun b2 => ?_) (fun b2 => ?_)
    · refine zv_iinc (L' := [.ref v, .ref w, .int (Int32.ofNat (k + 1))]) (i := 2) (x := Int32.ofNat (k + 1)) ht rfl rfl (zi_addE (a := k) (b := 1) rfl rfl) rfl ?_
      refine zv_c1 ht rfl rfl ?_
      exact (h2 b1 b2)
    · refine zv_c1 ht rfl rfl ?_
      exact zv_rc ht rfl rfl rfl rfl (by decide) (zv_sub (zz := zbo (zlen S v ≤ k)) (zy := 0) (p := fun zz => post (.returned (some (.int zz)), S)) (zbo_neg b1) (h1 (Or.inr b2)))

section S1
variable {d : Nat} {post : Outcome × zS → Prop}
theorem j_eqL {S : zS} (hF : zFin true S) {v w : Nat} {cs ds : List Nat} (hvt : ztyp S v = 101 ∨ ztyp S v = 121) (hwt : ztyp S w = 101 ∨ ztyp S w = 121) (hl : zlen S v = cs.length) (hl2 : zlen S w = ds.length) (hn : cs.length < 1000000) (hn2 : ds.length < 1000000)
    (hb : ∀ j, j < cs.length → gA S v j = Int32.ofNat (cs.getD j 0)) (hb2 : ∀ j, j < ds.length → gA S w j = Int32.ofNat (ds.getD j 0)) (h7 : ∀ c ∈ cs, c < 128) (h72 : ∀ c ∈ ds, c < 128) (h : post (.returned (some (.int (zbo (cs = ds)))), S)) : zCall d 402 [.ref v, .ref w] S post := by
  refine eq0 hF (by omega) (by omega) hvt hwt (fun b => ?_) (fun b => ?_)
  · rw [zbo_neg (fun e => b (by rw [hl, hl2, e]))] at h
    exact h
  · have hlen : cs.length = ds.length := by rw [← hl, ← hl2, b]
    have eqk : ∀ k, k < cs.length → (gA S v k = gA S w k ↔ cs.getD k 0 = ds.getD k 0) := by
      intro k hk
      rw [hb k hk, hb2 k (by omega)]
      have q1 : cs.getD k 0 < 128 := h7 _ (getD_mem hk)
      have q2 : ds.getD k 0 < 128 := h72 _ (getD_mem (by omega))
      exact zi_eqE rfl rfl (by omega) (by omega)
    have key := zLoop (d := d) (post := post) (me := 402) (pc := 9) cs.length (fun k S' => S' = S ∧ ∀ i, i < k → cs.getD i 0 = ds.getD i 0) (fun k => [.ref v, .ref w, .int (Int32.ofNat k)]) ?_ ?_ 0 S (by omega) ⟨rfl, fun i hi => by omega⟩
    · exact key
    · rintro k S' hk ⟨rfl, hp⟩ ih
      refine eq1 hF k (by omega) (by omega) (by omega) hvt hwt (fun b2 => ?_) (fun _ b2 => ?_)
      · have b3 : ¬ gA S' v k = gA S' w k := b2.resolve_left (by omega)
        rw [zbo_neg (by omega)]
        rw [zbo_neg (fun e => b3 ((eqk k hk).mpr (by rw [e])))] at h
        exact h
      · refine ih S' ⟨rfl, fun i hi => ?_⟩
        by_cases e : i = k
        · subst e; exact (eqk i hk).mp b2
        · exact hp i (by omega)
    · rintro S' ⟨rfl, hp⟩
      refine eq1 hF cs.length (by omega) (by omega) (by omega) hvt hwt (fun _ => ?_) (fun b2 => absurd (by omega) b2)
      rw [zbo_pos (by omega)]
      rw [zbo_pos (getD_ext hlen hp)] at h
      exact h
end S1
theorem eq2 {d : Nat} {S : zS} (hF : zFin true S) (hd : 1 ≤ d) {s t v w : Nat} {cs ds : List Nat} (h22 : ztyp S s = 22) (t22 : ztyp S t = 22) (hv : gP S 199 s = some v) (hc : gI S 200 s = 0) (hw : gP S 199 t = some w) (tc : gI S 200 t = 0) (hl : zlen S v = cs.length) (hl2 : zlen S w = ds.length) (hn : cs.length < 1000000) (hn2 : ds.length < 1000000) (hb : ∀ j, j < cs.length → gA S v j = Int32.ofNat (cs.getD j 0)) (hb2 : ∀ j, j < ds.length → gA S w j = Int32.ofNat (ds.getD j 0)) (h7 : ∀ c ∈ cs, c < 128) (h72 : ∀ c ∈ ds, c < 128) (hvt : ztyp S v = 101 ∨ ztyp S v = 121)(hwt : ztyp S w = 101 ∨ ztyp S w = 121) {post : Outcome × zS → Prop} (h1 : post (.returned (some (.int (zbo ((s = t) ∨ (cs = ds))))), S)) : zCall d 391 [.ref s, .ref t] S post := by
  have ht : ztab 391 = ztb391 := rfl
  show zEv d 391 0 [.ref s, .ref t, .retAddr 0] [] S post
  refine zv_c1 ht rfl rfl (zv_c1 ht rfl rfl ?_)
  refine zv_ac ht rfl rfl rfl rfl ⟨h22, t22⟩ (fun b1 => ?_) (fun b1 => ?_)
  · refine zv_c1 ht rfl rfl ?_
    exact zv_rc ht rfl rfl rfl rfl (by decide) (zv_sub (zz := zbo ((s = t) ∨ (cs = ds))) (zy := 1) (p := fun zz => post (.returned (some (.int zz)), S)) (zbo_pos (Or.inl b1)) h1)
  · refine zv_c1 ht rfl rfl ?_
    refine zv_ei (x := 1) ht rfl rfl (zinst_of (t22) rfl) (zinst_v (t22) (by decide)) ?_
    refine zv_br ht rfl rfl rfl (fun h => absurd h (by decide)) (fun _ => ?_)
    refine zv_c1 ht rfl rfl ?_
    refine zv_ci ht rfl rfl t22 ?_
    refine zv_c2 (L' := [.ref s, .ref t, .ref t]) ht rfl rfl ?_
    refine zv_c1 ht rfl rfl ?_
    refine zv_br ht rfl rfl rfl (fun h => absurd h (by decide)) (fun _ => ?_)
    refine zv_c1 ht rfl rfl ?_
    refine zv_ei (x := 0) ht rfl rfl (zhas_of (h22) rfl) hc ?_
    refine zv_c1 ht rfl rfl ?_
    refine zv_ei (x := 0) ht rfl rfl (zhas_of (t22) rfl) tc ?_
    refine zv_br ht rfl rfl rfl (fun h => absurd h (by decide)) (fun _ => ?_)
    refine zv_c1 ht rfl rfl ?_
    refine zv_g3 (q := v) ht rfl hF rfl rfl (zhas_of (h22) rfl) hv ?_
    refine zv_c1 ht rfl rfl ?_
    refine zv_g3 (q := w) ht rfl hF rfl rfl (zhas_of (t22) rfl) hw ?_
    refine zv_cl ht rfl rfl rfl rfl (by omega) (Nat.le_of_ble_eq_true rfl) (j_eqL (S := S) hF hvt hwt hl hl2 hn hn2 hb hb2 h7 h72 ?_)
    show zEv d 391 47 [.ref s, .ref t, .ref t] [.int (zbo (cs = ds))] S post
    have J3 : zEv d 391 55 [.retAddr 0, .retAddr 0, .retAddr 0] [.int (zbo (cs = ds))] S post := by
      rcases Classical.em (cs = ds) with b5 | b5
      · rw [zbo_pos (P := cs = ds) b5]
        exact zv_rc ht rfl rfl rfl rfl (by decide) (zv_sub (zz := zbo ((s = t) ∨ (cs = ds))) (zy := 1) (p := fun zz => post (.returned (some (.int zz)), S)) (zbo_pos (Or.inr b5)) h1)
      · rw [zbo_neg (P := cs = ds) b5]
        exact zv_rc ht rfl rfl rfl rfl (by decide) (zv_sub (zz := zbo ((s = t) ∨ (cs = ds))) (zy := 0) (p := fun zz => post (.returned (some (.int zz)), S)) (zbo_neg (fun h => h.elim b1 b5)) h1)
    refine zv_br ht rfl rfl rfl (fun b2 => ?_) (fun b2 => ?_)
    · replace b2 : ¬ (cs = ds) := (zbo_eq0 : (zbo (cs = ds)) = 0 ↔ ¬ (cs = ds)).mp b2
      refine zv_c1 ht rfl rfl ?_
      exact zEv.wk (L := [.retAddr 0, .retAddr 0, .retAddr 0]) (L' := [.ref s, .ref t, .ref t]) (And.intro (Or.inr rfl) (And.intro (Or.inr rfl) (And.intro (Or.inr rfl) trivial))) (zv_sub (zz := zbo (cs = ds)) (zy := 0) (p := fun zz => zEv d 391 55 [.retAddr 0, .retAddr 0, .retAddr 0] [.int zz] S post) (zbo_neg b2) J3)
    · replace b2 : cs = ds := Classical.byContradiction (fun h => b2 ((zbo_eq0 : (zbo (cs = ds)) = 0 ↔ ¬ (cs = ds)).mpr h))
      refine zv_c1 ht rfl rfl (zv_c1 ht rfl rfl ?_)
      exact zEv.wk (L := [.retAddr 0, .retAddr 0, .retAddr 0]) (L' := [.ref s, .ref t, .ref t]) (And.intro (Or.inr rfl) (And.intro (Or.inr rfl) (And.intro (Or.inr rfl) trivial))) (zv_sub (zz := zbo (cs = ds)) (zy := 1) (p := fun zz => zEv d 391 55 [.retAddr 0, .retAddr 0, .retAddr 0] [.int zz] S post) (zbo_pos b2) J3)

section S1b
variable {d : Nat} {post : Outcome × zS → Prop}
theorem j_equals {S : zS} (hF : zFin true S) (hd : 1 ≤ d) {s t : Nat} {cs ds : List Nat} (h1 : zStr S s cs) (h2 : zStr S t ds) (h : post (.returned (some (.int (zbo (cs = ds)))), S)) : zCall d 391 [.ref s, .ref t] S post := by
  have hst : s = t → cs = ds := fun e => zStr_inj h1 (e ▸ h2)
  obtain ⟨v, a1, a2, a3, a4, a5, a6, a7, a8⟩ := h1
  obtain ⟨w, b1, b2, b3, b4, b5, b6, b7, b8⟩ := h2
  refine eq2 (cs := cs) (ds := ds) hF hd a1 b1 a2 a3 b2 b3 a5 b5 (by omega) (by omega) a6 b6 a7 b7 a4 b4 ?_
  rw [zbo_congr (Q := cs = ds) ⟨fun x => x.elim hst id, Or.inr⟩]
  exact h
end S1b
/-- a text's number -/
def hstr (cs : List Nat) : Int32 := cs.foldl (fun h c => (31 : Int32) * h + Int32.ofNat c) 0
theorem hc0 {d : Nat} {S : zS} (hF : zFin true S) {v n : Nat} (h0 : Int32) (hn : n < 1000000) {post : Outcome × zS → Prop} (h1 : zEv d 432 8 [.int h0, .ref v, .retAddr 0, .retAddr 0, .int (Int32.ofNat n), .int (Int32.ofNat 0)] [] S post) : zCall d 432 [.int h0, .ref v, .int 0, .int (Int32.ofNat n)] S post := by
  have ht : ztab 432 = ztb432 := rfl
  show zEv d 432 0 [.int h0, .ref v, .int 0, .int (Int32.ofNat n), .retAddr 0, .retAddr 0] [] S post
  refine zv_c1 ht rfl rfl (zv_c1 ht rfl rfl ?_)
  refine zv_e1 (x := Int32.ofNat n) ht rfl rfl (zi_0addE rfl) ?_
  refine zv_c2 (L' := [.int h0, .ref v, .int 0, .int (Int32.ofNat n), .int (Int32.ofNat n), .retAddr 0]) ht rfl rfl ?_
  refine zv_c1 ht rfl rfl ?_
  refine zv_c2 (L' := [.int h0, .ref v, .int 0, .int (Int32.ofNat n), .int (Int32.ofNat n), .int 0]) ht rfl rfl ?_
  exact zEv.wk (L := [.int h0, .ref v, .retAddr 0, .retAddr 0, .int (Int32.ofNat n), .int (Int32.ofNat 0)]) (L' := [.int h0, .ref v, .int 0, .int (Int32.ofNat n), .int (Int32.ofNat n), .int 0]) (And.intro (Or.inl rfl) (And.intro (Or.inl rfl) (And.intro (Or.inr rfl) (And.intro (Or.inr rfl) (And.intro (Or.inl rfl) (And.intro (Or.inl rfl) trivial)))))) h1

theorem hc1 {d : Nat} {S : zS} (hF : zFin true S) {v n : Nat} (k : Nat) (h0 : Int32) (hn : n < 1000000) (hk : k ≤ n) (hm : n ≤ zlen S v) (hvt : ztyp S v = 101 ∨ ztyp S v = 121) {post : Outcome × zS → Prop} (h1 : (n ≤ k) → post (.returned (some (.int h0)), S)) (h2 : (¬ (n ≤ k)) → zEv d 432 8 [.int (((31 : Int32) * h0) + ((gA S v k) &&& (255 : Int32))), .ref v, .retAddr 0, .retAddr 0, .int (Int32.ofNat n), .int (Int32.ofNat (k + 1))] [] S post) : zEv d 432 8 [.int h0, .ref v, .retAddr 0, .retAddr 0, .int (Int32.ofNat n), .int (Int32.ofNat k)] [] S post := by
  have ht : ztab 432 = ztb432 := rfl
  refine zv_c1 ht rfl rfl (zv_c1 ht rfl rfl ?_)
  refine zv_br ht rfl rfl rfl (fun b1 => ?_) (fun b1 => ?_)
  · replace b1 : n ≤ k := (zi_leE (a := n) (b := k) rfl rfl (by omega) (by omega)).mp b1
    refine zv_c1 ht rfl rfl ?_
    exact zv_rt ht rfl rfl rfl rfl (h1 b1)
  · replace b1 : ¬ (n ≤ k) := fun h => b1 ((zi_leE (a := n) (b := k) rfl rfl (by omega) (by omega)).mpr h)
    refine zv_c1 ht rfl rfl (zv_c1 ht rfl rfl ?_)
    refine zv_c1 (st' := [.int ((31 : Int32) * h0)]) (S' := S) ht rfl rfl ?_
    refine zv_c1 ht rfl rfl (zv_c1 ht rfl rfl ?_)
    refine zv_baE (j := k) (x := gA S v k) ht rfl rfl rfl rfl (zi_natE (a := k) rfl (by omega)) ⟨(zv_b2 hvt), zi_inL (a := k) (m := zlen S v) rfl rfl (by omega) (by omega)⟩ rfl ?_
    refine zv_c1 ht rfl rfl ?_
    refine zv_c1 (st' := [.int ((gA S v k) &&& (255 : Int32)), .int ((31 : Int32) * h0)]) (S' := S) ht rfl rfl ?_
    refine zv_c1 (st' := [.int (((31 : Int32) * h0) + ((gA S v k) &&& (255 : Int32)))]) (S' := S) ht rfl rfl ?_
    refine zv_c2 (L' := [.int (((31 : Int32) * h0) + ((gA S v k) &&& (255 : Int32))), .ref v, .retAddr 0, .retAddr 0, .int (Int32.ofNat n), .int (Int32.ofNat k)]) ht rfl rfl ?_
    refine zv_iinc (L' := [.int (((31 : Int32) * h0) + ((gA S v k) &&& (255 : Int32))), .ref v, .retAddr 0, .retAddr 0, .int (Int32.ofNat n), .int (Int32.ofNat (k + 1))]) (i := 5) (x := Int32.ofNat (k + 1)) ht rfl rfl (zi_addE (a := k) (b := 1) rfl rfl) rfl ?_
    refine zv_c1 ht rfl rfl ?_
    exact (h2 b1)

section S1c
variable {d : Nat} {post : Outcome × zS → Prop}
theorem j_hcL {S : zS} (hF : zFin true S) {v : Nat} {cs : List Nat} (hvt : ztyp S v = 101 ∨ ztyp S v = 121) (hl : zlen S v = cs.length) (hn : cs.length < 1000000) (hb : ∀ j, j < cs.length → gA S v j = Int32.ofNat (cs.getD j 0)) (h7 : ∀ c ∈ cs, c < 128)
    (h : post (.returned (some (.int (hstr cs))), S)) : zCall d 432 [.int 0, .ref v, .int 0, .int (Int32.ofNat (zlen S v))] S post := by
  rw [hl]
  refine hc0 hF 0 hn ?_
  have key := zLoop (d := d) (post := post) (me := 432) (pc := 8) cs.length (fun _ S' => S' = S) (fun k => [.int (hstr (cs.take k)), .ref v, .retAddr 0, .retAddr 0, .int (Int32.ofNat cs.length), .int (Int32.ofNat k)]) ?_ ?_ 0 S (by omega) rfl
  · exact key
  · rintro k S' hk rfl ih
    refine hc1 hF k _ hn (by omega) (by omega) hvt (fun b => by omega) (fun _ => ?_)
    rw [hb k hk, zi_255 (by have := h7 _ (getD_mem hk); omega)]
    have e : (31 : Int32) * hstr (cs.take k) + Int32.ofNat (cs.getD k 0) = hstr (cs.take (k + 1)) := by
      unfold hstr
      rw [List.take_add_one, List.getElem?_eq_getElem hk, Option.toList_some, List.foldl_append]
      simp [List.getD_eq_getElem?_getD, hk]
    rw [e]
    exact ih S' rfl
  · rintro S' rfl
    refine hc1 hF cs.length _ hn (by omega) (by omega) hvt (fun _ => ?_) (fun b => absurd (by omega) b)
    rw [List.take_length]
    exact h
end S1c
theorem hc2 {d : Nat} {S : zS} (hF : zFin true S) (hd : 2 ≤ d) {v : Nat} {cs : List Nat} (hl : zlen S v = cs.length) (hn : cs.length < 1000000) (hb : ∀ j, j < cs.length → gA S v j = Int32.ofNat (cs.getD j 0)) (h7 : ∀ c ∈ cs, c < 128) (hvt : ztyp S v = 101) (hvb : ztyp S v = 101 ∨ ztyp S v = 121) {post : Outcome × zS → Prop} (h1 : post (.returned (some (.int (zit (zlen S v = 0) 0 (zit (zlen S v = 1) ((gA S v 0) &&& (255 : Int32)) (hstr cs))))), S)) : zCall d 403 [.ref v] S post := by
  have ht : ztab 403 = ztb403 := rfl
  show zEv d 403 0 [.ref v] [] S post
  refine zv_c1 ht rfl rfl ?_
  refine zv_ci (st' := [.int (Int32.ofNat (zlen S v))]) ht rfl rfl (zv_le (hvt) rfl) ?_
  refine zv_sw ht rfl rfl rfl rfl rfl ?_
  have J7 : zEv d 403 51 [.retAddr 0] [.int (zit (zlen S v = 0) 0 (zit (zlen S v = 1) ((gA S v 0) &&& (255 : Int32)) (hstr cs)))] S post := by
    exact zv_rt ht rfl rfl rfl rfl h1
  refine And.intro (fun b1 => ?_) (fun b1 => ?_)
  · replace b1 : zlen S v = 0 := (zi_eqE (a := (zlen S v)) (b := 0) rfl rfl (by omega) (by omega)).mp b1
    refine zv_c1 ht rfl rfl (zv_c1 ht rfl rfl ?_)
    exact zEv.wk (L := [.retAddr 0]) (L' := [.ref v]) (And.intro (Or.inr rfl) trivial) (zv_sub (zz := zit (zlen S v = 0) 0 (zit (zlen S v = 1) ((gA S v 0) &&& (255 : Int32)) (hstr cs))) (zy := 0) (p := fun zz => zEv d 403 51 [.retAddr 0] [.int zz] S post) (zit_pos b1) J7)
  replace b1 : ¬ (zlen S v = 0) := fun h => b1 ((zi_eqE (a := (zlen S v)) (b := 0) rfl rfl (by omega) (by omega)).mpr h)
  refine And.intro (fun b2 => ?_) (fun b2 => ?_)
  · replace b2 : zlen S v = 1 := (zi_eqE (a := (zlen S v)) (b := 1) rfl rfl (by omega) (by omega)).mp b2
    refine zv_c1 ht rfl rfl (zv_c1 ht rfl rfl ?_)
    refine zv_baE (j := 0) (x := gA S v 0) ht rfl rfl rfl rfl (zi_nat (k := 0) (by decide)) ⟨(Or.inl hvt), zi_inL (a := 0) (m := zlen S v) rfl rfl (by omega) (by omega)⟩ rfl ?_
    refine zv_c1 ht rfl rfl ?_
    refine zv_c1 (st' := [.int ((gA S v 0) &&& (255 : Int32))]) (S' := S) ht rfl rfl ?_
    refine zv_c1 ht rfl rfl ?_
    exact zEv.wk (L := [.retAddr 0]) (L' := [.ref v]) (And.intro (Or.inr rfl) trivial) (zv_sub (zz := zit (zlen S v = 0) 0 (zit (zlen S v = 1) ((gA S v 0) &&& (255 : Int32)) (hstr cs))) (zy := (gA S v 0) &&& (255 : Int32)) (p := fun zz => zEv d 403 51 [.retAddr 0] [.int zz] S post) (Eq.trans (zit_neg b1) (zit_pos b2)) J7)
  replace b2 : ¬ (zlen S v = 1) := fun h => b2 ((zi_eqE (a := (zlen S v)) (b := 1) rfl rfl (by omega) (by omega)).mpr h)
  refine zv_c1 ht rfl rfl (zv_c1 ht rfl rfl (zv_c1 ht rfl rfl ?_))
  refine zv_ci (st' := [.int (Int32.ofNat (zlen S v)), .int 0, .ref v]) ht rfl rfl (zv_le (hvt) rfl) ?_
  refine zv_c1 ht rfl rfl (zv_c1 ht rfl rfl ?_)
  have C4 : ∀ (pst3 : Outcome × zS → Prop), (pst3 (.returned (some (.int (hstr cs))), S)) → zCall (d - 1) 431 [.ref v, .int 0, .int (Int32.ofNat (zlen S v)), .int 0, .int 4] S pst3 := by
    intro pst3 k6
    have ht5 : ztab 431 = ztb431 := rfl
    show zEv (d - 1) 431 0 [.ref v, .int 0, .int (Int32.ofNat (zlen S v)), .int 0, .int 4] [] S pst3
    refine zv_c1 ht5 rfl rfl ?_
    refine zv_sw ht5 rfl rfl rfl rfl rfl ?_
    refine And.intro (fun _ => ?_) (fun h => absurd (by decide) h)
    refine zv_c1 ht5 rfl rfl (zv_c1 ht5 rfl rfl ?_)
    refine zv_ci ht5 rfl rfl hvt ?_
    refine zv_c1 ht5 rfl rfl (zv_c1 ht5 rfl rfl ?_)
    refine zv_cl ht5 rfl rfl rfl rfl (by omega) (Nat.le_of_ble_eq_true rfl) (j_hcL (S := S) hF (cs := cs) hvb hl hn hb h7 ?_)
    show zEv (d - 1) 431 54 [.ref v, .int 0, .int (Int32.ofNat (zlen S v)), .int 0, .int 4] [.int (hstr cs)] S pst3
    refine zv_c1 ht5 rfl rfl ?_
    exact zv_rt ht5 rfl rfl rfl rfl k6
  refine zv_cl ht rfl rfl rfl rfl (by omega) (Nat.le_of_ble_eq_true rfl) (C4 _ ?_)
  show zEv d 403 51 [.ref v] [.int (hstr cs)] S post
  exact zEv.wk (L := [.retAddr 0]) (L' := [.ref v]) (And.intro (Or.inr rfl) trivial) (zv_sub (zz := zit (zlen S v = 0) 0 (zit (zlen S v = 1) ((gA S v 0) &&& (255 : Int32)) (hstr cs))) (zy := hstr cs) (p := fun zz => zEv d 403 51 [.retAddr 0] [.int zz] S post) (Eq.trans (zit_neg b1) (zit_neg b2)) J7)

/-- a text that was made while it ran -/
def zDs (S : zS) (s : Nat) (cs : List Nat) : Prop := ∃ v, ztyp S s = 22 ∧ gP S 199 s = some v ∧ gI S 200 s = 0 ∧ ztyp S v = 101 ∧ zlen S v = cs.length ∧ (∀ j, j < cs.length → gA S v j = Int32.ofNat (cs.getD j 0)) ∧ (∀ c ∈ cs, c < 128) ∧ cs.length < 100000 ∧ (s < gN S ∧ v < gN S) ∧ (1639 ≤ s ∧ 1639 ≤ v) ∧ gI S 201 s = 0 ∧ gI S 202 s = 0
theorem zDs.str {S : zS} {s : Nat} {cs : List Nat} (h : zDs S s cs) : zStr S s cs := by
  obtain ⟨v, h1, h2, h3, h4, h5, h6, h7, h8, -⟩ := h
  exact ⟨v, h1, h2, h3, Or.inl h4, h5, h6, h7, h8⟩
theorem zStr.k {S S' : zS} {s N : Nat} {cs A Fs : List Nat} (h : zStr S s cs) (k : zKE N A Fs S S') (hs : s < N ∨ zLB ≤ s) (hv : ∀ v, gP S 199 s = some v → (v < N ∨ zLB ≤ v) ∧ v ∉ A) (hA : s ∉ A) (hF : 199 ∉ Fs ∧ 200 ∉ Fs) : zStr S' s cs := by
  obtain ⟨v, h1, h2, h3, h4, h5, h6, h7, h8⟩ := h
  obtain ⟨q1, q2⟩ := hv v h2
  exact ⟨v, (k.T hs).trans h1, (k.P hs hA hF.1).trans h2, (k.I hs hA hF.2).trans h3, by rw [k.T q1]; exact h4, (k.Len q1).trans h5, fun j hj => by rw [k.A q1 q2]; exact h6 j hj, h7, h8⟩
theorem zStr.sI {S : zS} {s f a : Nat} {x : Int32} {cs : List Nat} (h : zStr S s cs) (hf : f ≠ 200) : zStr (sI S f a x) s cs := by
  obtain ⟨v, h1, h2, h3, h4, h5, h6, h7, h8⟩ := h
  exact ⟨v, h1, h2, (zu_ne (fun e => hf e.symm)).trans h3, h4, h5, h6, h7, h8⟩
theorem hc3 {d : Nat} {S : zS} (hF : zFin true S) (hd : 3 ≤ d) {s v : Nat} {cs : List Nat} (hs : s < gN S) (h22 : ztyp S s = 22) (hv : gP S 199 s = some v) (hc : gI S 200 s = 0) (hz1 : gI S 201 s = 0) (hz2 : gI S 202 s = 0) (hl : zlen S v = cs.length) (hn : cs.length < 1000000) (hb : ∀ j, j < cs.length → gA S v j = Int32.ofNat (cs.getD j 0)) (h7 : ∀ c ∈ cs, c < 128) (hvt : ztyp S v = 101) {post : Outcome × zS → Prop} (h1 : (¬ ((zit (zlen S v = 0) 0 (zit (zlen S v = 1) ((gA S v 0) &&& (255 : Int32)) (hstr cs))) = 0)) → post (.returned (some (.int (zit (zlen S v = 0) 0 (zit (zlen S v = 1) ((gA S v 0) &&& (255 : Int32)) (hstr cs))))), sI S 201 s (zit (zlen S v = 0) 0 (zit (zlen S v = 1) ((gA S v 0) &&& (255 : Int32)) (hstr cs))))) (h2 : ((zit (zlen S v = 0) 0 (zit (zlen S v = 1) ((gA S v 0) &&& (255 : Int32)) (hstr cs))) = 0) → post (.returned (some (.int (zit (zlen S v = 0) 0 (zit (zlen S v = 1) ((gA S v 0) &&& (255 : Int32)) (hstr cs))))), sI S 202 s 1)) : zCall d 394 [.ref s] S post := by
  have ht : ztab 394 = ztb394 := rfl
  show zEv d 394 0 [.ref s, .retAddr 0] [] S post
  refine zv_c1 ht rfl rfl ?_
  refine zv_ei (x := 0) ht rfl rfl ⟨(zhas_of (h22) rfl), (show s < gN S from by omega)⟩ hz1 ?_
  refine zv_c2 (L' := [.ref s, .int 0]) ht rfl rfl ?_
  refine zv_c1 ht rfl rfl ?_
  refine zv_br ht rfl rfl rfl (fun h => absurd h (by decide)) (fun _ => ?_)
  refine zv_c1 ht rfl rfl ?_
  refine zv_ei (x := 0) ht rfl rfl ⟨(zhas_of (h22) rfl), (show s < gN S from by omega)⟩ hz2 ?_
  refine zv_br ht rfl rfl rfl (fun h => absurd h (by decide)) (fun _ => ?_)
  refine zv_c1 ht rfl rfl ?_
  have C2 : ∀ (pst1 : Outcome × zS → Prop), (pst1 (.returned (some (.int 1)), S)) → zCall (d - 1) 386 [.ref s] S pst1 := by
    intro pst1 k4
    have ht3 : ztab 386 = ztb386 := rfl
    show zEv (d - 1) 386 0 [.ref s] [] S pst1
    refine zv_c1 ht3 rfl rfl ?_
    refine zv_br ht3 rfl rfl rfl (fun h => absurd h (by decide)) (fun _ => ?_)
    refine zv_c1 ht3 rfl rfl ?_
    refine zv_ei (x := 0) ht3 rfl rfl (zhas_of (h22) rfl) hc ?_
    refine zv_br ht3 rfl rfl rfl (fun h => absurd h (by decide)) (fun _ => ?_)
    refine zv_c1 ht3 rfl rfl (zv_c1 ht3 rfl rfl ?_)
    exact zv_rc ht3 rfl rfl rfl rfl (by decide) k4
  refine zv_cl ht rfl rfl rfl (zv_tgv (h22) rfl) (by omega) (Nat.le_of_ble_eq_true rfl) (C2 _ ?_)
  show zEv d 394 20 [.ref s, .int 0] [.int 1] S post
  refine zv_br ht rfl rfl rfl (fun h => absurd h (by decide)) (fun _ => ?_)
  refine zv_c1 ht rfl rfl ?_
  refine zv_g3 (q := v) ht rfl hF rfl rfl (zhas_of (h22) rfl) hv ?_
  refine zv_cl ht rfl rfl rfl rfl (by omega) (Nat.le_of_ble_eq_true rfl) (hc2 (S := S) hF (by omega) (cs := cs) hl hn hb h7 hvt (Or.inl hvt) ?_)
  show zEv d 394 30 [.ref s, .int 0] [.int (zit (zlen S v = 0) 0 (zit (zlen S v = 1) ((gA S v 0) &&& (255 : Int32)) (hstr cs)))] S post
  refine zv_c1 ht rfl rfl ?_
  refine zv_c2 (L' := [.ref s, .int (zit (zlen S v = 0) 0 (zit (zlen S v = 1) ((gA S v 0) &&& (255 : Int32)) (hstr cs)))]) ht rfl rfl ?_
  refine zv_c1 ht rfl rfl ?_
  refine zv_br ht rfl rfl rfl (fun b5 => ?_) (fun b5 => ?_)
  · refine zv_c1 ht rfl rfl (zv_c1 ht rfl rfl ?_)
    refine zv_ci (S' := sI S 201 s (zit (zlen S v = 0) 0 (zit (zlen S v = 1) ((gA S v 0) &&& (255 : Int32)) (hstr cs)))) ht rfl rfl ⟨(zhas_of (h22) rfl), (show s < gN S from by omega)⟩ ?_
    refine zv_c1 ht rfl rfl ?_
    exact zv_rt ht rfl rfl rfl rfl (h1 b5)
  · replace b5 : (zit (zlen S v = 0) 0 (zit (zlen S v = 1) ((gA S v 0) &&& (255 : Int32)) (hstr cs))) = 0 := Classical.not_not.mp b5
    refine zv_c1 ht rfl rfl (zv_c1 ht rfl rfl ?_)
    refine zv_ci (S' := sI S 202 s 1) ht rfl rfl ⟨⟨(zhas_of (h22) rfl), (show s < gN S from by omega)⟩, (by decide)⟩ ?_
    refine zv_c1 ht rfl rfl (zv_c1 ht rfl rfl ?_)
    exact zv_rt ht rfl rfl rfl rfl (h2 b5)

section S1d
variable {d : Nat} {post : Outcome × zS → Prop}
theorem j_hashCode {S : zS} (hF : zFin true S) (hd : 3 ≤ d) {s : Nat} {cs : List Nat} (hs : zDs S s cs) (h : ∀ f x, f = 201 ∨ f = 202 → post (.returned (some (.int (hstr cs))), sI S f s x)) : zCall d 394 [.ref s] S post := by
  obtain ⟨v, h1, h2, h3, h4, h5, h6, h7, h8, ⟨h9, -⟩, -, h10, h11⟩ := hs
  have e : zit (zlen S v = 0) 0 (zit (zlen S v = 1) ((gA S v 0) &&& (255 : Int32)) (hstr cs)) = hstr cs := by
    by_cases q0 : zlen S v = 0
    · rw [zit_pos q0]
      rw [h5] at q0
      rw [List.length_eq_zero_iff.mp q0]
      rfl
    · rw [zit_neg q0]
      by_cases q1 : zlen S v = 1
      · rw [zit_pos q1]
        rw [h5] at q1
        obtain ⟨c, rfl⟩ := List.length_eq_one_iff.mp q1
        rw [h6 0 (by simp), zi_255 (by have := h7 c (by simp); simp; omega)]
        show Int32.ofNat c = (31 : Int32) * 0 + Int32.ofNat c
        rw [Int32.mul_zero, Int32.zero_add]
      · rw [zit_neg q1]
  refine hc3 (cs := cs) hF hd h9 h1 h2 h3 h10 h11 h5 (by omega) h6 h7 h4 (fun _ => ?_) (fun _ => ?_)
  · rw [e]; exact h 201 _ (Or.inl rfl)
  · rw [e]; exact h 202 _ (Or.inr rfl)
end S1d
/-! indexOf -/
theorem ix0 {d : Nat} {S : zS} (hF : zFin true S) {v n : Nat} (c : Nat) {post : Outcome × zS → Prop} (h1 : zEv d 406 7 [.ref v, .retAddr 0, .retAddr 0, .int (Int32.ofNat n), .int ((Int32.ofNat c : Int32).toInt8.toInt32), .int (Int32.ofNat 0)] [] S post) : zCall d 406 [.ref v, .int (Int32.ofNat c), .int 0, .int (Int32.ofNat n)] S post := by
  have ht : ztab 406 = ztb406 := rfl
  show zEv d 406 0 [.ref v, .int (Int32.ofNat c), .int 0, .int (Int32.ofNat n), .retAddr 0, .retAddr 0] [] S post
  refine zv_c1 ht rfl rfl ?_
  refine zv_c1 (st' := [.int ((Int32.ofNat c : Int32).toInt8.toInt32)]) (S' := S) ht rfl rfl ?_
  refine zv_c2 (L' := [.ref v, .int (Int32.ofNat c), .int 0, .int (Int32.ofNat n), .int ((Int32.ofNat c : Int32).toInt8.toInt32), .retAddr 0]) ht rfl rfl ?_
  refine zv_c1 ht rfl rfl ?_
  refine zv_c2 (L' := [.ref v, .int (Int32.ofNat c), .int 0, .int (Int32.ofNat n), .int ((Int32.ofNat c : Int32).toInt8.toInt32), .int 0]) ht rfl rfl ?_
  exact zEv.wk (L := [.ref v, .retAddr 0, .retAddr 0, .int (Int32.ofNat n), .int ((Int32.ofNat c : Int32).toInt8.toInt32), .int (Int32.ofNat 0)]) (L' := [.ref v, .int (Int32.ofNat c), .int 0, .int (Int32.ofNat n), .int ((Int32.ofNat c : Int32).toInt8.toInt32), .int 0]) (And.intro (Or.inl rfl) (And.intro (Or.inr rfl) (And.intro (Or.inr rfl) (And.intro (Or.inl rfl) (And.intro (Or.inl rfl) (And.intro (Or.inl rfl) trivial)))))) h1

theorem ix1 {d : Nat} {S : zS} (hF : zFin true S) {v n : Nat} (k : Nat) (c8 : Int32) (hn : n < 1000000) (hk : k ≤ n) (hm : n ≤ zlen S v) (hvt : ztyp S v = 101 ∨ ztyp S v = 121) {post : Outcome × zS → Prop} (h1 : ((n ≤ k) ∨ ((gA S v k) = c8)) → post (.returned (some (.int (zit (n ≤ k) (-1) (Int32.ofNat k)))), S)) (h2 : (¬ (n ≤ k)) → (¬ ((gA S v k) = c8)) → zEv d 406 7 [.ref v, .retAddr 0, .retAddr 0, .int (Int32.ofNat n), .int c8, .int (Int32.ofNat (k + 1))] [] S post) : zEv d 406 7 [.ref v, .retAddr 0, .retAddr 0, .int (Int32.ofNat n), .int c8, .int (Int32.ofNat k)] [] S post := by
  have ht : ztab 406 = ztb406 := rfl
  refine zv_c1 ht rfl rfl (zv_c1 ht rfl rfl ?_)
  refine zv_br ht rfl rfl rfl (fun b1 => ?_) (fun b1 => ?_)
  · replace b1 : n ≤ k := (zi_leE (a := n) (b := k) rfl rfl (by omega) (by omega)).mp b1
    refine zv_c1 ht rfl rfl ?_
    exact zv_rt ht rfl rfl rfl rfl (zv_sub (zz := zit (n ≤ k) (-1) (Int32.ofNat k)) (zy := (-1)) (p := fun zz => post (.returned (some (.int zz)), S)) (zit_pos b1) (h1 (Or.inl b1)))
  · replace b1 : ¬ (n ≤ k) := fun h => b1 ((zi_leE (a := n) (b := k) rfl rfl (by omega) (by omega)).mpr h)
    refine zv_c1 ht rfl rfl (zv_c1 ht rfl rfl ?_)
    refine zv_baE (j := k) (x := gA S v k) ht rfl rfl rfl rfl (zi_natE (a := k) rfl (by omega)) ⟨(zv_b2 hvt), zi_inL (a := k) (m := zlen S v) rfl rfl (by omega) (by omega)⟩ rfl ?_
    refine zv_c1 ht rfl rfl ?_
    refine zv_br ht rfl rfl rfl (fun b2 => ?_) (fun b2 => ?_)
    · refine zv_iinc (L' := [.ref v, .retAddr 0, .retAddr 0, .int (Int32.ofNat n), .int c8, .int (Int32.ofNat (k + 1))]) (i := 5) (x := Int32.ofNat (k + 1)) ht rfl rfl (zi_addE (a := k) (b := 1) rfl rfl) rfl ?_
      refine zv_c1 ht rfl rfl ?_
      exact (h2 b1 b2)
    · replace b2 : (gA S v k) = c8 := Classical.not_not.mp b2
      refine zv_c1 ht rfl rfl ?_
      exact zv_rt ht rfl rfl rfl rfl (zv_sub (zz := zit (n ≤ k) (-1) (Int32.ofNat k)) (zy := Int32.ofNat k) (p := fun zz => post (.returned (some (.int zz)), S)) (zit_neg b1) (h1 (Or.inr b2)))

section S1e
variable {d : Nat} {post : Outcome × zS → Prop}
/-- is a letter in a text? (what is found is not said) -/
theorem j_ixL {S : zS} (hF : zFin true S) {v : Nat} {cs : List Nat} (hvt : ztyp S v = 101 ∨ ztyp S v = 121) (hl : zlen S v = cs.length) (hn : cs.length < 1000000) (hb : ∀ j, j < cs.length → gA S v j = Int32.ofNat (cs.getD j 0)) (h7 : ∀ c ∈ cs, c < 128) (c : Nat) (hc : c < 128)
    (h : ∀ x : Int32, (x < 0 ↔ c ∉ cs) → post (.returned (some (.int x)), S)) : zCall d 406 [.ref v, .int (Int32.ofNat c), .int 0, .int (Int32.ofNat cs.length)] S post := by
  refine ix0 hF c ?_
  have eqk : ∀ k, k < cs.length → (gA S v k = (Int32.ofNat c : Int32).toInt8.toInt32 ↔ cs.getD k 0 = c) := by
    intro k hk
    rw [hb k hk, zi_i2b7 hc]
    have q1 : cs.getD k 0 < 128 := h7 _ (getD_mem hk)
    exact zi_eqE rfl rfl (by omega) (by omega)
  have key := zLoop (d := d) (post := post) (me := 406) (pc := 7) cs.length (fun k S' => S' = S ∧ ∀ i, i < k → cs.getD i 0 ≠ c) (fun k => [.ref v, .retAddr 0, .retAddr 0, .int (Int32.ofNat cs.length), .int ((Int32.ofNat c : Int32).toInt8.toInt32), .int (Int32.ofNat k)]) ?_ ?_ 0 S (by omega) ⟨rfl, fun i hi => by omega⟩
  · exact key
  · rintro k S' hk ⟨rfl, hp⟩ ih
    refine ix1 hF k _ hn (by omega) (by omega) hvt (fun b => ?_) (fun _ b => ih S' ⟨rfl, fun i hi => ?_⟩)
    · have b3 := b.resolve_left (by omega)
      rw [zit_neg (by omega)]
      refine h _ ⟨fun hx => absurd hx (zi_neg (by omega)), fun hx => absurd ?_ hx⟩
      rw [← (eqk k hk).mp b3]
      exact getD_mem hk
    · by_cases e : i = k
      · subst e; exact fun h => b ((eqk i hk).mpr h)
      · exact hp i (by omega)
  · rintro S' ⟨rfl, hp⟩
    refine ix1 hF cs.length _ hn (by omega) (by omega) hvt (fun _ => ?_) (fun b => absurd (by omega) b)
    rw [zit_pos (by omega)]
    refine h _ ⟨fun _ hm => ?_, fun _ => by decide⟩
    obtain ⟨i, hi, e⟩ := List.getElem_of_mem hm
    exact hp i hi (by simp [List.getD_eq_getElem?_getD, hi, e])
end S1e

