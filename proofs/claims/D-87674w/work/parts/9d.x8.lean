set_option maxRecDepth 100000
/-! ===== the house judges a thresh ===== -/
theorem tyTf_all {zs os wo mn v : Nat} {f : Int32} : (bt 0 (tyTf zs os wo mn v f) ↔ zs = mn) ∧ (bt 1 (tyTf zs os wo mn v f) ↔ (zs = mn - 1 ∧ os = 1)) ∧ ¬ bt 2 (tyTf zs os wo mn v f) ∧ bt 3 (tyTf zs os wo mn v f) ∧ bt 4 (tyTf zs os wo mn v f) ∧ (bt 5 (tyTf zs os wo mn v f) ↔ ¬ (v - 1 < wo)) ∧ ¬ bt 6 (tyTf zs os wo mn v f) ∧ (bt 7 (tyTf zs os wo mn v f) ↔ wo = 0) ∧ (bt 8 (tyTf zs os wo mn v f) ↔ ((f &&& (384 : Int32)) = 384 ∧ ¬ (v < wo))) ∧ ¬ bt 9 (tyTf zs os wo mn v f) := by
  refine ⟨?_, ?_, ?_, ?_, ?_, ?_, ?_, ?_, ?_, ?_⟩
  · unfold tyTf
    simp only [bt_or, bt_znt, bt_zbo, bl_0_0, bm_0_0, bl_2_0, bm_2_0, bl_24_0, bm_24_0, bl_32_0, bm_32_0, bl_128_0, bm_128_0, bl_256_0, bm_256_0, true_and, and_true, false_and, and_false, or_false, false_or, true_or, or_true, Classical.not_not, not_false_eq_true, iff_self] <;> grind
  · unfold tyTf
    simp only [bt_or, bt_znt, bt_zbo, bl_0_1, bm_0_1, bl_2_1, bm_2_1, bl_24_1, bm_24_1, bl_32_1, bm_32_1, bl_128_1, bm_128_1, bl_256_1, bm_256_1, true_and, and_true, false_and, and_false, or_false, false_or, true_or, or_true, Classical.not_not, not_false_eq_true, iff_self] <;> grind
  · unfold tyTf
    simp only [bt_or, bt_znt, bt_zbo, bl_0_2, bm_0_2, bl_2_2, bm_2_2, bl_24_2, bm_24_2, bl_32_2, bm_32_2, bl_128_2, bm_128_2, bl_256_2, bm_256_2, true_and, and_true, false_and, and_false, or_false, false_or, true_or, or_true, Classical.not_not, not_false_eq_true, iff_self] <;> grind
  · unfold tyTf
    simp only [bt_or, bt_znt, bt_zbo, bl_0_3, bm_0_3, bl_2_3, bm_2_3, bl_24_3, bm_24_3, bl_32_3, bm_32_3, bl_128_3, bm_128_3, bl_256_3, bm_256_3, true_and, and_true, false_and, and_false, or_false, false_or, true_or, or_true, Classical.not_not, not_false_eq_true, iff_self] <;> grind
  · unfold tyTf
    simp only [bt_or, bt_znt, bt_zbo, bl_0_4, bm_0_4, bl_2_4, bm_2_4, bl_24_4, bm_24_4, bl_32_4, bm_32_4, bl_128_4, bm_128_4, bl_256_4, bm_256_4, true_and, and_true, false_and, and_false, or_false, false_or, true_or, or_true, Classical.not_not, not_false_eq_true, iff_self] <;> grind
  · unfold tyTf
    simp only [bt_or, bt_znt, bt_zbo, bl_0_5, bm_0_5, bl_2_5, bm_2_5, bl_24_5, bm_24_5, bl_32_5, bm_32_5, bl_128_5, bm_128_5, bl_256_5, bm_256_5, true_and, and_true, false_and, and_false, or_false, false_or, true_or, or_true, Classical.not_not, not_false_eq_true, iff_self] <;> grind
  · unfold tyTf
    simp only [bt_or, bt_znt, bt_zbo, bl_0_6, bm_0_6, bl_2_6, bm_2_6, bl_24_6, bm_24_6, bl_32_6, bm_32_6, bl_128_6, bm_128_6, bl_256_6, bm_256_6, true_and, and_true, false_and, and_false, or_false, false_or, true_or, or_true, Classical.not_not, not_false_eq_true, iff_self] <;> grind
  · unfold tyTf
    simp only [bt_or, bt_znt, bt_zbo, bl_0_7, bm_0_7, bl_2_7, bm_2_7, bl_24_7, bm_24_7, bl_32_7, bm_32_7, bl_128_7, bm_128_7, bl_256_7, bm_256_7, true_and, and_true, false_and, and_false, or_false, false_or, true_or, or_true, Classical.not_not, not_false_eq_true, iff_self] <;> grind
  · unfold tyTf
    simp only [bt_or, bt_znt, bt_zbo, bl_0_8, bm_0_8, bl_2_8, bm_2_8, bl_24_8, bm_24_8, bl_32_8, bm_32_8, bl_128_8, bm_128_8, bl_256_8, bm_256_8, true_and, and_true, false_and, and_false, or_false, false_or, true_or, or_true, Classical.not_not, not_false_eq_true, iff_self] <;> grind
  · unfold tyTf
    simp only [bt_or, bt_znt, bt_zbo, bl_0_9, bm_0_9, bl_2_9, bm_2_9, bl_24_9, bm_24_9, bl_32_9, bm_32_9, bl_128_9, bm_128_9, bl_256_9, bm_256_9, true_and, and_true, false_and, and_false, or_false, false_or, true_or, or_true, Classical.not_not, not_false_eq_true, iff_self] <;> grind
/-- counts over a row of types -/
noncomputable def cOn (l : List t3) : Nat := (l.map (fun t => znt (bt 0 t.2.1) 0 (zbn (bt 1 t.2.1)))).sum
noncomputable def cOt (l : List t3) : Nat := (l.map (fun t => zbn (¬ bt 0 t.2.1))).sum
noncomputable def cUn (l : List t3) : Nat := (l.map (fun t => zbn (¬ bt 5 t.2.1))).sum
def aB (i : Nat) (l : List t3) : Prop := ∀ t ∈ l, bt i t.2.1
theorem aB_app {i : Nat} {l : List t3} {t : t3} : aB i (l ++ [t]) ↔ aB i l ∧ bt i t.2.1 := by
  unfold aB
  constructor
  · intro h; exact ⟨fun x hx => h x (List.mem_append_left _ hx), h t (by simp)⟩
  · rintro ⟨h1, h2⟩ x hx
    rcases List.mem_append.mp hx with e | e
    · exact h1 x e
    · rw [List.mem_singleton.mp e]; exact h2
theorem cOt_app {l : List t3} {t : t3} : cOt (l ++ [t]) = cOt l + zbn (¬ bt 0 t.2.1) := by unfold cOt; simp
theorem cUn_app {l : List t3} {t : t3} : cUn (l ++ [t]) = cUn l + zbn (¬ bt 5 t.2.1) := by unfold cUn; simp
theorem cOn_app {l : List t3} {t : t3} : cOn (l ++ [t]) = znt (bt 0 t.2.1) (cOn l) (cOn l + zbn (bt 1 t.2.1)) := by
  unfold cOn
  simp only [List.map_append, List.map_cons, List.map_nil, List.sum_append, List.sum_cons, List.sum_nil, Nat.add_zero]
  by_cases h : bt 0 t.2.1
  · rw [znt_pos h, znt_pos h]; rfl
  · rw [znt_neg h, znt_neg h]
theorem cOn_cOt : ∀ l : List t3, cOn l ≤ cOt l := by
  intro l
  induction l with
  | nil => exact Nat.le_refl _
  | cons t l ih =>
    have e4 : cOn (t :: l) = znt (bt 0 t.2.1) 0 (zbn (bt 1 t.2.1)) + cOn l := by unfold cOn; simp
    have e2 : cOt (t :: l) = zbn (¬ bt 0 t.2.1) + cOt l := by unfold cOt; simp
    rw [e4, e2]
    by_cases h : bt 0 t.2.1
    · rw [znt_pos h]; omega
    · have := @zbn_le (bt 1 t.2.1)
      rw [znt_neg h, zbn_pos h]; omega
theorem cOt_le : ∀ l : List t3, cOt l ≤ l.length := by
  intro l
  induction l with
  | nil => exact Nat.le_refl _
  | cons t l ih =>
    have h : cOt (t :: l) = zbn (¬ bt 0 t.2.1) + cOt l := by unfold cOt; simp
    have := @zbn_le (¬ bt 0 t.2.1)
    rw [h, List.length_cons]; omega
theorem cUn_le : ∀ l : List t3, cUn l ≤ l.length := by
  intro l
  induction l with
  | nil => exact Nat.le_refl _
  | cons t l ih =>
    have h : cUn (t :: l) = zbn (¬ bt 5 t.2.1) + cUn l := by unfold cUn; simp
    have := @zbn_le (¬ bt 5 t.2.1)
    rw [h, List.length_cons]; omega
theorem cOn_le : ∀ l : List t3, cOn l ≤ l.length := by
  intro l
  induction l with
  | nil => exact Nat.le_refl _
  | cons t l ih =>
    have h : cOn (t :: l) = znt (bt 0 t.2.1) 0 (zbn (bt 1 t.2.1)) + cOn l := by unfold cOn; simp
    have h2 : znt (bt 0 t.2.1) 0 (zbn (bt 1 t.2.1)) ≤ 1 := by
      by_cases h : bt 0 t.2.1
      · rw [znt_pos h]; exact Nat.zero_le _
      · rw [znt_neg h]; exact zbn_le
    rw [h, List.length_cons]; omega
/-- the two ways of counting -/
theorem cnt_all {l : List t3} (hzo : ∀ t ∈ l, ¬ (bt 0 t.2.1 ∧ bt 1 t.2.1)) : cZ l + cOt l = l.length ∧ cO l = cOn l ∧ cW l = cUn l ∧ (aB 0 l ↔ cOt l = 0) := by
  induction l with
  | nil => exact ⟨rfl, rfl, rfl, ⟨fun _ => rfl, fun _ t h => by cases h⟩⟩
  | cons t l ih =>
    obtain ⟨i1, i2, i3, i4⟩ := ih (fun x hx => hzo x (List.mem_cons_of_mem _ hx))
    have hz := hzo t List.mem_cons_self
    have e1 : cZ (t :: l) = zbn ((t.2.1 &&& (1 : Int32)) = 1) + cZ l := by unfold cZ; simp
    have e2 : cOt (t :: l) = zbn (¬ bt 0 t.2.1) + cOt l := by unfold cOt; simp
    have e3 : cO (t :: l) = zbn ((t.2.1 &&& (2 : Int32)) = 2) + cO l := by unfold cO; simp
    have e4 : cOn (t :: l) = znt (bt 0 t.2.1) 0 (zbn (bt 1 t.2.1)) + cOn l := by unfold cOn; simp
    have e5 : cW (t :: l) = zbn (¬ ((t.2.1 &&& (32 : Int32)) = 32)) + cW l := by unfold cW; simp
    have e6 : cUn (t :: l) = zbn (¬ bt 5 t.2.1) + cUn l := by unfold cUn; simp
    rw [propext is_1] at e1
    rw [propext is_2] at e3
    rw [propext is_32] at e5
    rw [e1, e2, e3, e4, e5, e6, List.length_cons]
    refine ⟨?_, ?_, by rw [i3], ?_⟩
    · by_cases h : bt 0 t.2.1
      · rw [zbn_pos h, zbn_neg (fun x => x h)]; omega
      · rw [zbn_neg h, zbn_pos h]; omega
    · by_cases h : bt 0 t.2.1
      · rw [znt_pos h, zbn_neg (fun x => hz ⟨h, x⟩), i2]
      · rw [znt_neg h, i2]
    · constructor
      · intro h
        rw [zbn_neg (fun x => x (h t List.mem_cons_self)), i4.mp (fun x hx => h x (List.mem_cons_of_mem _ hx))]
      · intro h
        have h1 : zbn (¬ bt 0 t.2.1) = 0 := by omega
        have h2 : bt 0 t.2.1 := Classical.byContradiction fun x => by rw [zbn_pos x] at h1; cases h1
        intro x hx
        rcases List.mem_cons.mp hx with e | e
        · rw [e]; exact h2
        · exact i4.mpr (by omega) x e
theorem fAll_bt {i : Nat} (h : bt i 384) : ∀ (l : List t3), bt i (fAll l) ↔ aB i l := by
  have key : ∀ (l : List t3) (f : Int32), bt i (l.foldl (fun a t => a &&& t.2.1) f) ↔ bt i f ∧ aB i l := by
    intro l
    induction l with
    | nil => intro f; exact ⟨fun h => ⟨h, fun t ht => by cases ht⟩, fun h => h.1⟩
    | cons t l ih =>
      intro f
      show bt i (l.foldl _ (f &&& t.2.1)) ↔ _
      rw [ih, bt_and]
      constructor
      · rintro ⟨⟨h1, h2⟩, h3⟩
        refine ⟨h1, fun x hx => ?_⟩
        rcases List.mem_cons.mp hx with e | e
        · rw [e]; exact h2
        · exact h3 x e
      · rintro ⟨h1, h2⟩
        exact ⟨⟨h1, h2 t List.mem_cons_self⟩, fun x hx => h2 x (List.mem_cons_of_mem _ hx)⟩
  intro l
  unfold fAll
  rw [key]
  exact ⟨fun x => x.2, fun x => ⟨h, x⟩⟩
theorem mxb_all {z : Int32} : ∀ (l : List t3), mxb (lkAll l) z ↔ ∃ i, i < l.length ∧ mxb (l.getD i t0).2.2 z := by
  have key : ∀ (l : List t3) (a : Int32), mxb (l.foldl (fun a t => a ||| t.2.2) a) z ↔ mxb a z ∨ ∃ i, i < l.length ∧ mxb (l.getD i t0).2.2 z := by
    intro l
    induction l with
    | nil => intro a; exact ⟨Or.inl, fun h => h.elim id (fun ⟨i, h, _⟩ => absurd h (Nat.not_lt_zero _))⟩
    | cons t l ih =>
      intro a
      show mxb (l.foldl _ (a ||| t.2.2)) z ↔ _
      rw [ih, mxb_or]
      constructor
      · rintro ((h | h) | ⟨i, h1, h2⟩)
        · exact Or.inl h
        · exact Or.inr ⟨0, Nat.succ_pos _, h⟩
        · exact Or.inr ⟨i + 1, Nat.succ_lt_succ h1, h2⟩
      · rintro (h | ⟨i, h1, h2⟩)
        · exact Or.inl (Or.inl h)
        · cases i with
          | zero => exact Or.inl (Or.inr h2)
          | succ i => exact Or.inr ⟨i, Nat.lt_of_succ_lt_succ h1, h2⟩
  intro l
  unfold lkAll
  rw [key]
  exact ⟨fun h => h.elim (fun x => absurd x mxb_0) id, Or.inr⟩
theorem getD_app1 {l : List t3} {t : t3} {i : Nat} (h : i < l.length) : (l ++ [t]).getD i t0 = l.getD i t0 := by simp [List.getD, List.getElem?_append_left h]
theorem tyMx_app {v : Nat} {l : List t3} {t : t3} : tyMx 17 v (l ++ [t]) ↔ tyMx 17 v l ∨ bt 9 t.2.1 ∨ (1 < v ∧ mxb (lkAll l) t.2.2) := by
  have tg : ∀ i j, tog 17 v i j ↔ 1 < v := by
    intro i j
    unfold tog
    constructor
    · rintro (h | h | h | h)
      · exact absurd h (by decide)
      · exact absurd h (by decide)
      · exact h.2
      · exact absurd h.1 (by decide)
    · intro h; exact Or.inr (Or.inr (Or.inl ⟨rfl, h⟩))
  rw [mxb_all]
  unfold tyMx
  constructor
  · rintro (⟨x, hx, h⟩ | ⟨i, j, h1, h2, h3, h4⟩)
    · rcases List.mem_append.mp hx with e | e
      · exact Or.inl (Or.inl ⟨x, e, h⟩)
      · rw [List.mem_singleton.mp e] at h; exact Or.inr (Or.inl h)
    · rw [List.length_append] at h2
      have h2 : j < l.length + 1 := h2
      by_cases e : j = l.length
      · subst e
        refine Or.inr (Or.inr ⟨(tg _ _).mp h3, i, h1, ?_⟩)
        have h5 := mxd_b.mp h4
        rw [getD_app1 h1, getD_pre] at h5
        exact h5
      · refine Or.inl (Or.inr ⟨i, j, h1, by omega, h3, ?_⟩)
        rw [getD_app1 (by omega), getD_app1 (by omega)] at h4
        exact h4
  · rintro ((⟨x, hx, h⟩ | ⟨i, j, h1, h2, h3, h4⟩) | h | ⟨h1, i, h2, h3⟩)
    · exact Or.inl ⟨x, List.mem_append_left _ hx, h⟩
    · refine Or.inr ⟨i, j, h1, by rw [List.length_append]; show j < l.length + 1; omega, h3, ?_⟩
      rw [getD_app1 (by omega), getD_app1 (by omega)]
      exact h4
    · exact Or.inl ⟨t, by simp, h⟩
    · refine Or.inr ⟨i, l.length, h2, by rw [List.length_append]; show l.length < l.length + 1; omega, (tg _ _).mpr h1, mxd_b.mpr ?_⟩
      rw [getD_app1 h2, getD_pre]
      exact h3
theorem xTy.jd {S S' : zS} {n x : Nat} {t : t3} (h : xTy S x t) (k : xJd S n S') (hx : x ≠ n) : xTy S' x t := by
  have q : ∀ f, gI S' f x = gI S f x := fun f => k.2 f x (Or.inl hx)
  obtain ⟨h1, ⟨g0, g1, g2, g3, g4, g5, g6, g7, g8, g9⟩, h3⟩ := h
  exact ⟨(q _).trans h1, ⟨(q _).trans g0, (q _).trans g1, (q _).trans g2, (q _).trans g3, (q _).trans g4, (q _).trans g5, (q _).trans g6, (q _).trans g7, (q _).trans g8, (q _).trans g9⟩, (q _).trans h3⟩
/-- the parts of a row, with their types -/
def xChT (S : zS) (n : Nat) : List Nat → List t3 → Prop
  | [], [] => True
  | j :: js, t :: ts => ((j < gN S ∧ j ≠ n) ∧ zNc (ztyp S j) = true ∧ xTy S j t ∧ tB4 t.1) ∧ xChT S n js ts
  | _, _ => False
theorem xChT.len {S : zS} {n : Nat} : ∀ {js : List Nat} {ts : List t3}, xChT S n js ts → js.length = ts.length := by
  intro js
  induction js with
  | nil => intro ts h; cases ts with | nil => rfl | cons => exact h.elim
  | cons j js ih =>
    intro ts h
    cases ts with
    | nil => exact h.elim
    | cons t ts => rw [List.length_cons, List.length_cons, ih h.2]
section X8
variable {d : Nat} {post : Outcome × zS → Prop}
theorem tOk_app {l : List t3} {t : t3} (h : tOk l) (h1 : t.1 = Int32.ofNat (znt (l.length = 0) 0 3)) (h2 : (t.2.1 &&& (24 : Int32)) = 24) : tOk (l ++ [t]) := by
  intro i hi
  rw [List.length_append] at hi
  have hi : i < l.length + 1 := hi
  by_cases e : i = l.length
  · subst e; rw [getD_pre]; exact ⟨h1, h2⟩
  · rw [getD_app1 (by omega)]; exact h i (by omega)
theorem x_loopH (hd : 2 ≤ d) {n R v rl pl : Nat} {S0 : zS} {js : List Nat} {ts : List t3} (hn0 : 1639 ≤ n) (hn : n < gN S0) (htn : ztyp S0 n = 18) (hN2 : gN S0 < 1900000) (hmany : gI S0 180 n = Int32.ofNat js.length) (hneed : gI S0 179 n = Int32.ofNat v) (hv0 : 1 ≤ v) (hv : v < 2147483648) (hm : js.length ≤ 12) (hrow : gP S0 181 n = some R) (htr : ztyp S0 R = 113) (hlr : zlen S0 R = rl) (hrl : js.length ≤ rl) (hrl2 : rl ≤ 100) (hq : ∀ i, i < js.length → gQ S0 R i = some (js.getD i 0)) (hpl : gI S0 144 n = Int32.ofNat pl) (hzo : ∀ t ∈ ts, ¬ (bt 0 t.2.1 ∧ bt 1 t.2.1))
    (h1 : ∀ t S', zFin true S' → tyN 17 v ts = some t → xJd S0 n S' → xTy S' n t → post (.returned none, S'))
    (h2 : tyN 17 v ts = none → ∀ S' q, zFin true S' → xFn S0 n S' → xFl S' q 3 pl → gN S0 + 1 = gN S' ∧ gZ S' ≤ gZ S0 + 3 → post (.threw q, S')) :
    ∀ (suf pre : List t3) (sj pj : List Nat) (S : zS), pre ++ suf = ts → pj ++ sj = js → pj.length = pre.length → zFin true S → xJd S0 n S → gI S 156 n = zbo (tyMx 17 v pre) → gI S 146 n = lkAll pre → tOk pre → xChT S0 n sj suf →
      zEv d 348 18 [.ref n, .int (zbo (aB 0 pre)), .int (zbo (aB 7 pre)), .int (zbo (aB 8 pre)), .int (Int32.ofNat (cOn pre)), .int (Int32.ofNat (cOt pre)), .int (Int32.ofNat (cUn pre)), .int (Int32.ofNat pre.length), .retAddr 0] [] S post := by
  intro suf
  induction suf with
  | nil =>
    intro pre sj pj S e1 e2 e3 hF hJ hmx htm hok hch
    rw [List.append_nil] at e1
    subst e1
    have hsj : sj = [] := by cases sj with | nil => rfl | cons => exact hch.elim
    rw [hsj, List.append_nil] at e2
    subst e2
    have e2' : S.2 = S0.2 := hJ.1
    have tS : ∀ a, ztyp S a = ztyp S0 a := fun a => by unfold ztyp gT; rw [e2']
    have lS : ∀ a, zlen S a = zlen S0 a := fun a => by unfold zlen gT; rw [e2']
    have q2 : ∀ f a, f ∉ nFl → gI S f a = gI S0 f a := fun f a hf => hJ.2 f a (Or.inr hf)
    refine hje (S := S) hF (by omega) n R pj.length v pre.length (cOn pre) (cOt pre) (cUn pre) rl (aB 0 pre) (aB 7 pre) (aB 8 pre) (tyMx 17 v pre) (lkAll pre) hn0 (by show n < S.2.2.2.2.2.2.1; rw [e2']; exact hn) ((tS n).trans htn) (by show S.2.2.2.2.2.2.1 < _; rw [e2']; exact hN2) ((q2 _ _ (by decide)).trans hmany) ((q2 _ _ (by decide)).trans hneed) hv0 hv hm (by omega) (cOn_le pre) (cOt_le pre) (cUn_le pre) (by show S.2.1 _ _ = _; rw [e2']; exact hrow) ((tS R).trans htr) ((lS R).trans hlr) hrl hrl2 hmx htm e3.symm ?_
    obtain ⟨c1, c2, c3, c4⟩ := cnt_all hzo
    obtain ⟨b0, b1, b2, b3, b4, b5, b6, b7, b8, b9⟩ := @tyTf_all (cZ pre) (cO pre) (cW pre) pre.length v (fAll pre)
    have hB : tyB 17 v pre = some (0, tyTf (cZ pre) (cO pre) (cW pre) pre.length v (fAll pre)) := (rfl : tyB 17 v pre = tyT v pre).trans (zop_pos hok)
    refine h1 _ _ hF (tyN_some hB) (hJ.tr (xJd_s (xJd_s (xJd_s (xJd_s (xJd_s (xJd_s (xJd_s (xJd_s (xJd_s (xJd_s xJd.rf (by decide)) (by decide)) (by decide)) (by decide)) (by decide)) (by decide)) (by decide)) (by decide)) (by decide)) (by decide))) (xTy_mk (b := 0) (f := tyTf (cZ pre) (cO pre) (cW pre) pre.length v (fAll pre)) (MX := tyMx 17 v pre) (((gI_sI_nf (by decide)).trans ((gI_sI_nf (by decide)).trans ((gI_sI_nf (by decide)).trans ((gI_sI_nf (by decide)).trans ((gI_sI_nf (by decide)).trans ((gI_sI_nf (by decide)).trans ((gI_sI_nf (by decide)).trans ((gI_sI_nf (by decide)).trans ((gI_sI_nf (by decide)).trans (gI_sI_at)))))))))).trans (show (1 : Int32) = 0 + 1 from by decide))
      ((gI_sI_nf (by decide)).trans ((gI_sI_nf (by decide)).trans ((gI_sI_nf (by decide)).trans ((gI_sI_nf (by decide)).trans ((gI_sI_nf (by decide)).trans ((gI_sI_nf (by decide)).trans ((gI_sI_nf (by decide)).trans ((gI_sI_nf (by decide)).trans (gI_sI_at)))))))))
      ((gI_sI_nf (by decide)).trans ((gI_sI_nf (by decide)).trans ((gI_sI_nf (by decide)).trans ((gI_sI_nf (by decide)).trans ((gI_sI_nf (by decide)).trans ((gI_sI_nf (by decide)).trans ((gI_sI_nf (by decide)).trans (gI_sI_at))))))))
      (((gI_sI_nf (by decide)).trans ((gI_sI_nf (by decide)).trans ((gI_sI_nf (by decide)).trans ((gI_sI_nf (by decide)).trans ((gI_sI_nf (by decide)).trans ((gI_sI_nf (by decide)).trans (gI_sI_at))))))).trans (zbo_neg id).symm)
      (((gI_sI_nf (by decide)).trans ((gI_sI_nf (by decide)).trans ((gI_sI_nf (by decide)).trans ((gI_sI_nf (by decide)).trans ((gI_sI_nf (by decide)).trans (gI_sI_at)))))).trans (zbo_pos trivial).symm)
      (((gI_sI_nf (by decide)).trans ((gI_sI_nf (by decide)).trans ((gI_sI_nf (by decide)).trans ((gI_sI_nf (by decide)).trans (gI_sI_at))))).trans (zbo_pos trivial).symm)
      ((gI_sI_nf (by decide)).trans ((gI_sI_nf (by decide)).trans ((gI_sI_nf (by decide)).trans (gI_sI_at))))
      (((gI_sI_nf (by decide)).trans ((gI_sI_nf (by decide)).trans (gI_sI_at))).trans (zbo_neg id).symm)
      ((gI_sI_nf (by decide)).trans (gI_sI_at))
      (gI_sI_at)
      ((gI_sI_nf (by decide)).trans ((gI_sI_nf (by decide)).trans ((gI_sI_nf (by decide)).trans ((gI_sI_nf (by decide)).trans ((gI_sI_nf (by decide)).trans ((gI_sI_nf (by decide)).trans ((gI_sI_nf (by decide)).trans ((gI_sI_nf (by decide)).trans ((gI_sI_nf (by decide)).trans ((gI_sI_nf (by decide)).trans (hmx)))))))))))
      ((gI_sI_nf (by decide)).trans ((gI_sI_nf (by decide)).trans ((gI_sI_nf (by decide)).trans ((gI_sI_nf (by decide)).trans ((gI_sI_nf (by decide)).trans ((gI_sI_nf (by decide)).trans ((gI_sI_nf (by decide)).trans ((gI_sI_nf (by decide)).trans ((gI_sI_nf (by decide)).trans ((gI_sI_nf (by decide)).trans (htm))))))))))) ?_ ?_ ?_ ?_ ?_ ?_ ?_ ?_ ?_ b9 Iff.rfl ?_)
    · rw [b0, c4]; omega
    · rw [b1, c2]
      constructor
      · rintro ⟨x, y⟩; exact ⟨by omega, y⟩
      · rintro ⟨x, y⟩
        refine ⟨?_, y⟩
        have := cOn_cOt pre
        omega
    · exact ⟨fun x => x.elim, fun x => absurd x b2⟩
    · exact ⟨fun _ => b3, fun _ => trivial⟩
    · exact ⟨fun _ => b4, fun _ => trivial⟩
    · rw [b5, c3]
    · exact ⟨fun x => x.elim, fun x => absurd x b6⟩
    · rw [b7, c3]
    · rw [b8, is_384, fAll_bt (by unfold bt; decide), fAll_bt (by unfold bt; decide), c3]
      constructor
      · rintro ⟨x, y, z⟩; exact ⟨⟨y, x⟩, z⟩
      · rintro ⟨⟨x, y⟩, z⟩; exact ⟨y, x, z⟩
    · show _ = (0 : Int32) ||| lkAll pre
      rw [Int32.zero_or]
  | cons t suf ih =>
    intro pre sj pj S e1 e2 e3 hF hJ hmx htm hok hch
    obtain ⟨p, a, tx⟩ := t
    obtain ⟨x, sj', rfl⟩ : ∃ x sj', sj = x :: sj' := by
      cases sj with
      | nil => exact hch.elim
      | cons x sj' => exact ⟨x, sj', rfl⟩
    obtain ⟨⟨⟨hx, hxn⟩, hcx, hX, h4⟩, hch'⟩ := hch
    have hlt : pre.length < js.length := by rw [← e2, ← e3]; simp
    have e2' : S.2 = S0.2 := hJ.1
    have eN : gN S = gN S0 := by show S.2.2.2.2.2.2.1 = _; rw [e2']; rfl
    have eZ : gZ S = gZ S0 := by show S.2.2.2.2.2.2.2 = _; rw [e2']; rfl
    have tS : ∀ a, ztyp S a = ztyp S0 a := fun a => by unfold ztyp gT; rw [e2']
    have lS : ∀ a, zlen S a = zlen S0 a := fun a => by unfold zlen gT; rw [e2']
    have q2 : ∀ f a, f ∉ nFl → gI S f a = gI S0 f a := fun f a hf => hJ.2 f a (Or.inr hf)
    have gn : n < gN S := by rw [eN]; exact hn
    have gN2 : gN S < 1900000 := by rw [eN]; exact hN2
    have gP1 : gP S 181 n = some R := by show S.2.1 _ _ = _; rw [e2']; exact hrow
    have gQ1 : gQ S R pre.length = some x := by
      show S.2.2.2.2.1 _ _ = _
      rw [e2']
      have h0 := hq pre.length hlt
      have h9 : js.getD pre.length 0 = x := by rw [← e2, ← e3]; exact getD_at _ _ _ _
      rw [h9] at h0
      exact h0
    have hX' := hX.jd hJ hxn
    have step : ∀ (T : zS), (p = Int32.ofNat (znt (pre.length = 0) 0 3) ∧ (a &&& (24 : Int32)) = 24) → zFin true T → xJd S n T → gI T 146 n = lkAll pre ||| tx → gI T 156 n = zbo (tyMx 17 v (pre ++ [(p, a, tx)])) →
        zEv d 348 18 [.ref n, .int (zbo (aB 0 pre ∧ bt 0 a)), .int (zbo (aB 7 pre ∧ bt 7 a)), .int (zbo (aB 8 pre ∧ bt 8 a)), .int (Int32.ofNat (znt (bt 0 a) (cOn pre) (cOn pre + zbn (bt 1 a)))), .int (Int32.ofNat (cOt pre + zbn (¬ bt 0 a))), .int (Int32.ofNat (cUn pre + zbn (¬ bt 5 a))), .int (Int32.ofNat (pre.length + 1)), .retAddr 0] [] T post := by
      intro T hc hT hJT ht hm9
      have f0 : (aB 0 pre ∧ bt 0 a) = aB 0 (pre ++ [(p, a, tx)]) := (propext aB_app).symm
      have f7 : (aB 7 pre ∧ bt 7 a) = aB 7 (pre ++ [(p, a, tx)]) := (propext aB_app).symm
      have f8 : (aB 8 pre ∧ bt 8 a) = aB 8 (pre ++ [(p, a, tx)]) := (propext aB_app).symm
      have g1 : znt (bt 0 a) (cOn pre) (cOn pre + zbn (bt 1 a)) = cOn (pre ++ [(p, a, tx)]) := cOn_app.symm
      have g2 : cOt pre + zbn (¬ bt 0 a) = cOt (pre ++ [(p, a, tx)]) := cOt_app.symm
      have g3 : cUn pre + zbn (¬ bt 5 a) = cUn (pre ++ [(p, a, tx)]) := cUn_app.symm
      have g4 : pre.length + 1 = (pre ++ [(p, a, tx)]).length := by simp
      rw [f0, f7, f8, g1, g2, g3, g4]
      refine ih (pre ++ [(p, a, tx)]) sj' (pj ++ [x]) T (by rw [← e1]; simp) (by rw [← e2]; simp) (by simp [e3]) hT (hJ.tr hJT) hm9 (ht.trans ?_) (tOk_app hok hc.1 hc.2) hch'
      rw [lkAll_app]
    have fail : ¬ (p = Int32.ofNat (znt (pre.length = 0) 0 3) ∧ (a &&& (24 : Int32)) = 24) → post (.threw (gN S), sI (sI (sT (sNew S 8 0 (zslots 8)) (gN S) 8 1) 136 (gN S) 3) 137 (gN S) (gI S 144 n)) := by
      intro hc
      obtain ⟨g0, g1, g2, g3, g4⟩ := xF_new hF (by omega) gN2 3 3 pl rfl ((q2 _ _ (by decide)).trans hpl)
      refine h2 ?_ _ _ g0 ?_ g2 ⟨by rw [← eN]; exact g3, by rw [← eZ]; exact g4⟩
      · refine tyN_none ((rfl : tyB 17 v ts = tyT v ts).trans (zop_neg (fun hk => hc ?_)))
        have h0 := hk pre.length (by rw [← e1]; simp)
        rw [← e1, getD_pre] at h0
        exact h0
      · refine zKE.tr (S' := S) ?_ (by have := g1.n (n := n); unfold xFn at this; rw [eN] at this; exact this)
        refine ⟨⟨Nat.le_of_eq eN.symm, Nat.le_of_eq eZ.symm⟩, fun c _ => ⟨?_, fun hA => ⟨fun f _ => ⟨hJ.2 f c (Or.inl (fun e => hA (by rw [e]; simp))), ?_⟩, ?_, ?_, ?_⟩⟩⟩
        · show S.2.2.2.2.2.1 c = S0.2.2.2.2.2.1 c; rw [e2']
        · show S.2.1 f c = S0.2.1 f c; rw [e2']
        · show S.2.2.1 c = S0.2.2.1 c; rw [e2']
        · show S.2.2.2.1 c = S0.2.2.2.1 c; rw [e2']
        · show S.2.2.2.2.1 c = S0.2.2.2.2.1 c; rw [e2']
    have h34 : (bt 3 a ∧ bt 4 a) ↔ (a &&& (24 : Int32)) = 24 := is_24.symm
    by_cases hk0 : pre.length = 0
    · have cv : (((p + 1) = 1) ∧ (bt 3 a) ∧ (bt 4 a)) ↔ (p = Int32.ofNat (znt (pre.length = 0) 0 3) ∧ (a &&& (24 : Int32)) = 24) := by
        rw [znt_pos hk0, ← h34]
        rcases h4 with rfl | rfl | rfl | rfl <;> simp
      refine hj0 (S := S) hF (by omega) n R x js.length v pre.length (cOn pre) (cOt pre) (cUn pre) rl (aB 0 pre) (aB 7 pre) (aB 8 pre) (tyMx 17 v pre) (lkAll pre) p a tx hn0 gn ((tS n).trans htn) gN2 ((q2 _ _ (by decide)).trans hmany) ((q2 _ _ (by decide)).trans hneed) hv0 hv hm (by omega) (cOn_le pre) (cOt_le pre) (cUn_le pre) gP1 ((tS R).trans htr) ((lS R).trans hlr) hrl hrl2 hmx htm (by rw [eN]; exact hx) hxn ((congrArg zNc (tS x)).trans hcx) gQ1 hX'.1 hX'.2.1.1 hX'.2.1.2.1 hX'.2.1.2.2.1 hX'.2.1.2.2.2.1 hX'.2.1.2.2.2.2.1 hX'.2.1.2.2.2.2.2.1 hX'.2.1.2.2.2.2.2.2.1 hX'.2.1.2.2.2.2.2.2.2.1 hX'.2.1.2.2.2.2.2.2.2.2.1 hX'.2.1.2.2.2.2.2.2.2.2.2 hX'.2.2 hlt hk0 (fun c0 c1 => ?_) (fun c0 c1 => ?_) (fun c0 => ?_)
      · refine step _ (cv.mp c0) hF (xJd_s (xJd_s xJd.rf (by decide)) (by decide)) (gI_sI_at) ?_
        refine ((gI_sI_nf (by decide)).trans gI_sI_at).trans (zbo_congr ?_)
        rw [tyMx_app]
        constructor
        · rintro (x | x)
          · exact Or.inl x
          · exact Or.inr (Or.inl x)
        · rintro (x | x | ⟨x, _⟩)
          · exact Or.inl x
          · exact Or.inr x
          · omega
      · refine step _ (cv.mp c0) hF (xJd_s (xJd_s (xJd_s xJd.rf (by decide)) (by decide)) (by decide)) (gI_sI_at) ?_
        refine ((gI_sI_nf (by decide)).trans gI_sI_at).trans (zbo_congr ?_)
        rw [tyMx_app]
        simp only [nz_1, nz_2, nz_4, nz_8, Classical.not_not]
        have hv1 : 1 < v := by omega
        unfold mxb
        constructor
        · rintro ((x | x) | x)
          · exact Or.inl x
          · exact Or.inr (Or.inr ⟨hv1, by grind⟩)
          · exact Or.inr (Or.inl x)
        · rintro (x | x | ⟨_, x⟩)
          · exact Or.inl (Or.inl x)
          · exact Or.inr x
          · exact Or.inl (Or.inr (by grind))
      · exact fail (fun x => c0 (cv.mpr x))
    · have cv : (((p + 1) = 4) ∧ (bt 3 a) ∧ (bt 4 a)) ↔ (p = Int32.ofNat (znt (pre.length = 0) 0 3) ∧ (a &&& (24 : Int32)) = 24) := by
        rw [znt_neg hk0, ← h34]
        rcases h4 with rfl | rfl | rfl | rfl <;> simp
      refine hj1 (S := S) hF (by omega) n R x js.length v pre.length (cOn pre) (cOt pre) (cUn pre) rl (aB 0 pre) (aB 7 pre) (aB 8 pre) (tyMx 17 v pre) (lkAll pre) p a tx hn0 gn ((tS n).trans htn) gN2 ((q2 _ _ (by decide)).trans hmany) ((q2 _ _ (by decide)).trans hneed) hv0 hv hm (by omega) (cOn_le pre) (cOt_le pre) (cUn_le pre) gP1 ((tS R).trans htr) ((lS R).trans hlr) hrl hrl2 hmx htm (by rw [eN]; exact hx) hxn ((congrArg zNc (tS x)).trans hcx) gQ1 hX'.1 hX'.2.1.1 hX'.2.1.2.1 hX'.2.1.2.2.1 hX'.2.1.2.2.2.1 hX'.2.1.2.2.2.2.1 hX'.2.1.2.2.2.2.2.1 hX'.2.1.2.2.2.2.2.2.1 hX'.2.1.2.2.2.2.2.2.2.1 hX'.2.1.2.2.2.2.2.2.2.2.1 hX'.2.1.2.2.2.2.2.2.2.2.2 hX'.2.2 hlt (by omega) (fun c0 c1 => ?_) (fun c0 c1 => ?_) (fun c0 => ?_)
      · refine step _ (cv.mp c0) hF (xJd_s (xJd_s xJd.rf (by decide)) (by decide)) (gI_sI_at) ?_
        refine ((gI_sI_nf (by decide)).trans gI_sI_at).trans (zbo_congr ?_)
        rw [tyMx_app]
        constructor
        · rintro (x | x)
          · exact Or.inl x
          · exact Or.inr (Or.inl x)
        · rintro (x | x | ⟨x, _⟩)
          · exact Or.inl x
          · exact Or.inr x
          · omega
      · refine step _ (cv.mp c0) hF (xJd_s (xJd_s (xJd_s xJd.rf (by decide)) (by decide)) (by decide)) (gI_sI_at) ?_
        refine ((gI_sI_nf (by decide)).trans gI_sI_at).trans (zbo_congr ?_)
        rw [tyMx_app]
        simp only [nz_1, nz_2, nz_4, nz_8, Classical.not_not]
        have hv1 : 1 < v := by omega
        unfold mxb
        constructor
        · rintro ((x | x) | x)
          · exact Or.inl x
          · exact Or.inr (Or.inr ⟨hv1, by grind⟩)
          · exact Or.inr (Or.inl x)
        · rintro (x | x | ⟨_, x⟩)
          · exact Or.inl (Or.inl x)
          · exact Or.inr x
          · exact Or.inl (Or.inr (by grind))
      · exact fail (fun x => c0 (cv.mpr x))
/-- the house judges a thresh -/
theorem xj_H {S : zS} (hF : zFin true S) (hd : 2 ≤ d) {n R v rl pl : Nat} {js : List Nat} {ts : List t3} (hn0 : 1639 ≤ n) (hn : n < gN S) (htn : ztyp S n = 18) (hN2 : gN S < 1900000) (hmany : gI S 180 n = Int32.ofNat js.length) (hneed : gI S 179 n = Int32.ofNat v) (hv0 : 1 ≤ v) (hv : v < 2147483648) (hm : js.length ≤ 12) (hrow : gP S 181 n = some R) (htr : ztyp S R = 113) (hlr : zlen S R = rl) (hrl : js.length ≤ rl) (hrl2 : rl ≤ 100) (hq : ∀ i, i < js.length → gQ S R i = some (js.getD i 0)) (hpl : gI S 144 n = Int32.ofNat pl) (hzo : ∀ t ∈ ts, ¬ (bt 0 t.2.1 ∧ bt 1 t.2.1)) (hm0 : gI S 156 n = 0) (ht0 : gI S 146 n = 0) (hch : xChT S n js ts)
    (h1 : ∀ t S', zFin true S' → tyN 17 v ts = some t → xJd S n S' → xTy S' n t → post (.returned none, S'))
    (h2 : tyN 17 v ts = none → ∀ S' q, zFin true S' → xFn S n S' → xFl S' q 3 pl → gN S + 1 = gN S' ∧ gZ S' ≤ gZ S + 3 → post (.threw q, S')) : zCall d 348 [.ref n] S post := by
  refine hjb hF n hn0 hn htn ?_
  have a0 : ∀ i, (1 : Int32) = zbo (aB i []) := fun i => (zbo_pos (fun t ht => by cases ht)).symm
  have := x_loopH (d := d) (post := post) (S0 := S) hd hn0 hn htn hN2 hmany hneed hv0 hv hm hrow htr hlr hrl hrl2 hq hpl hzo h1 h2 ts [] js [] S rfl rfl rfl hF xJd.rf (hm0.trans (zbo_neg tyMx_0).symm) ht0 (fun i hi => absurd hi (Nat.not_lt_zero _)) hch
  rw [← a0 0, ← a0 7, ← a0 8] at this
  exact this
end X8

