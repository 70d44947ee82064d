set_option maxRecDepth 100000
/-! ===== the house judges ===== -/
/-- the classes of fragments -/
def zNc (c : Nat) : Bool := c == 11 || (Nat.ble 13 c && Nat.ble c 20)
theorem zNc_lt {c : Nat} (h : zNc c = true) : c < 21 := by
  unfold zNc at h
  simp only [Bool.or_eq_true, beq_iff_eq, Bool.and_eq_true, Nat.ble_eq] at h
  omega
theorem zv_tgA {p n v a0 w : _} {ix t a : Nat} {p1 p2 : Nat × Nat} {l : List (Nat × Nat)} {r : List Value} {S : zS} (h : zNc (ztyp S a) = true) (hc : ∀ c, c < 21 → zNc c = true → zvt (p1 :: p2 :: l) c = some t) : ztgt (p, Instr.invokevirtual ix, n, v, a0, w, p1 :: p2 :: l) (.ref a :: r) S = some t := by
  show zvt (p1 :: p2 :: l) (ztyp S a) = some t
  exact hc _ (zNc_lt h) h
theorem zhas_nc {c F : Nat} (h : zNc c = true) (k : ∀ c, c < 21 → zNc c = true → zhas c F = true) : zhas c F = true := k c (zNc_lt h) h
theorem bt_zbo {i : Nat} {P : Prop} : bt i (zbo P) ↔ (P ∧ i = 0) := by
  by_cases h : P
  · rw [zbo_pos h]
    constructor
    · intro q
      refine ⟨h, Classical.byContradiction fun hi => ?_⟩
      unfold bt at q
      have : (1 : Int32).toBitVec.getLsbD i = false := by
        show (1#32).getLsbD i = false
        rw [BitVec.getLsbD_one]
        simp [hi]
      rw [this] at q
      cases q
    · rintro ⟨_, rfl⟩
      unfold bt
      decide
  · rw [zbo_neg h]
    refine ⟨fun q => ?_, fun q => absurd q.1 h⟩
    unfold bt at q
    have : (0 : Int32).toBitVec.getLsbD i = false := by
      show (0#32).getLsbD i = false
      simp
    rw [this] at q
    cases q
theorem and_one {x m : Int32} {i : Nat} (hm : ∀ j, j < 32 → m.toBitVec.getLsbD j = decide (j = i)) : x &&& m = zit (bt i x) m 0 := by
  by_cases h : bt i x
  · rw [zit_pos h]
    apply Int32.toBitVec_inj.mp
    apply BitVec.eq_of_getLsbD_eq
    intro j hj
    rw [Int32.toBitVec_and, BitVec.getLsbD_and, hm j hj]
    by_cases e : j = i
    · subst e
      unfold bt at h
      rw [h]
      rfl
    · simp [e]
  · rw [zit_neg h]
    apply Int32.toBitVec_inj.mp
    apply BitVec.eq_of_getLsbD_eq
    intro j hj
    rw [Int32.toBitVec_and, BitVec.getLsbD_and, hm j hj]
    have h6 : (0 : Int32).toBitVec.getLsbD j = false := by
      show (0#32).getLsbD j = false
      simp
    rw [h6]
    by_cases e : j = i
    · subst e
      unfold bt at h
      rw [Bool.eq_false_iff.mpr h]
      rfl
    · simp [e]
theorem nz_1 {x : Int32} : (x &&& (1 : Int32) = 0) ↔ ¬ bt 0 x := by
  rw [and_one (i := 0) (by decide)]
  by_cases h : bt 0 x
  · rw [zit_pos h]; exact ⟨fun e => absurd e (by decide), fun e => absurd h e⟩
  · rw [zit_neg h]; exact ⟨fun _ => h, fun _ => rfl⟩
theorem le_1 {x : Int32} : ((x &&& (1 : Int32)) ≤ 0) ↔ ¬ bt 0 x := by
  rw [and_one (i := 0) (by decide)]
  by_cases h : bt 0 x
  · rw [zit_pos h]; exact ⟨fun e => absurd e (by decide), fun e => absurd h e⟩
  · rw [zit_neg h]; exact ⟨fun _ => h, fun _ => by decide⟩
theorem lt_1 {x : Int32} : ((0 : Int32) < (x &&& (1 : Int32))) ↔ bt 0 x := by
  rw [and_one (i := 0) (by decide)]
  by_cases h : bt 0 x
  · rw [zit_pos h]; exact ⟨fun _ => h, fun _ => by decide⟩
  · rw [zit_neg h]; exact ⟨fun e => absurd e (by decide), fun e => absurd e h⟩
theorem nz_2 {x : Int32} : (x &&& (2 : Int32) = 0) ↔ ¬ bt 1 x := by
  rw [and_one (i := 1) (by decide)]
  by_cases h : bt 1 x
  · rw [zit_pos h]; exact ⟨fun e => absurd e (by decide), fun e => absurd h e⟩
  · rw [zit_neg h]; exact ⟨fun _ => h, fun _ => rfl⟩
theorem le_2 {x : Int32} : ((x &&& (2 : Int32)) ≤ 0) ↔ ¬ bt 1 x := by
  rw [and_one (i := 1) (by decide)]
  by_cases h : bt 1 x
  · rw [zit_pos h]; exact ⟨fun e => absurd e (by decide), fun e => absurd h e⟩
  · rw [zit_neg h]; exact ⟨fun _ => h, fun _ => by decide⟩
theorem lt_2 {x : Int32} : ((0 : Int32) < (x &&& (2 : Int32))) ↔ bt 1 x := by
  rw [and_one (i := 1) (by decide)]
  by_cases h : bt 1 x
  · rw [zit_pos h]; exact ⟨fun _ => h, fun _ => by decide⟩
  · rw [zit_neg h]; exact ⟨fun e => absurd e (by decide), fun e => absurd e h⟩
theorem nz_4 {x : Int32} : (x &&& (4 : Int32) = 0) ↔ ¬ bt 2 x := by
  rw [and_one (i := 2) (by decide)]
  by_cases h : bt 2 x
  · rw [zit_pos h]; exact ⟨fun e => absurd e (by decide), fun e => absurd h e⟩
  · rw [zit_neg h]; exact ⟨fun _ => h, fun _ => rfl⟩
theorem le_4 {x : Int32} : ((x &&& (4 : Int32)) ≤ 0) ↔ ¬ bt 2 x := by
  rw [and_one (i := 2) (by decide)]
  by_cases h : bt 2 x
  · rw [zit_pos h]; exact ⟨fun e => absurd e (by decide), fun e => absurd h e⟩
  · rw [zit_neg h]; exact ⟨fun _ => h, fun _ => by decide⟩
theorem lt_4 {x : Int32} : ((0 : Int32) < (x &&& (4 : Int32))) ↔ bt 2 x := by
  rw [and_one (i := 2) (by decide)]
  by_cases h : bt 2 x
  · rw [zit_pos h]; exact ⟨fun _ => h, fun _ => by decide⟩
  · rw [zit_neg h]; exact ⟨fun e => absurd e (by decide), fun e => absurd e h⟩
theorem nz_8 {x : Int32} : (x &&& (8 : Int32) = 0) ↔ ¬ bt 3 x := by
  rw [and_one (i := 3) (by decide)]
  by_cases h : bt 3 x
  · rw [zit_pos h]; exact ⟨fun e => absurd e (by decide), fun e => absurd h e⟩
  · rw [zit_neg h]; exact ⟨fun _ => h, fun _ => rfl⟩
theorem le_8 {x : Int32} : ((x &&& (8 : Int32)) ≤ 0) ↔ ¬ bt 3 x := by
  rw [and_one (i := 3) (by decide)]
  by_cases h : bt 3 x
  · rw [zit_pos h]; exact ⟨fun e => absurd e (by decide), fun e => absurd h e⟩
  · rw [zit_neg h]; exact ⟨fun _ => h, fun _ => by decide⟩
theorem lt_8 {x : Int32} : ((0 : Int32) < (x &&& (8 : Int32))) ↔ bt 3 x := by
  rw [and_one (i := 3) (by decide)]
  by_cases h : bt 3 x
  · rw [zit_pos h]; exact ⟨fun _ => h, fun _ => by decide⟩
  · rw [zit_neg h]; exact ⟨fun e => absurd e (by decide), fun e => absurd e h⟩
/-- locks that can't hold together, by their bits -/
def mxb (x y : Int32) : Prop := (bt 0 x ∧ bt 1 y) ∨ (bt 1 x ∧ bt 0 y) ∨ (bt 2 x ∧ bt 3 y) ∨ (bt 3 x ∧ bt 2 y)
theorem mxd_b {x y : Int32} : mxd x y ↔ mxb x y := by
  unfold mxd mxb
  simp only [le_1, le_2, le_4, le_8, lt_1, lt_2, lt_4, lt_8, Classical.not_not]
  grind
theorem mxb_or {x y z : Int32} : mxb (x ||| y) z ↔ mxb x z ∨ mxb y z := by
  unfold mxb
  simp only [bt_or]
  grind
theorem mxb_0 {z : Int32} : ¬ mxb 0 z := by
  unfold mxb
  simp only [bl_0_0, bl_0_1, bl_0_2, bl_0_3, false_and, or_false, not_false_eq_true]
theorem tyMx_0 {k v : Nat} : ¬ tyMx k v [] := by
  rintro (⟨t, h, _⟩ | ⟨i, j, _, h, _⟩)
  · cases h
  · exact absurd h (Nat.not_lt_zero _)
theorem tyMx_1 {k v : Nat} {s : t3} : tyMx k v [s] ↔ bt 9 s.2.1 := by
  constructor
  · rintro (⟨t, h, h2⟩ | ⟨i, j, h1, h2, _⟩)
    · rw [List.mem_singleton.mp h] at h2; exact h2
    · exfalso
      have : j < 1 := h2
      omega
  · intro h
    exact Or.inl ⟨s, List.mem_singleton_self _, h⟩
theorem tyMx_2 {k v : Nat} {s t : t3} : tyMx k v [s, t] ↔ bt 9 s.2.1 ∨ bt 9 t.2.1 ∨ (tog k v 0 1 ∧ mxb s.2.2 t.2.2) := by
  constructor
  · rintro (⟨u, h, h2⟩ | ⟨i, j, h1, h2, h3, h4⟩)
    · rcases List.mem_cons.mp h with e | e
      · rw [e] at h2; exact Or.inl h2
      · rw [List.mem_singleton.mp e] at h2; exact Or.inr (Or.inl h2)
    · have h2 : j < 2 := h2
      have e1 : i = 0 := by omega
      have e2 : j = 1 := by omega
      subst e1
      subst e2
      exact Or.inr (Or.inr ⟨h3, mxd_b.mp h4⟩)
  · rintro (h | h | ⟨h1, h2⟩)
    · exact Or.inl ⟨s, List.mem_cons_self, h⟩
    · exact Or.inl ⟨t, List.mem_cons_of_mem _ List.mem_cons_self, h⟩
    · exact Or.inr ⟨0, 1, by omega, by show 1 < 2; omega, h1, mxd_b.mpr h2⟩
theorem tyMx_3 {k v : Nat} {s t u : t3} : tyMx k v [s, t, u] ↔ bt 9 s.2.1 ∨ bt 9 t.2.1 ∨ bt 9 u.2.1 ∨ (tog k v 0 1 ∧ mxb s.2.2 t.2.2) ∨ (tog k v 0 2 ∧ mxb s.2.2 u.2.2) ∨ (tog k v 1 2 ∧ mxb t.2.2 u.2.2) := by
  constructor
  · rintro (⟨w, h, h2⟩ | ⟨i, j, h1, h2, h3, h4⟩)
    · rcases List.mem_cons.mp h with e | e
      · rw [e] at h2; exact Or.inl h2
      · rcases List.mem_cons.mp e with e | e
        · rw [e] at h2; exact Or.inr (Or.inl h2)
        · rw [List.mem_singleton.mp e] at h2; exact Or.inr (Or.inr (Or.inl h2))
    · have h2 : j < 3 := h2
      have h4 := mxd_b.mp h4
      have : (i = 0 ∧ j = 1) ∨ (i = 0 ∧ j = 2) ∨ (i = 1 ∧ j = 2) := by omega
      rcases this with ⟨rfl, rfl⟩ | ⟨rfl, rfl⟩ | ⟨rfl, rfl⟩
      · exact Or.inr (Or.inr (Or.inr (Or.inl ⟨h3, h4⟩)))
      · exact Or.inr (Or.inr (Or.inr (Or.inr (Or.inl ⟨h3, h4⟩))))
      · exact Or.inr (Or.inr (Or.inr (Or.inr (Or.inr ⟨h3, h4⟩))))
  · rintro (h | h | h | ⟨h1, h2⟩ | ⟨h1, h2⟩ | ⟨h1, h2⟩)
    · exact Or.inl ⟨s, List.mem_cons_self, h⟩
    · exact Or.inl ⟨t, List.mem_cons_of_mem _ List.mem_cons_self, h⟩
    · exact Or.inl ⟨u, List.mem_cons_of_mem _ (List.mem_cons_of_mem _ List.mem_cons_self), h⟩
    · exact Or.inr ⟨0, 1, by omega, by show 1 < 3; omega, h1, mxd_b.mpr h2⟩
    · exact Or.inr ⟨0, 2, by omega, by show 2 < 3; omega, h1, mxd_b.mpr h2⟩
    · exact Or.inr ⟨1, 2, by omega, by show 2 < 3; omega, h1, mxd_b.mpr h2⟩

