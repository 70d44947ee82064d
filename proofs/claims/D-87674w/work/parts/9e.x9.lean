set_option maxRecDepth 100000
/-! ===== types of trees are good ===== -/
/-- a base is one of four; nothing takes both no item and one -/
def tGd (t : t3) : Prop := tB4 t.1 ∧ ¬ (bt 0 t.2.1 ∧ bt 1 t.2.1)
theorem tB4_BVK {q : Int32} (h : q = 0 ∨ q = 2 ∨ q = 1) : tB4 q := by
  rcases h with h | h | h
  · exact Or.inl h
  · exact Or.inr (Or.inr (Or.inl h))
  · exact Or.inr (Or.inl h)
theorem tGd_f {b f lk : Int32} {MX : Prop} (h1 : tB4 b) (h2 : ¬ (bt 0 f ∧ bt 1 f)) : tGd (b, f ||| zit MX 512 0, lk) := by
  refine ⟨h1, ?_⟩
  have q : ∀ i, i < 2 → (bt i (f ||| zit MX 512 0) → bt i f) := by
    intro i hi h
    rw [bt_or, bt_zit] at h
    have k5 : ∀ i, i < 2 → ¬ bt i 512 := by unfold bt; decide
    have k0 : ∀ i, i < 2 → ¬ bt i 0 := by unfold bt; decide
    rcases h with h | ⟨_, h⟩ | ⟨_, h⟩
    · exact h
    · exact absurd h (k5 i hi)
    · exact absurd h (k0 i hi)
  rintro ⟨x, y⟩
  exact h2 ⟨q 0 (by omega) x, q 1 (by omega) y⟩
theorem tyB_gd {k v : Nat} {l : List t3} {q : Int32 × Int32} (hl : ∀ t ∈ l, tGd t) (h : tyB k v l = some q) : tB4 q.1 ∧ ¬ (bt 0 q.2 ∧ bt 1 q.2) := by
  unfold tyB at h
  split at h
  · rw [← Option.some.inj h]
    unfold tyL
    split <;> exact ⟨by unfold tB4; decide, by unfold bt; decide⟩
  split at h
  · split at h
    · rename_i x y z
      obtain ⟨h1, rfl⟩ := zop_some h
      have gx := hl x (by simp)
      have gy := hl y (by simp)
      have gz := hl z (by simp)
      refine ⟨tB4_BVK h1.2.2.1, ?_⟩
      rw [← ja_0, ← ja_1]
      have := gx.2
      have := gy.2
      have := gz.2
      grind
    · cases h
  split at h
  · split at h
    · rename_i x y
      have gx := hl x (by simp)
      have gy := hl y (by simp)
      have g1 := gx.2
      have g2 := gy.2
      unfold tyP at h
      split at h
      · obtain ⟨h1, rfl⟩ := zop_some h
        refine ⟨tB4_BVK h1.2, ?_⟩
        rw [← jp11_0, ← jp11_1]
        grind
      · obtain ⟨h1, rfl⟩ := zop_some h
        refine ⟨Or.inl rfl, ?_⟩
        rw [← jp12_0, ← jp12_1]
        grind
      · obtain ⟨h1, rfl⟩ := zop_some h
        refine ⟨Or.inl rfl, ?_⟩
        rw [← jp13_0, ← jp13_1]
        grind
      · obtain ⟨h1, rfl⟩ := zop_some h
        refine ⟨Or.inr (Or.inl rfl), ?_⟩
        rw [← jp14_0, ← jp14_1]
        grind
      · obtain ⟨h1, rfl⟩ := zop_some h
        refine ⟨Or.inl rfl, ?_⟩
        rw [← jp15_0, ← jp15_1]
        grind
      · obtain ⟨h1, rfl⟩ := zop_some h
        refine ⟨tB4_BVK h1.1, ?_⟩
        rw [← jp16_0, ← jp16_1]
        grind
    · cases h
  split at h
  · obtain ⟨h1, rfl⟩ := zop_some h
    refine ⟨Or.inl rfl, ?_⟩
    obtain ⟨b0, b1, -⟩ := @tyTf_all (cZ l) (cO l) (cW l) l.length v (fAll l)
    show ¬ (bt 0 (tyTf (cZ l) (cO l) (cW l) l.length v (fAll l)) ∧ bt 1 (tyTf (cZ l) (cO l) (cW l) l.length v (fAll l)))
    rw [b0, b1]
    rintro ⟨x, y, z⟩
    have hl0 : l.length = 0 := by omega
    rw [List.length_eq_zero_iff.mp hl0] at z
    cases z
  split at h
  · split at h
    · rename_i x
      have gx := hl x (by simp)
      have g1 := gx.2
      unfold tyW at h
      split at h
      · obtain ⟨h1, rfl⟩ := zop_some h
        refine ⟨Or.inr (Or.inr (Or.inr rfl)), ?_⟩
        rw [← jw19_0, ← jw19_1]
        grind
      · obtain ⟨h1, rfl⟩ := zop_some h
        refine ⟨Or.inr (Or.inr (Or.inr rfl)), ?_⟩
        rw [← jw20_0, ← jw20_1]
        grind
      · obtain ⟨h1, rfl⟩ := zop_some h
        refine ⟨Or.inl rfl, ?_⟩
        rw [← jw21_0, ← jw21_1]
        grind
      · obtain ⟨h1, rfl⟩ := zop_some h
        refine ⟨Or.inl rfl, ?_⟩
        rw [← jw22_0, ← jw22_1]
        grind
      · obtain ⟨h1, rfl⟩ := zop_some h
        refine ⟨Or.inr (Or.inl rfl), ?_⟩
        rw [← jw23_0, ← jw23_1]
        grind
      · obtain ⟨h1, rfl⟩ := zop_some h
        refine ⟨Or.inl rfl, ?_⟩
        rw [← jw24_0, ← jw24_1]
        grind
      · obtain ⟨h1, rfl⟩ := zop_some h
        refine ⟨Or.inl rfl, ?_⟩
        rw [← jw25_0, ← jw25_1]
        grind
    · cases h
  · cases h
theorem tyN_gd {k v : Nat} {l : List t3} {t : t3} (hl : ∀ t ∈ l, tGd t) (h : tyN k v l = some t) : tGd t := by
  cases hb : tyB k v l with
  | none => rw [tyN_none hb] at h; cases h
  | some q =>
    rw [tyN_some hb] at h
    rw [← Option.some.inj h]
    obtain ⟨h1, h2⟩ := tyB_gd hl hb
    exact tGd_f h1 h2
theorem allS_some {α : Type} : ∀ {l : List (Option α)} {r : List α}, allS l = some r → l = r.map some := by
  intro l
  induction l with
  | nil => intro r h; rw [← Option.some.inj h]; rfl
  | cons x l ih =>
    intro r h
    cases x with
    | none => cases h
    | some x =>
      cases hl : allS l with
      | none =>
        have h : (allS l).map (x :: ·) = some r := h
        rw [hl] at h; cases h
      | some r0 =>
        have h : (allS l).map (x :: ·) = some r := h
        rw [hl] at h
        rw [← Option.some.inj h, ih hl]
        rfl
theorem ty_gd : ∀ {x : zNd} {t : t3}, ty x = some t → tGd t := by
  intro x
  induction x using zTr_ind with
  | h x ih =>
    intro t h
    rw [ty_eq] at h
    cases hl : allS ((tCs x).map ty) with
    | none => rw [hl] at h; cases h
    | some l =>
      rw [hl] at h
      have h : tyN (tK x) (tV x) l = some t := h
      refine tyN_gd (fun u hu => ?_) h
      have e := allS_some hl
      have : some u ∈ (tCs x).map ty := by rw [e]; exact List.mem_map.mpr ⟨u, hu, rfl⟩
      obtain ⟨y, hy, e2⟩ := List.mem_map.mp this
      exact ih y hy e2
/-! ===== trees of the house ===== -/
/-- letters of wrappers -/
def wch (k : Nat) : Nat := match k with
  | 19 => 97
  | 20 => 115
  | 21 => 99
  | 22 => 100
  | 23 => 118
  | 24 => 106
  | _ => 110
/-- a node's own fields; P: which objects -/
def xOwn (P : Nat → Prop) (S : zS) (a k v : Nat) (ks js : List Nat) : Prop :=
  if k < 2 then ztyp S a = 16 ∧ gI S 173 a = Int32.ofNat k ∧ js = []
  else if k < 4 then ztyp S a = 13 ∧ gI S 164 a = Int32.ofNat v ∧ gI S 165 a = Int32.ofNat (k - 2) ∧ gP S 166 a = some 0 ∧ v < 16 ∧ js = []
  else if k < 6 then ztyp S a = 14 ∧ gI S 167 a = Int32.ofNat v ∧ gI S 168 a = Int32.ofNat (5 - k) ∧ gP S 169 a = some 0 ∧ (1 ≤ v ∧ v < 2147483648) ∧ js = []
  else if k < 10 then ztyp S a = 15 ∧ gI S 170 a = Int32.ofNat (k - 6) ∧ gI S 171 a = Int32.ofNat v ∧ gP S 172 a = some 0 ∧ v < 8 ∧ js = []
  else if k = 10 then ztyp S a = 19 ∧ ∃ x y w, js = [x, y, w] ∧ gP S 183 a = some x ∧ gP S 184 a = some y ∧ gP S 185 a = some w
  else if k < 17 then ztyp S a = 20 ∧ gI S 187 a = Int32.ofNat (k - 11) ∧ ∃ x y, js = [x, y] ∧ gP S 188 a = some x ∧ gP S 189 a = some y
  else if k = 17 then ztyp S a = 18 ∧ gI S 179 a = Int32.ofNat v ∧ gI S 180 a = Int32.ofNat js.length ∧ (1 ≤ v ∧ v ≤ js.length ∧ js.length ≤ 12) ∧ ∃ R, P R ∧ gP S 181 a = some R ∧ ztyp S R = 113 ∧ (js.length ≤ zlen S R ∧ zlen S R ≤ 100) ∧ ∀ i, i < js.length → gQ S R i = some (js.getD i 0)
  else if k = 18 then ztyp S a = 17 ∧ gI S 175 a = Int32.ofNat v ∧ gI S 176 a = Int32.ofNat ks.length ∧ (1 ≤ v ∧ v ≤ ks.length ∧ ks.length ≤ 16) ∧ gP S 178 a = some 0 ∧ (∀ x ∈ ks, x < 16) ∧ js = [] ∧ ∃ R, P R ∧ gP S 177 a = some R ∧ ztyp S R = 100 ∧ (ks.length ≤ zlen S R ∧ zlen S R ≤ 100) ∧ ∀ i, i < ks.length → gA S R i = Int32.ofNat (ks.getD i 0)
  else k < 26 ∧ ztyp S a = 11 ∧ gI S 160 a = Int32.ofNat (wch k) ∧ ∃ x, js = [x] ∧ gP S 161 a = some x
/-- what is in a node -/
def xFo (P : Nat → Prop) (S : zS) : zTr → List Nat → Prop
  | .leaf, js => js = []
  | .inner p c _ f n, js => ∃ j js' ks, js = j :: js' ∧ (P j ∧ xOwn P S j c.1 c.2.1 c.2.2 ks ∧ (∃ t, ty (p, c, f) = some t ∧ xTy S j t) ∧ xFo P S f ks) ∧ xFo P S n js'
/-- a tree at an object -/
def xT (P : Nat → Prop) (S : zS) (x : zNd) (a : Nat) : Prop := ∃ ks, P a ∧ xOwn P S a (tK x) (tV x) (tKs x) ks ∧ (∃ t, ty x = some t ∧ xTy S a t) ∧ xFo P S x.2.2 ks
/-- a row of trees -/
def xTs (P : Nat → Prop) (S : zS) : List zNd → List Nat → Prop
  | [], js => js = []
  | x :: cs, js => ∃ j js', js = j :: js' ∧ xT P S x j ∧ xTs P S cs js'
theorem xFo_ts {P : Nat → Prop} {S : zS} : ∀ {f : zTr} {js : List Nat}, xFo P S f js ↔ xTs P S (sibs f) js := by
  intro f
  induction f with
  | leaf => intro js; exact Iff.rfl
  | inner p c u f n _ ihn =>
    intro js
    constructor
    · rintro ⟨j, js', ks, h1, ⟨h2, h3, h4, h5⟩, h6⟩
      exact ⟨j, js', h1, ⟨ks, h2, h3, h4, h5⟩, ihn.mp h6⟩
    · rintro ⟨j, js', h1, ⟨ks, h2, h3, h4, h5⟩, h6⟩
      exact ⟨j, js', ks, h1, ⟨h2, h3, h4, h5⟩, ihn.mpr h6⟩
theorem xT_iff {P : Nat → Prop} {S : zS} {x : zNd} {a : Nat} : xT P S x a ↔ ∃ ks, P a ∧ xOwn P S a (tK x) (tV x) (tKs x) ks ∧ (∃ t, ty x = some t ∧ xTy S a t) ∧ xTs P S (tCs x) ks := by
  unfold xT
  constructor
  · rintro ⟨ks, h1, h2, h3, h4⟩; exact ⟨ks, h1, h2, h3, xFo_ts.mp h4⟩
  · rintro ⟨ks, h1, h2, h3, h4⟩; exact ⟨ks, h1, h2, h3, xFo_ts.mpr h4⟩
/-- what trees look at is the same in both states -/
def xEq (P : Nat → Prop) (S S' : zS) : Prop := ∀ a, P a → ztyp S' a = ztyp S a ∧ zlen S' a = zlen S a ∧ (∀ f, 144 ≤ f → f ≤ 190 → f ≠ 157 → f ≠ 158 → gI S' f a = gI S f a ∧ gP S' f a = gP S f a) ∧ gA S' a = gA S a ∧ gQ S' a = gQ S a
theorem xEq.P {P : Nat → Prop} {S S' : zS} (h : xEq P S S') {a f : Nat} (ha : P a) (hf : 144 ≤ f ∧ f ≤ 190 ∧ f ≠ 157 ∧ f ≠ 158) : gP S' f a = gP S f a := ((h a ha).2.2.1 f hf.1 hf.2.1 hf.2.2.1 hf.2.2.2).2
theorem xEq.I {P : Nat → Prop} {S S' : zS} (h : xEq P S S') {a f : Nat} (ha : P a) (hf : 144 ≤ f ∧ f ≤ 190 ∧ f ≠ 157 ∧ f ≠ 158) : gI S' f a = gI S f a := ((h a ha).2.2.1 f hf.1 hf.2.1 hf.2.2.1 hf.2.2.2).1
theorem xOwn.eq0 {P : Nat → Prop} {S S' : zS} {a k v : Nat} {ks js : List Nat} (h : xOwn P S a k v ks js) (hTa : ztyp S' a = ztyp S a) (hR : ∀ b, P b → ztyp S' b = ztyp S b ∧ zlen S' b = zlen S b ∧ gA S' b = gA S b ∧ gQ S' b = gQ S b) (hI : ∀ {f}, (159 ≤ f ∧ f ≤ 190) → gI S' f a = gI S f a) (hP : ∀ {f}, (159 ≤ f ∧ f ≤ 190) → gP S' f a = gP S f a) : xOwn P S' a k v ks js := by
  have hT : ∀ {b}, P b → ztyp S' b = ztyp S b := fun hb => (hR _ hb).1
  have hL : ∀ {b}, P b → zlen S' b = zlen S b := fun hb => (hR _ hb).2.1
  unfold xOwn at h ⊢
  split
  · rename_i c; rw [if_pos c] at h; exact ⟨hTa.trans h.1, (hI (by decide)).trans h.2.1, h.2.2⟩
  rename_i c; rw [if_neg c] at h
  split
  · rename_i c; rw [if_pos c] at h; exact ⟨hTa.trans h.1, (hI (by decide)).trans h.2.1, (hI (by decide)).trans h.2.2.1, (hP (by decide)).trans h.2.2.2.1, h.2.2.2.2⟩
  rename_i c; rw [if_neg c] at h
  split
  · rename_i c; rw [if_pos c] at h; exact ⟨hTa.trans h.1, (hI (by decide)).trans h.2.1, (hI (by decide)).trans h.2.2.1, (hP (by decide)).trans h.2.2.2.1, h.2.2.2.2⟩
  rename_i c; rw [if_neg c] at h
  split
  · rename_i c; rw [if_pos c] at h; exact ⟨hTa.trans h.1, (hI (by decide)).trans h.2.1, (hI (by decide)).trans h.2.2.1, (hP (by decide)).trans h.2.2.2.1, h.2.2.2.2⟩
  rename_i c; rw [if_neg c] at h
  split
  · rename_i c; rw [if_pos c] at h
    obtain ⟨h1, x, y, w, h2, h3, h4, h5⟩ := h
    exact ⟨hTa.trans h1, x, y, w, h2, (hP (by decide)).trans h3, (hP (by decide)).trans h4, (hP (by decide)).trans h5⟩
  rename_i c; rw [if_neg c] at h
  split
  · rename_i c; rw [if_pos c] at h
    obtain ⟨h1, h0, x, y, h2, h3, h4⟩ := h
    exact ⟨hTa.trans h1, (hI (by decide)).trans h0, x, y, h2, (hP (by decide)).trans h3, (hP (by decide)).trans h4⟩
  rename_i c; rw [if_neg c] at h
  split
  · rename_i c; rw [if_pos c] at h
    obtain ⟨h1, h2, h3, h4, R, h5, h6, h7, h8, h9⟩ := h
    exact ⟨hTa.trans h1, (hI (by decide)).trans h2, (hI (by decide)).trans h3, h4, R, h5, (hP (by decide)).trans h6, (hT h5).trans h7, by rw [hL h5]; exact h8, fun i hi => by rw [(hR R h5).2.2.2]; exact h9 i hi⟩
  rename_i c; rw [if_neg c] at h
  split
  · rename_i c; rw [if_pos c] at h
    obtain ⟨h1, h2, h3, h4, h10, h11, h12, R, h5, h6, h7, h8, h9⟩ := h
    exact ⟨hTa.trans h1, (hI (by decide)).trans h2, (hI (by decide)).trans h3, h4, (hP (by decide)).trans h10, h11, h12, R, h5, (hP (by decide)).trans h6, (hT h5).trans h7, by rw [hL h5]; exact h8, fun i hi => by rw [(hR R h5).2.2.1]; exact h9 i hi⟩
  rename_i c; rw [if_neg c] at h
  obtain ⟨h0, h1, h2, x, h3, h4⟩ := h
  exact ⟨h0, hTa.trans h1, (hI (by decide)).trans h2, x, h3, (hP (by decide)).trans h4⟩
theorem xOwn.eq {P : Nat → Prop} {S S' : zS} {a k v : Nat} {ks js : List Nat} (h : xOwn P S a k v ks js) (e : xEq P S S') (ha : P a) : xOwn P S' a k v ks js :=
  h.eq0 (e a ha).1 (fun b hb => ⟨(e b hb).1, (e b hb).2.1, (e b hb).2.2.2.1, (e b hb).2.2.2.2⟩) (fun hf => e.I ha ⟨by omega, hf.2, by omega, by omega⟩) (fun hf => e.P ha ⟨by omega, hf.2, by omega, by omega⟩)
theorem xOwn.jd {P : Nat → Prop} {S S' : zS} {a k v : Nat} {ks js : List Nat} (h : xOwn P S a k v ks js) (q : xJd S a S') : xOwn P S' a k v ks js := by
  have e := q.1
  refine h.eq0 (by unfold ztyp gT; rw [e]) (fun b _ => ⟨by unfold ztyp gT; rw [e], by unfold zlen gT; rw [e], ?_, ?_⟩) (fun {f} hf => q.2 f a (Or.inr ?_)) (fun {f} hf => ?_)
  · show S'.2.2.1 b = S.2.2.1 b; rw [e]
  · show S'.2.2.2.2.1 b = S.2.2.2.2.1 b; rw [e]
  · simp only [nFl, List.mem_cons, List.not_mem_nil, or_false]; omega
  · show S'.2.1 f a = S.2.1 f a; rw [e]
theorem xOwn.mono {P Q : Nat → Prop} {S : zS} {a k v : Nat} {ks js : List Nat} (h : xOwn P S a k v ks js) (q : ∀ j, P j → Q j) : xOwn Q S a k v ks js := by
  unfold xOwn at h ⊢
  split
  · rename_i c; rw [if_pos c] at h; exact h
  rename_i c; rw [if_neg c] at h
  split
  · rename_i c; rw [if_pos c] at h; exact h
  rename_i c; rw [if_neg c] at h
  split
  · rename_i c; rw [if_pos c] at h; exact h
  rename_i c; rw [if_neg c] at h
  split
  · rename_i c; rw [if_pos c] at h; exact h
  rename_i c; rw [if_neg c] at h
  split
  · rename_i c; rw [if_pos c] at h; exact h
  rename_i c; rw [if_neg c] at h
  split
  · rename_i c; rw [if_pos c] at h; exact h
  rename_i c; rw [if_neg c] at h
  split
  · rename_i c; rw [if_pos c] at h
    obtain ⟨h1, h2, h3, h4, R, h5, h6⟩ := h
    exact ⟨h1, h2, h3, h4, R, q _ h5, h6⟩
  rename_i c; rw [if_neg c] at h
  split
  · rename_i c; rw [if_pos c] at h
    obtain ⟨h1, h2, h3, h4, h10, h11, h12, R, h5, h6⟩ := h
    exact ⟨h1, h2, h3, h4, h10, h11, h12, R, q _ h5, h6⟩
  rename_i c; rw [if_neg c] at h
  exact h
theorem xTy.eq {P : Nat → Prop} {S S' : zS} {a : Nat} {t : t3} (h : xTy S a t) (e : xEq P S S') (ha : P a) : xTy S' a t := by
  have q : ∀ f, (144 ≤ f ∧ f ≤ 190 ∧ f ≠ 157 ∧ f ≠ 158) → gI S' f a = gI S f a := fun f hf => e.I ha hf
  obtain ⟨h1, ⟨g0, g1, g2, g3, g4, g5, g6, g7, g8, g9⟩, h3⟩ := h
  exact ⟨(q _ (by decide)).trans h1, ⟨(q _ (by decide)).trans g0, (q _ (by decide)).trans g1, (q _ (by decide)).trans g2, (q _ (by decide)).trans g3, (q _ (by decide)).trans g4, (q _ (by decide)).trans g5, (q _ (by decide)).trans g6, (q _ (by decide)).trans g7, (q _ (by decide)).trans g8, (q _ (by decide)).trans g9⟩, (q _ (by decide)).trans h3⟩
theorem xT.em {P Q : Nat → Prop} {S S' : zS} (e : xEq P S S') (q : ∀ j, P j → Q j) : ∀ {x : zNd} {a : Nat}, xT P S x a → xT Q S' x a := by
  intro x
  induction x using zTr_ind with
  | h x ih =>
    intro a h
    obtain ⟨ks, h1, h2, ⟨t, h3, h4⟩, h5⟩ := xT_iff.mp h
    refine xT_iff.mpr ⟨ks, q _ h1, (h2.eq e h1).mono q, ⟨t, h3, h4.eq e h1⟩, ?_⟩
    have key : ∀ (cs : List zNd), (∀ y ∈ cs, y ∈ tCs x) → ∀ js, xTs P S cs js → xTs Q S' cs js := by
      intro cs
      induction cs with
      | nil => intro _ js hr; exact hr
      | cons y cs ihc =>
        rintro hm js ⟨j, js', rfl, g1, g2⟩
        exact ⟨j, js', rfl, ih y (hm y List.mem_cons_self) g1, ihc (fun z hz => hm z (List.mem_cons_of_mem _ hz)) js' g2⟩
    exact key _ (fun y hy => hy) ks h5
theorem xTs.em {P Q : Nat → Prop} {S S' : zS} (e : xEq P S S') (q : ∀ j, P j → Q j) : ∀ {cs : List zNd} {js : List Nat}, xTs P S cs js → xTs Q S' cs js := by
  intro cs
  induction cs with
  | nil => intro js h; exact h
  | cons y cs ih =>
    rintro js ⟨j, js', rfl, g1, g2⟩
    exact ⟨j, js', rfl, g1.em e q, ih g2⟩
theorem xEq.rf {P : Nat → Prop} {S : zS} : xEq P S S := fun _ _ => ⟨rfl, rfl, fun _ _ _ _ _ => ⟨rfl, rfl⟩, rfl, rfl⟩
theorem xEq.ke {P : Nat → Prop} {S S' : zS} {M : Nat} {A Fs : List Nat} (k : zKE M A Fs S S') (hP : ∀ j, P j → j < M ∧ j ∉ A) (hF : ∀ f ∈ Fs, f < 144 ∨ 190 < f ∨ f = 157 ∨ f = 158) : xEq P S S' := by
  intro a ha
  obtain ⟨h1, h2⟩ := hP a ha
  refine ⟨k.T (Or.inl h1), k.Len (Or.inl h1), fun f g1 g2 g3 g4 => ?_, k.A (Or.inl h1) h2, k.Q (Or.inl h1) h2⟩
  have hf : f ∉ Fs := fun x => by have := hF f x; omega
  exact ⟨k.I (Or.inl h1) h2 hf, k.P (Or.inl h1) h2 hf⟩
theorem xEq.jd {P : Nat → Prop} {S S' : zS} {n : Nat} (k : xJd S n S') (hP : ∀ j, P j → j ≠ n) : xEq P S S' := by
  intro a ha
  have e := k.1
  refine ⟨by unfold ztyp gT; rw [e], by unfold zlen gT; rw [e], fun f _ _ _ _ => ⟨k.2 f a (Or.inl (hP a ha)), ?_⟩, ?_, ?_⟩
  · show S'.2.1 f a = S.2.1 f a; rw [e]
  · show S'.2.2.1 a = S.2.2.1 a; rw [e]
  · show S'.2.2.2.2.1 a = S.2.2.2.2.1 a; rw [e]
/-- its class is one of the fragments' -/
theorem xOwn.nc {P : Nat → Prop} {S : zS} {a k v : Nat} {ks js : List Nat} (h : xOwn P S a k v ks js) : zNc (ztyp S a) = true := by
  unfold xOwn at h
  repeat' split at h
  all_goals first | (rw [h.1]; rfl) | (rw [h.2.1]; rfl)
theorem xTs.len {P : Nat → Prop} {S : zS} : ∀ {cs : List zNd} {js : List Nat}, xTs P S cs js → cs.length = js.length := by
  intro cs
  induction cs with
  | nil => intro js h; rw [h]; rfl
  | cons y cs ih => rintro js ⟨j, js', rfl, g1, g2⟩; rw [List.length_cons, List.length_cons, ih g2]
theorem xTs.ch {P : Nat → Prop} {S : zS} {n : Nat} (hP : ∀ j, P j → j < gN S ∧ j ≠ n) : ∀ {cs : List zNd} {js : List Nat}, xTs P S cs js → ∃ ts : List t3, cs.map ty = ts.map some ∧ xChT S n js ts := by
  intro cs
  induction cs with
  | nil => intro js h; rw [h]; exact ⟨[], rfl, trivial⟩
  | cons y cs ih =>
    rintro js ⟨j, js', rfl, g1, g2⟩
    obtain ⟨ts, h1, h2⟩ := ih g2
    obtain ⟨ks, q1, q2, ⟨t, q3, q4⟩, q5⟩ := xT_iff.mp g1
    exact ⟨t :: ts, by rw [List.map_cons, List.map_cons, q3, h1], ⟨hP j q1, q2.nc, q4, (ty_gd q3).1⟩, h2⟩

