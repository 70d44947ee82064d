set_option maxRecDepth 100000
/-! ===== the twin builds a node out of others ===== -/
/-- roots and ranges of parts -/
def mDs (S : zS) (n : Nat) : List zNd → List (Nat × Nat × Nat) → Prop
  | [], [] => True
  | y :: cs, r :: rs => mT true S r.2.1 r.2.2 y r.1 ∧ (n < r.2.1 ∨ r.2.2 ≤ n) ∧ (∀ q ∈ rs, r.2.2 ≤ q.2.1 ∨ q.2.2 ≤ r.2.1) ∧ mDs S n cs rs
  | _, _ => False
/-- a node under way -/
def mOp (S : zS) (n k v p : Nat) (js : List Nat) : Prop := (gA S 1610 n = Int32.ofNat k ∧ gA S 1611 n = Int32.ofNat v ∧ gA S 1615 n = Int32.ofNat p ∧ gA S 1616 n = -1 ∧ gA S 1618 n = 0) ∧ gA S 1614 n = Int32.ofNat js.length ∧ mCh S (gA S 1612 n) js
section Q6
variable {d : Nat} {post : Outcome × zS → Prop} {tp : Nat → Nat} {sz : Nat}
theorem mDs.eq {S S' : zS} {n : Nat} : ∀ {cs : List zNd} {rs : List (Nat × Nat × Nat)}, mDs S n cs rs → (∀ r ∈ rs, mEq S S' r.2.1 r.2.2) → (∀ r ∈ rs, ∀ j, r.2.1 ≤ j → j < r.2.2 → j ≠ r.1 → gA S' 1613 j = gA S 1613 j) → mDs S' n cs rs := by
  intro cs
  induction cs with
  | nil => intro rs h _ _; cases rs with | nil => trivial | cons => exact h.elim
  | cons y cs ih =>
    intro rs h h1 h2
    cases rs with
    | nil => exact h.elim
    | cons r rs => exact ⟨h.1.eq (h1 r List.mem_cons_self) (h2 r List.mem_cons_self), h.2.1, h.2.2.1, ih h.2.2.2 (fun q hq => h1 q (List.mem_cons_of_mem _ hq)) (fun q hq => h2 q (List.mem_cons_of_mem _ hq))⟩
theorem mDs.rng {S : zS} {n : Nat} : ∀ {cs : List zNd} {rs : List (Nat × Nat × Nat)}, mDs S n cs rs → ∀ r ∈ rs, (r.2.1 ≤ r.1 ∧ r.1 < r.2.2) ∧ (n < r.2.1 ∨ r.2.2 ≤ n) ∧ r.1 < 3000 := by
  intro cs
  induction cs with
  | nil => intro rs h r hr; cases rs with | nil => cases hr | cons => exact h.elim
  | cons y cs ih =>
    intro rs h r hr
    cases rs with
    | nil => exact h.elim
    | cons q rs =>
      rcases List.mem_cons.mp hr with e | e
      · subst e
        obtain ⟨g1, ks, g2, -⟩ := mT_iff.mp h.1
        exact ⟨g1, h.2.1, g2.1⟩
      · exact ih h.2.2.2 r e
theorem mDs.apart {S : zS} {n : Nat} : ∀ {cs : List zNd} {rs : List (Nat × Nat × Nat)}, mDs S n cs rs → ∀ r ∈ rs, ∀ q ∈ rs, r = q ∨ r.2.2 ≤ q.2.1 ∨ q.2.2 ≤ r.2.1 := by
  intro cs
  induction cs with
  | nil => intro rs h r hr; cases rs with | nil => cases hr | cons => exact h.elim
  | cons y cs ih =>
    intro rs h r hr q hq
    cases rs with
    | nil => exact h.elim
    | cons r0 rs =>
      rcases List.mem_cons.mp hr with e | e
      · rcases List.mem_cons.mp hq with e2 | e2
        · exact Or.inl (e.trans e2.symm)
        · subst e; exact Or.inr (h.2.2.1 q e2)
      · rcases List.mem_cons.mp hq with e2 | e2
        · subst e2; exact Or.inr ((h.2.2.1 r e).symm)
        · exact ih h.2.2.2 r e q e2
theorem mDs.nodup {S : zS} {n : Nat} : ∀ {cs : List zNd} {rs : List (Nat × Nat × Nat)}, mDs S n cs rs → (rs.map (·.1)).Nodup := by
  intro cs
  induction cs with
  | nil => intro rs h; cases rs with | nil => exact List.nodup_nil | cons => exact h.elim
  | cons y cs ih =>
    intro rs h
    cases rs with
    | nil => exact h.elim
    | cons r rs =>
      refine List.nodup_cons.mpr ⟨fun hm => ?_, ih h.2.2.2⟩
      obtain ⟨q, hq, e⟩ := List.mem_map.mp hm
      have h1 := h.2.2.1 q hq
      have h2 := h.2.2.2.rng q hq
      obtain ⟨g1, -⟩ := mT_iff.mp h.1
      have e' : q.1 = r.1 := e
      omega
theorem mDs.ro {S : zS} {n lo hi : Nat} : ∀ {cs : List zNd} {rs : List (Nat × Nat × Nat)}, mDs S n cs rs → (∀ r ∈ rs, lo ≤ r.2.1 ∧ r.2.2 ≤ hi) → mRo true S lo hi n cs (rs.map (·.1)) := by
  intro cs
  induction cs with
  | nil => intro rs h _; cases rs with | nil => rfl | cons => exact h.elim
  | cons y cs ih =>
    intro rs h hr
    cases rs with
    | nil => exact h.elim
    | cons r rs =>
      have := hr r List.mem_cons_self
      exact ⟨r.1, rs.map (·.1), r.2.1, r.2.2, rfl, ⟨this.1, this.2, by have := h.2.1; omega⟩, h.1, ih h.2.2.2 (fun q hq => hr q (List.mem_cons_of_mem _ hq))⟩
theorem ty_lt {x : zNd} {t : t3} (h : ty x = some t) : tK x < 26 := by
  rw [ty_eq] at h
  cases e : allS ((tCs x).map ty) with
  | none => rw [e] at h; cases h
  | some l =>
    rw [e] at h
    have h' : (tyB (tK x) (tV x) l).map _ = some t := h
    refine Classical.byContradiction fun hk => ?_
    have : tyB (tK x) (tV x) l = none := by
      unfold tyB
      rw [if_neg (by omega), if_neg (by omega), if_neg (by omega), if_neg (by omega), if_neg (by omega)]
    rw [this] at h'; cases h'
theorem mDs.typ {S : zS} {n : Nat} : ∀ {cs : List zNd} {rs : List (Nat × Nat × Nat)}, mDs S n cs rs → ∃ l : List t3, cs.map ty = l.map some ∧ chT S (rs.map (·.1)) l ∧ cs.length = rs.length := by
  intro cs
  induction cs with
  | nil => intro rs h; cases rs with | nil => exact ⟨[], rfl, trivial, rfl⟩ | cons => exact h.elim
  | cons y cs ih =>
    intro rs h
    cases rs with
    | nil => exact h.elim
    | cons r rs =>
      obtain ⟨l, h1, h2, h3⟩ := ih h.2.2.2
      obtain ⟨g1, ks, g2, g3, g4⟩ := mT_iff.mp h.1
      obtain ⟨t, q1, q2⟩ := g3 rfl
      refine ⟨t :: l, by rw [List.map_cons, List.map_cons, q1, h1], ⟨q2, ?_, h2⟩, by simp [h3]⟩
      exact ⟨tK y, by have := ty_lt q1; omega, g2.2.1⟩
theorem m_node {S : zS} (hF : zFin true S) {at0 rd nx wt B k v p : Nat} (hP : mP tp sz S at0 rd nx wt) (hB : nx < B) (hB3 : B ≤ 3000) (hk : k < 100) (hv : v < 2147483648) (hp : p ≤ 300)
    (h : ∀ S', zFin true S' → mFr B nx wt S S' → mP tp sz S' at0 rd (nx + 1) wt → mOp S' nx k v p [] → post (.returned (some (.int (Int32.ofNat nx))), S')) : zCall d 133 [.ref 1592, .int (Int32.ofNat k), .int (Int32.ofNat v), .int (Int32.ofNat p)] S post := by
  obtain ⟨⟨g1, g2, g3, g4, g5, g6⟩, g7, g8, g9, g10⟩ := hP
  refine nd1 hF k v p nx g5 (by omega) hk hv hp ?_
  have fa : ∀ {S : zS} {a : Nat} {y : Int32}, a ∈ mRw → mFr B nx wt S (sA S a nx y) := fun h => mFr_sA h (Nat.le_refl _) hB
  have hfr : mFr B nx wt S (sI (sA (sA (sA (sA (sA (sA (sA (sA (sA S 1610 nx (Int32.ofNat k)) 1611 nx (Int32.ofNat v)) 1612 nx (-1)) 1613 nx (-1)) 1614 nx 0) 1615 nx (Int32.ofNat p)) 1616 nx (-1)) 1617 nx 0) 1618 nx 0) 85 1592 (Int32.ofNat (nx + 1))) :=
    (((((((((fa (by decide)).tr (fa (by decide))).tr (fa (by decide))).tr (fa (by decide))).tr (fa (by decide))).tr (fa (by decide))).tr (fa (by decide))).tr (fa (by decide))).tr (fa (by decide))).tr (mFr_sI (by decide))
  refine h _ hF hfr ⟨⟨g1, g2, g3, g4, gI_sI_at, g6⟩, ⟨g7.1.tk hfr.1 (by decide), g7.2⟩, g8, g9, g10⟩ ⟨⟨?_, ?_, ?_, ?_, ?_⟩, ?_, ?_⟩
  · show gA (sA S 1610 nx (Int32.ofNat k)) 1610 nx = _; exact gA_sA_at
  · show gA (sA S 1611 nx (Int32.ofNat v)) 1611 nx = _; exact gA_sA_at
  · show gA (sA S 1615 nx (Int32.ofNat p)) 1615 nx = _; exact gA_sA_at
  · show gA (sA S 1616 nx (-1)) 1616 nx = _; exact gA_sA_at
  · show gA (sA S 1618 nx 0) 1618 nx = _; exact gA_sA_at
  · show gA (sA S 1614 nx 0) 1614 nx = _; exact gA_sA_at
  · show gA (sA S 1612 nx (-1)) 1612 nx = _; exact gA_sA_at
theorem m_adopt {S : zS} (hF : zFin true S) {n k v p c : Nat} {js : List Nat} {cs : List zNd} {rs : List (Nat × Nat × Nat)} {B nx wt : Nat} (hn : n < 3000) (hnx : nx ≤ n) (hnB : n < B) (hO : mOp S n k v p js) (hD : mDs S n cs rs) (hr : ∀ r ∈ rs, nx ≤ r.2.1 ∧ r.2.2 ≤ B) (hm1 : js.length < 100) (hnd : (js ++ [c]).Nodup) (hsub : ∀ j ∈ js ++ [c], ∃ r ∈ rs, r.1 = j)
    (h : ∀ S', zFin true S' → mFr B nx wt S S' → zTK [] mRw S S' → mOp S' n k v p (js ++ [c]) → mDs S' n cs rs → post (.returned none, S')) : zCall d 154 [.ref 1592, .int (Int32.ofNat n), .int (Int32.ofNat c)] S post := by
  obtain ⟨⟨o1, o2, o3, o4, o5⟩, o6, o7⟩ := hO
  have hrg := hD.rng
  have hc : c < 3000 := by
    obtain ⟨r, hr1, e⟩ := hsub c (by simp)
    have := hrg r hr1; omega
  have hnd1 := List.nodup_append.mp hnd
  have hcj : c ∉ js := fun x => hnd1.2.2 c x c (by simp) rfl
  have hin : ∀ j ∈ c :: js, ∃ r ∈ rs, r.1 = j := fun j hj => hsub j (by
    rcases List.mem_cons.mp hj with e | e
    · rw [e]; simp
    · exact List.mem_append_left _ e)
  refine m_adopts hF hn hc hm1 o6 o7 hnd1.1 hcj (fun S' f1 k1 m1 x1 m2 c2 => ?_)
  have A : ∀ {a j : Nat}, a ∉ [1614, 1613, 1612] → gA S' a j = gA S a j := fun ha => k1.A ha
  have k2 : zTK [] mRw S S' := k1.w (by decide) (by decide)
  have out : ∀ j, (j < nx ∨ B ≤ j) → j ∉ c :: js := fun j hj hm => by
    obtain ⟨r, hr1, e⟩ := hin j hm
    have := hr r hr1; have := hrg r hr1; omega
  refine h S' f1 ⟨k1.w (by decide) (by decide), fun j hj a ha => ?_, fun j _ => A (by decide)⟩ k2 ⟨⟨(A (by decide)).trans o1, (A (by decide)).trans o2, (A (by decide)).trans o3, (A (by decide)).trans o4, (A (by decide)).trans o5⟩, m2, c2⟩ (hD.eq ?_ ?_)
  · have hjn : j ≠ n := by omega
    by_cases e1 : a = 1614
    · subst e1; exact (m1 j hjn).1
    by_cases e2 : a = 1612
    · subst e2; exact (m1 j hjn).2
    by_cases e3 : a = 1613
    · subst e3; exact x1 j (out j hj)
    exact A (by simp only [List.mem_cons, List.not_mem_nil, or_false]; omega)
  · intro r hr1 j h1 h2
    have hjn : j ≠ n := by have := hrg r hr1; omega
    exact ⟨A (by decide), A (by decide), A (by decide), (m1 j hjn).1, (m1 j hjn).2, A (by decide), A (by decide), A (by decide)⟩
  · intro r hr1 j h1 h2 h3
    refine x1 j (fun hm => ?_)
    obtain ⟨q, hq, e⟩ := hin j hm
    have g1 := hrg q hq
    rcases hD.apart r hr1 q hq with e2 | e2
    · subst e2; exact h3 e.symm
    · omega
end Q6

