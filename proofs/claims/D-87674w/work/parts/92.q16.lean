set_option maxRecDepth 100000
/-! ===== the twin reads rows of parts: whole ===== -/
/-- ids that wait -/
def mW (S : zS) (mk : Nat) (is : List Nat) : Prop := ∀ i, i < is.length → gA S 1619 (mk + i) = Int32.ofNat (is.getD i 0)
/-- parts were put into n -/
def adK (S : zS) (n : Nat) (is : List Nat) (S' : zS) : Prop := zTK [] [1614, 1613, 1612] S S' ∧ (∀ j, j ≠ n → gA S' 1614 j = gA S 1614 j ∧ gA S' 1612 j = gA S 1612 j) ∧ (∀ j, j ∉ is → gA S' 1613 j = gA S 1613 j)
section Q16
variable {d : Nat} {post : Outcome × zS → Prop} {tp : Nat → Nat} {sz : Nat}
theorem adK.rf {S : zS} {n : Nat} {is : List Nat} : adK S n is S := ⟨zTK.rf, fun _ _ => ⟨rfl, rfl⟩, fun _ _ => rfl⟩
theorem adK.tr {S S' S'' : zS} {n : Nat} {is : List Nat} (h : adK S n is S') (k : adK S' n is S'') : adK S n is S'' := ⟨h.1.tr k.1, fun j hj => ⟨(k.2.1 j hj).1.trans (h.2.1 j hj).1, (k.2.1 j hj).2.trans (h.2.1 j hj).2⟩, fun j hj => (k.2.2 j hj).trans (h.2.2 j hj)⟩
theorem adK.A {S S' : zS} {n a j : Nat} {is : List Nat} (h : adK S n is S') (ha : a ∉ [1614, 1613, 1612]) : gA S' a j = gA S a j := h.1.A ha
theorem getD_at {α : Type} (d0 : α) (pre : List α) (c : α) (suf : List α) : (pre ++ c :: suf).getD pre.length d0 = c := by simp [List.getD]
theorem m_adoptL {n k v p mk : Nat} {is : List Nat} {S0 : zS} (hd : 1 ≤ d) (hn : n < 3000) (hi3 : ∀ i ∈ is, i < 3000) (hnd : is.Nodup) (hl : is.length ≤ 20) (hmk : mk + is.length ≤ 2000) (hw : gI S0 97 1592 = Int32.ofNat (mk + is.length)) (hW : mW S0 mk is)
    (K : ∀ S', zFin true S' → adK S0 n is S' → mOp S' n k v p is → zEv d 156 220 [.ref 1592, .retAddr 0, .retAddr 0, .retAddr 0, .retAddr 0, .retAddr 0, .retAddr 0, .int (Int32.ofNat mk), .int (Int32.ofNat n), .retAddr 0] [] S' post) :
    ∀ (suf pre : List Nat) (S : zS), pre ++ suf = is → zFin true S → adK S0 n is S → mOp S n k v p pre → zEv d 156 192 [.ref 1592, .retAddr 0, .retAddr 0, .retAddr 0, .retAddr 0, .retAddr 0, .retAddr 0, .int (Int32.ofNat mk), .int (Int32.ofNat n), .int (Int32.ofNat (mk + pre.length))] [] S post := by
  intro suf
  induction suf with
  | nil =>
    intro pre S e hF hA hO
    rw [List.append_nil] at e
    subst e
    exact sv192b (S := S) hF (by omega) mk n (mk + pre.length) (mk + pre.length) ((hA.1.I (by simp) _).trans hw) hn (by omega) (by omega) (by omega) rfl (fun b => absurd (Nat.le_refl _) b) (fun _ => K S hF hA hO)
  | cons c suf ih =>
    intro pre S e hF hA hO
    have hlen : pre.length < is.length := by rw [← e]; simp
    have hc : is.getD pre.length 0 = c := by rw [← e]; exact getD_at _ _ _ _
    have hcm : c ∈ is := by rw [← e]; simp
    have hsub : ∀ j ∈ pre ++ [c], j ∈ is := fun j hj => by
      rw [← e]
      rcases List.mem_append.mp hj with x | x
      · exact List.mem_append_left _ x
      · rw [List.mem_singleton.mp x]; simp
    have hnd1 : (pre ++ [c]).Nodup := by
      have : pre ++ c :: suf = (pre ++ [c]) ++ suf := by simp
      rw [this] at e
      rw [← e] at hnd
      exact (List.nodup_append.mp hnd).1
    refine sv192a (S := S) hF (by omega) mk n (mk + pre.length) (mk + is.length) c ((hA.1.I (by simp) _).trans hw) hn (by omega) (by omega) (by omega) (by omega) (hi3 c hcm) ((hA.A (by decide)).trans ((hW _ hlen).trans (by rw [hc]))) (fun _ => ?_) (fun b => absurd b (by omega))
    refine m_adoptG hF hn (hi3 c hcm) hO (by omega) hnd1 (fun S' f1 k1 m1 x1 o1 => ?_)
    show zEv d 156 214 _ [] S' post
    refine sv214 (S := S') f1 mk n (mk + pre.length) hn (by omega) (by omega) ?_
    have e2 : mk + pre.length + 1 = mk + (pre ++ [c]).length := by simp; omega
    rw [e2]
    exact ih (pre ++ [c]) S' (by rw [← e]; simp) f1 (hA.tr ⟨k1, m1, fun j hj => x1 j (fun x => hj (hsub j x))⟩) o1
/-! the spec, step by step -/
section spec
variable {α : Type} {it : Nat → Nat → pE (α × Nat × Nat)} {most n got at0 rd : Nat}
theorem pI_stop (h0 : ¬ got = 0) (h1 : ¬ pSee tp sz at0 = 44) : pItems tp sz it most (n + 1) got at0 rd = .ok ([], at0, rd) := by
  unfold pItems; rw [if_neg (fun h => h.elim h0 h1)]
theorem pI_most (h : got = 0 ∨ pSee tp sz at0 = 44) (hm : got = most) : pItems tp sz it most (n + 1) got at0 rd = .error (1, at0) := by
  unfold pItems; rw [if_pos h, if_pos hm]
theorem pI_go (h : got = 0 ∨ pSee tp sz at0 = 44) (hm : ¬ got = most) : pItems tp sz it most (n + 1) got at0 rd = (do
      let at1 ← pWant tp sz 44 at0
      let q ← it at1 rd
      let r ← pItems tp sz it most n (got + 1) q.2.1 q.2.2
      .ok (q.1 :: r.1, r.2)) := by
  rw [pItems, if_pos h, if_neg hm]
theorem pI_ok {at1 : Nat} {q : α × Nat × Nat} {l : List α} {w : Nat × Nat} (h : got = 0 ∨ pSee tp sz at0 = 44) (hm : ¬ got = most) (e1 : pWant tp sz 44 at0 = .ok at1) (e2 : it at1 rd = .ok q) (e3 : pItems tp sz it most n (got + 1) q.2.1 q.2.2 = .ok (l, w)) : pItems tp sz it most (n + 1) got at0 rd = .ok (q.1 :: l, w) := by
  rw [pI_go h hm]; exact (pb_ok e1).trans ((pb_ok e2).trans ((pb_ok e3).trans rfl))
theorem pI_e1 {z : Nat × Nat} (h : got = 0 ∨ pSee tp sz at0 = 44) (hm : ¬ got = most) (e1 : pWant tp sz 44 at0 = .error z) : pItems tp sz it most (n + 1) got at0 rd = .error z := by
  rw [pI_go h hm]; exact pb_er e1
theorem pI_e2 {at1 : Nat} {z : Nat × Nat} (h : got = 0 ∨ pSee tp sz at0 = 44) (hm : ¬ got = most) (e1 : pWant tp sz 44 at0 = .ok at1) (e2 : it at1 rd = .error z) : pItems tp sz it most (n + 1) got at0 rd = .error z := by
  rw [pI_go h hm]; exact (pb_ok e1).trans (pb_er e2)
theorem pI_e3 {at1 : Nat} {q : α × Nat × Nat} {z : Nat × Nat} (h : got = 0 ∨ pSee tp sz at0 = 44) (hm : ¬ got = most) (e1 : pWant tp sz 44 at0 = .ok at1) (e2 : it at1 rd = .ok q) (e3 : pItems tp sz it most n (got + 1) q.2.1 q.2.2 = .error z) : pItems tp sz it most (n + 1) got at0 rd = .error z := by
  rw [pI_go h hm]; exact (pb_ok e1).trans ((pb_ok e2).trans (pb_er e3))
end spec
theorem mP_push {S : zS} {at0 rd nx wt : Nat} (h : mP tp sz S at0 rd nx wt) (c : Int32) : mP tp sz (sI (sA S 1619 wt c) 97 1592 (Int32.ofNat (wt + 1))) at0 rd nx (wt + 1) := by
  have h2 : mP tp sz (sA S 1619 wt c) at0 rd nx wt := h.tk (zTK_sA (List.mem_singleton_self _)) (fun a ha => by rw [List.mem_singleton.mp ha]; decide) (by decide)
  obtain ⟨⟨g1, g2, g3, g4, g5, g6⟩, g7, g8, g9, g10⟩ := h2
  exact ⟨⟨g1, g2, g3, g4, g5, gI_sI_at⟩, g7, g8, g9, g10⟩
theorem mP_drop {S : zS} {at0 rd nx wt : Nat} (h : mP tp sz S at0 rd nx wt) (mk : Nat) : mP tp sz (sI S 97 1592 (Int32.ofNat mk)) at0 rd nx mk := by
  obtain ⟨⟨g1, g2, g3, g4, g5, g6⟩, g7, g8, g9, g10⟩ := h
  exact ⟨⟨g1, g2, g3, g4, g5, gI_sI_at⟩, g7, g8, g9, g10⟩
theorem mW_push {S S1 : zS} {mk : Nat} {is : List Nat} (h : mW S mk is) (hk : ∀ j, j < mk + is.length → gA S1 1619 j = gA S 1619 j) (c : Nat) (v : Int32) : mW (sI (sA S1 1619 (mk + is.length) (Int32.ofNat c)) 97 1592 v) mk (is ++ [c]) := by
  intro i hi
  show gA (sA S1 1619 (mk + is.length) (Int32.ofNat c)) 1619 (mk + i) = _
  by_cases e : i = is.length
  · subst e
    rw [gA_sA_at, getD_at]
  · rw [List.length_append] at hi
    simp only [List.length_cons, List.length_nil] at hi
    rw [gA_sA_nj (by omega), hk _ (by omega), h i (by omega)]
    congr 1
    simp [List.getD, List.getElem?_append_left (show i < is.length by omega)]
theorem mDs.up {S : zS} {n n' : Nat} : ∀ {cs : List zNd} {rs : List (Nat × Nat × Nat)}, mDs S n cs rs → (∀ r ∈ rs, r.2.2 ≤ n') → mDs S n' cs rs := by
  intro cs
  induction cs with
  | nil => intro rs h _; cases rs with | nil => trivial | cons => exact h.elim
  | cons y cs ih =>
    intro rs h hr
    cases rs with
    | nil => exact h.elim
    | cons r rs => exact ⟨h.1, Or.inr (hr r List.mem_cons_self), h.2.2.1, ih h.2.2.2 (fun q hq => hr q (List.mem_cons_of_mem _ hq))⟩
theorem mDs.app {S : zS} {n : Nat} {y : zNd} {r : Nat × Nat × Nat} (hy : mT true S r.2.1 r.2.2 y r.1) (hn : r.2.2 ≤ n) : ∀ {cs : List zNd} {rs : List (Nat × Nat × Nat)}, mDs S n cs rs → (∀ q ∈ rs, q.2.2 ≤ r.2.1) → mDs S n (cs ++ [y]) (rs ++ [r]) := by
  intro cs
  induction cs with
  | nil =>
    intro rs h _
    cases rs with
    | nil => exact ⟨hy, Or.inr hn, (fun q hq => by cases hq), trivial⟩
    | cons => exact h.elim
  | cons x cs ih =>
    intro rs h hr
    cases rs with
    | nil => exact h.elim
    | cons q rs =>
      refine ⟨h.1, h.2.1, fun w hw => ?_, ih h.2.2.2 (fun w hw => hr w (List.mem_cons_of_mem _ hw))⟩
      rcases List.mem_append.mp hw with e | e
      · exact h.2.2.1 w e
      · rw [List.mem_singleton.mp e]; exact Or.inl (hr q List.mem_cons_self)
theorem mDs.len {S : zS} {n : Nat} {cs : List zNd} {rs : List (Nat × Nat × Nat)} (h : mDs S n cs rs) : cs.length = rs.length := by
  obtain ⟨l, h1, h2, h3⟩ := h.typ
  exact h3
theorem mDs.fr {S S' : zS} {n B nx wt : Nat} {cs : List zNd} {rs : List (Nat × Nat × Nat)} (h : mDs S n cs rs) (k : mFr B nx wt S S') (hr : ∀ r ∈ rs, r.2.2 ≤ nx) : mDs S' n cs rs := by
  have q : ∀ r ∈ rs, ∀ j, j < r.2.2 → ∀ a ∈ mRw, gA S' a j = gA S a j := fun r h1 j h2 => k.2.1 j (Or.inl (by have := hr r h1; omega))
  exact h.eq (fun r h1 j _ h2 => ⟨q r h1 j h2 _ (by decide), q r h1 j h2 _ (by decide), q r h1 j h2 _ (by decide), q r h1 j h2 _ (by decide), q r h1 j h2 _ (by decide), q r h1 j h2 _ (by decide), q r h1 j h2 _ (by decide), q r h1 j h2 _ (by decide)⟩) (fun r h1 j _ h2 _ => q r h1 j h2 _ (by decide))
/-- the loop over a thresh's parts -/
theorem m_loop17 (hd : 3 ≤ d) {nx0 mk p deep v B : Nat} {rec : Nat → Nat → Nat → pE (zNd × Nat × Nat)} {S0 : zS} (hp : p ≤ 300) (hdp : deep < 2000) (hs0 : sz ≤ 300) (hB3 : B ≤ 3000) (hv : v < 2147483648) (hR : mRd tp sz B (d - 1) (deep + 1) rec) :
    ∀ (n got : Nat) (S : zS) (at0 rd nx : Nat) (cs : List zNd) (rs : List (Nat × Nat × Nat)), got + n = 13 → got ≤ 12 → zFin true S → mP tp sz S at0 rd nx (mk + got) → cs.length = got → mDs S nx cs rs → (∀ r ∈ rs, nx0 ≤ r.2.1 ∧ r.2.2 ≤ nx) → mW S mk (rs.map (·.1)) → mFr B nx0 mk S0 S → nx0 ≤ nx → rd ≤ 80 → nx + 2 * (sz - at0) + 3 ≤ B → mk + got + (sz - at0) ≤ 2000 →
    (∀ S' l rs' at1 rd1 nx1, zFin true S' → pItems tp sz (rec (deep + 1)) 12 n got at0 rd = .ok (l, at1, rd1) → mP tp sz S' at1 rd1 nx1 (mk + (cs ++ l).length) → mDs S' nx1 (cs ++ l) rs' → (∀ r ∈ rs', nx0 ≤ r.2.1 ∧ r.2.2 ≤ nx1) → mW S' mk (rs'.map (·.1)) → mFr B nx0 mk S0 S' → nx0 ≤ nx1 ∧ rd1 ≤ 80 ∧ at0 ≤ at1 ∧ at1 ≤ sz ∧ nx1 + 2 * (sz - at1) ≤ nx + 2 * (sz - at0) ∧ mk + (cs ++ l).length + (sz - at1) ≤ 2000 ∧ (cs ++ l).length ≤ 12 ∧ 1 ≤ (cs ++ l).length →
      zEv d 156 131 [.ref 1592, .int (Int32.ofNat 17), .int (Int32.ofNat p), .retAddr 0, .int (Int32.ofNat v), .retAddr 0, .int (Int32.ofNat (cs ++ l).length), .int (Int32.ofNat mk), .retAddr 0, .retAddr 0] [] S' post) →
    (∀ S' k z, zFin true S' → pItems tp sz (rec (deep + 1)) 12 n got at0 rd = .error (k, z) → mFr B nx0 mk S0 S' → mX S' k z → post (.returned (some (.int (-1))), S')) →
    zEv d 156 30 [.ref 1592, .int (Int32.ofNat 17), .int (Int32.ofNat p), .int (Int32.ofNat deep), .int (Int32.ofNat v), .int (Int32.ofNat 12), .int (Int32.ofNat got), .int (Int32.ofNat mk), .retAddr 0, .retAddr 0] [] S post := by
  intro n
  induction n with
  | zero => intro got S at0 rd nx cs rs h1 h2; omega
  | succ n ih =>
    intro got S at0 rd nx cs rs hg hg2 hF hP hcl hD hr hW hfr hnx hrd hB hmk hOK hER
    have hs1 := hP.2.2.2.2
    have hrl : rs.length = got := by rw [← hD.len]; exact hcl
    -- one more part was read
    have step : ∀ (S1 S2 : zS) (y : zNd) (i at2 rd2 nx2 : Nat), (got = 0 ∨ pSee tp sz at0 = 44) → ¬ got = 12 → pWant tp sz 44 at0 = .ok (at0 + 1) → mFr B nx (mk + got) S S1 → zFin true S2 → rec (deep + 1) (at0 + 1) rd = .ok (y, at2, rd2) → mFr B nx (mk + got) S1 S2 → mT true S2 nx nx2 y i → mP tp sz S2 at2 rd2 nx2 (mk + got) → (at0 + 1 < at2 ∧ at2 ≤ sz ∧ nx2 ≤ nx + 2 * (at2 - (at0 + 1)) ∧ rd2 ≤ 80 ∧ nx < nx2 ∧ i < 3000) →
        zEv d 156 30 [.ref 1592, .int (Int32.ofNat 17), .int (Int32.ofNat p), .int (Int32.ofNat deep), .int (Int32.ofNat v), .int (Int32.ofNat 12), .int (Int32.ofNat (got + 1)), .int (Int32.ofNat mk), .retAddr 0, .retAddr 0] [] (sI (sA S2 1619 (mk + got) (Int32.ofNat i)) 97 1592 (Int32.ofNat (mk + got + 1))) post := by
      intro S1 S2 y i at2 rd2 nx2 hc hm e1 k1 f2 e2 k2 t2 p2 g2
      have kW : mFr B nx (mk + got) S2 (sI (sA S2 1619 (mk + got) (Int32.ofNat i)) 97 1592 (Int32.ofNat (mk + got + 1))) := (mFr_sW (Nat.le_refl _)).tr (mFr_sI (by decide))
      have k3 := (k1.tr k2).tr kW
      have D3 := hD.fr k3 (fun r h1 => (hr r h1).2)
      have hr' : ∀ q ∈ rs, q.2.2 ≤ nx := fun q hq => (hr q hq).2
      have T3 : mT true (sI (sA S2 1619 (mk + got) (Int32.ofNat i)) 97 1592 (Int32.ofNat (mk + got + 1))) nx nx2 y i := t2.eq (fun j _ _ => ⟨rfl, rfl, rfl, rfl, rfl, rfl, rfl, rfl⟩) (fun j _ _ _ => rfl)
      have D4 := mDs.app (r := (i, nx, nx2)) T3 (Nat.le_refl _) (D3.up (n' := nx2) (fun q hq => by have := hr' q hq; omega)) hr'
      have W3 : mW (sI (sA S2 1619 (mk + got) (Int32.ofNat i)) 97 1592 (Int32.ofNat (mk + got + 1))) mk ((rs ++ [(i, nx, nx2)]).map (·.1)) := by
        rw [List.map_append]
        have := mW_push (S1 := S2) hW (fun j hj => (k1.tr k2).2.2 j (by rw [List.length_map, hrl] at hj; exact hj)) i (Int32.ofNat (mk + got + 1))
        rw [List.length_map, hrl] at this
        exact this
      refine ih (got + 1) _ at2 rd2 nx2 (cs ++ [y]) (rs ++ [(i, nx, nx2)]) (by omega) (by omega) f2 (mP_push p2 _) (by rw [List.length_append, hcl]; rfl) D4 (fun r h1 => ?_) W3 (hfr.tr (k3.w hnx (by omega) (Nat.le_refl _))) (by omega) g2.2.2.2.1 (by omega) (by omega) ?_ ?_
      · rcases List.mem_append.mp h1 with e | e
        · have := hr r e; exact ⟨this.1, by omega⟩
        · rw [List.mem_singleton.mp e]; exact ⟨hnx, Nat.le_refl _⟩
      · intro S' l rs' at1 rd1 nx1 q1 q2 q3 q4 q5 q6 q7 q8
        have el : cs ++ [y] ++ l = cs ++ y :: l := by simp
        rw [el] at q3 q4 q8 ⊢
        exact hOK S' (y :: l) rs' at1 rd1 nx1 q1 (pI_ok hc hm e1 e2 q2) q3 q4 q5 q6 q7 ⟨q8.1, q8.2.1, by omega, q8.2.2.2.1, by omega, q8.2.2.2.2.2.1, q8.2.2.2.2.2.2⟩
      · intro S' k z q1 q2 q3 q4
        exact hER S' k z q1 (pI_e3 hc hm e1 e2 q2) q3 q4
    have wk : ∀ {S1 : zS}, mFr B nx (mk + got) S S1 → mFr B nx0 mk S0 S1 := fun k => hfr.tr (k.w hnx (by omega) (Nat.le_refl _))
    refine sl17 (S := S) (B := B) (rec := rec) hF (by omega) p deep v got hP hp hdp hrd hs0 hs1 hB hB3 hv hmk hg2 hR ?_ ?_ ?_ ?_ ?_ ?_ ?_ ?_
    · intro c0 c6 e6 b6 n6
      subst e6
      have := hOK S [] rs at0 rd nx hF (pI_stop c0 n6) (by rw [List.append_nil, hcl]; exact hP) (by rw [List.append_nil]; exact hD) hr hW hfr (by rw [List.append_nil, hcl]; omega)
      rw [List.append_nil, hcl] at this
      exact this
    · intro c0 S9 f9 e9 k9 p9 S11 y11 i11 at11 rd11 nx11 f11 e11 k11 t11 p11 g11
      exact step S9 S11 y11 i11 at11 rd11 nx11 (Or.inl c0) (by omega) e9 k9 f11 e11 k11 t11 p11 g11
    · intro c0 c6 e6 b6 n6 m6 S9 f9 e9 k9 p9 S11 y11 i11 at11 rd11 nx11 f11 e11 k11 t11 p11 g11
      exact step S9 S11 y11 i11 at11 rd11 nx11 (Or.inr (e6.trans n6)) m6 e9 k9 f11 e11 k11 t11 p11 g11
    · intro c0 S9 f9 e9 k9 p9 S12 u12 kk12 z12 f12 e12 k12 x12 w12
      exact hER S12 _ _ f12 (pI_e2 (Or.inl c0) (by omega) e9 e12) (wk (k9.tr k12)) x12
    · intro c0 S10 f10 e10 k10 x10
      exact hER S10 _ _ f10 (pI_e1 (Or.inl c0) (by omega) e10) (wk k10) x10
    · intro c0 c6 e6 b6 n6 m6 S9 f9 e9 k9 p9 S12 u12 kk12 z12 f12 e12 k12 x12 w12
      exact hER S12 _ _ f12 (pI_e2 (Or.inr (e6.trans n6)) m6 e9 e12) (wk (k9.tr k12)) x12
    · intro c0 c6 e6 b6 n6 m6 S10 f10 e10 k10 x10
      exact hER S10 _ _ f10 (pI_e1 (Or.inr (e6.trans n6)) m6 e10) (wk k10) x10
    · intro c0 c6 e6 b6 n6 m6 S10 f10 k10 x10 v10
      exact hER S10 _ _ f10 (pI_most (Or.inr (e6.trans n6)) m6) (wk k10) x10
end Q16

