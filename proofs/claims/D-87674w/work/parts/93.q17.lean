set_option maxRecDepth 100000
/-! ===== the twin reads a multi's keys; several, whole ===== -/
section Q17
variable {d : Nat} {post : Outcome × zS → Prop} {tp : Nat → Nat} {sz : Nat}
theorem mFr.eq {S S' : zS} {B nx wt lo hi : Nat} (k : mFr B nx wt S S') (h : hi ≤ nx) : mEq S S' lo hi := by
  have q : ∀ j, j < hi → ∀ a ∈ mRw, gA S' a j = gA S a j := fun j h2 => k.2.1 j (Or.inl (by omega))
  exact fun j _ h2 => ⟨q j h2 _ (by decide), q j h2 _ (by decide), q j h2 _ (by decide), q j h2 _ (by decide), q j h2 _ (by decide), q j h2 _ (by decide), q j h2 _ (by decide), q j h2 _ (by decide)⟩
theorem mKy.up {S : zS} {lo hi i lo' hi' i' : Nat} (h1 : lo' ≤ lo) (h2 : hi ≤ hi') (h3 : hi ≤ i' ∨ i' < lo) : ∀ {js ks : List Nat}, mKy S lo hi i js ks → mKy S lo' hi' i' js ks := by
  intro js
  induction js with
  | nil => intro ks hk; cases ks with | nil => trivial | cons => exact hk.elim
  | cons j js ih =>
    intro ks hk
    cases ks with
    | nil => exact hk.elim
    | cons k ks => exact ⟨⟨by have := hk.1; omega, by have := hk.1; omega, by have := hk.1; omega⟩, hk.2.1, hk.2.2.1, hk.2.2.2.1, ih hk.2.2.2.2⟩
theorem mKy.app {S : zS} {lo hi i j k : Nat} (hj : lo ≤ j ∧ j < hi ∧ j ≠ i) (hn : mKn S j k) : ∀ {js ks : List Nat}, mKy S lo hi i js ks → mKy S lo hi i (js ++ [j]) (ks ++ [k]) := by
  intro js
  induction js with
  | nil => intro ks hk; cases ks with | nil => exact ⟨hj, hn.1, hn.2.1, hn.2.2, trivial⟩ | cons => exact hk.elim
  | cons j0 js ih =>
    intro ks hk
    cases ks with
    | nil => exact hk.elim
    | cons k0 ks => exact ⟨hk.1, hk.2.1, hk.2.2.1, hk.2.2.2.1, ih hk.2.2.2.2⟩
theorem mKy.eq2 {S S' : zS} {lo hi i : Nat} (h : ∀ j, lo ≤ j → j < hi → j ≠ i → gA S' 1610 j = gA S 1610 j ∧ gA S' 1611 j = gA S 1611 j ∧ gA S' 1612 j = gA S 1612 j) : ∀ {js ks : List Nat}, mKy S lo hi i js ks → mKy S' lo hi i js ks := by
  intro js
  induction js with
  | nil => intro ks hk; cases ks with | nil => trivial | cons => exact hk.elim
  | cons j js ih =>
    intro ks hk
    cases ks with
    | nil => exact hk.elim
    | cons k ks =>
      obtain ⟨h1, h2, h3, h4, h5⟩ := hk
      obtain ⟨e1, e2, e5⟩ := h j h1.1 h1.2.1 h1.2.2
      exact ⟨h1, e1.trans h2, e2.trans h3, e5.trans h4, ih h5⟩
theorem mKy.kind {S : zS} {lo hi i : Nat} : ∀ {js ks : List Nat}, mKy S lo hi i js ks → ∀ j ∈ js, gA S 1610 j = Int32.ofNat 30 := by
  intro js
  induction js with
  | nil => intro ks _ j hj; cases hj
  | cons j0 js ih =>
    intro ks hk j hj
    cases ks with
    | nil => exact hk.elim
    | cons k ks =>
      rcases List.mem_cons.mp hj with rfl | hj
      · exact hk.2.1
      · exact ih hk.2.2.2.2 j hj
theorem mKy.len {S : zS} {lo hi i : Nat} : ∀ {js ks : List Nat}, mKy S lo hi i js ks → js.length = ks.length := by
  intro js
  induction js with
  | nil => intro ks hk; cases ks with | nil => rfl | cons => exact hk.elim
  | cons j js ih =>
    intro ks hk
    cases ks with
    | nil => exact hk.elim
    | cons k ks => rw [List.length_cons, List.length_cons, ih hk.2.2.2.2]
theorem range'_app (s n : Nat) : List.range' s (n + 1) = List.range' s n ++ [s + n] := by
  have := @List.range'_concat 1 s n
  rwa [Nat.one_mul] at this
/-- the loop over a multi's keys -/
theorem m_loop18 (hd : 4 ≤ d) {nx0 mk p deep v B : Nat} {S0 : zS} (hp : p ≤ 300) (hdp : deep < 2000) (hs0 : sz ≤ 300) (hB3 : B ≤ 3000) (hv : v < 2147483648) :
    ∀ (n got : Nat) (S : zS) (at0 rd nx : Nat) (ks : List Nat), got + n = 17 → got ≤ 16 → zFin true S → mP tp sz S at0 rd nx (mk + got) → ks.length = got → nx = nx0 + got → mKy S nx0 nx nx (List.range' nx0 got) ks → (∀ k ∈ ks, k < 16) → mW S mk (List.range' nx0 got) → mFr B nx0 mk S0 S → rd ≤ 80 → nx + 2 * (sz - at0) + 3 ≤ B → mk + got + (sz - at0) ≤ 2000 →
    (∀ S' l at1 nx1, zFin true S' → pItems tp sz (pKey tp sz) 16 n got at0 rd = .ok (l, at1, rd) → mP tp sz S' at1 rd nx1 (mk + (ks ++ l).length) → nx1 = nx0 + (ks ++ l).length → mKy S' nx0 nx1 nx1 (List.range' nx0 (ks ++ l).length) (ks ++ l) → (∀ k ∈ ks ++ l, k < 16) → mW S' mk (List.range' nx0 (ks ++ l).length) → mFr B nx0 mk S0 S' → at0 ≤ at1 ∧ at1 ≤ sz ∧ nx1 + 2 * (sz - at1) ≤ nx + 2 * (sz - at0) ∧ mk + (ks ++ l).length + (sz - at1) ≤ 2000 ∧ (ks ++ l).length ≤ 16 ∧ 1 ≤ (ks ++ l).length →
      zEv d 156 131 [.ref 1592, .int (Int32.ofNat 18), .int (Int32.ofNat p), .retAddr 0, .int (Int32.ofNat v), .retAddr 0, .int (Int32.ofNat (ks ++ l).length), .int (Int32.ofNat mk), .retAddr 0, .retAddr 0] [] S' post) →
    (∀ S' k z, zFin true S' → pItems tp sz (pKey tp sz) 16 n got at0 rd = .error (k, z) → mFr B nx0 mk S0 S' → mX S' k z → post (.returned (some (.int (-1))), S')) →
    zEv d 156 30 [.ref 1592, .int (Int32.ofNat 18), .int (Int32.ofNat p), .int (Int32.ofNat deep), .int (Int32.ofNat v), .int (Int32.ofNat 16), .int (Int32.ofNat got), .int (Int32.ofNat mk), .retAddr 0, .retAddr 0] [] S post := by
  intro n
  induction n with
  | zero => intro got S at0 rd nx ks h1 h2; omega
  | succ n ih =>
    intro got S at0 rd nx ks hg hg2 hF hP hcl hnx hD hks hW hfr hrd hB hmk hOK hER
    have hs1 := hP.2.2.2.2
    have step : ∀ (S1 S2 : zS) (y : Nat), (got = 0 ∨ pSee tp sz at0 = 44) → ¬ got = 16 → pWant tp sz 44 at0 = .ok (at0 + 1) → mFr B nx (mk + got) S S1 → zFin true S2 → pKey tp sz (at0 + 1) rd = .ok (y, at0 + 1 + 1, rd) → y ≤ 15 → mFr B nx (mk + got) S1 S2 → mP tp sz S2 (at0 + 1 + 1) rd (nx + 1) (mk + got) → mKn S2 nx y → at0 + 1 + 1 ≤ sz →
        zEv d 156 30 [.ref 1592, .int (Int32.ofNat 18), .int (Int32.ofNat p), .int (Int32.ofNat deep), .int (Int32.ofNat v), .int (Int32.ofNat 16), .int (Int32.ofNat (got + 1)), .int (Int32.ofNat mk), .retAddr 0, .retAddr 0] [] (sI (sA S2 1619 (mk + got) (Int32.ofNat nx)) 97 1592 (Int32.ofNat (mk + got + 1))) post := by
      intro S1 S2 y hc hm e1 k1 f2 e2 hy k2 p2 n2 g2
      have kW : mFr B nx (mk + got) S2 (sI (sA S2 1619 (mk + got) (Int32.ofNat nx)) 97 1592 (Int32.ofNat (mk + got + 1))) := (mFr_sW (Nat.le_refl _)).tr (mFr_sI (by decide))
      have k3 := (k1.tr k2).tr kW
      have D3 := hD.eq (k3.eq (Nat.le_refl _))
      have D4 := mKy.app (S := sI (sA S2 1619 (mk + got) (Int32.ofNat nx)) 97 1592 (Int32.ofNat (mk + got + 1))) (lo := nx0) (hi := nx + 1) (i := nx + 1) (j := nx) (k := y) ⟨by omega, by omega, by omega⟩ ⟨n2.1, n2.2.1, n2.2.2⟩ (D3.up (Nat.le_refl _) (Nat.le_succ _) (Or.inl (Nat.le_succ _)))
      have W3 : mW (sI (sA S2 1619 (mk + got) (Int32.ofNat nx)) 97 1592 (Int32.ofNat (mk + got + 1))) mk (List.range' nx0 (got + 1)) := by
        rw [range'_app, ← hnx]
        have := mW_push (S1 := S2) hW (fun j hj => (k1.tr k2).2.2 j (by rw [List.length_range'] at hj; exact hj)) nx (Int32.ofNat (mk + got + 1))
        rw [List.length_range'] at this
        exact this
      have er : List.range' nx0 (got + 1) = List.range' nx0 got ++ [nx] := by rw [range'_app, ← hnx]
      refine ih (got + 1) _ (at0 + 1 + 1) rd (nx + 1) (ks ++ [y]) (by omega) (by omega) f2 (mP_push p2 _) (by rw [List.length_append, hcl]; rfl) (by omega) (by rw [er]; exact D4) (fun k hk => ?_) W3 (hfr.tr (k3.w (by omega) (by omega) (Nat.le_refl _))) hrd (by omega) (by omega) ?_ ?_
      · rcases List.mem_append.mp hk with e | e
        · exact hks k e
        · rw [List.mem_singleton.mp e]; omega
      · intro S' l at1 nx1 q1 q2 q3 q4 q5 q9 q6 q7 q8
        have el : ks ++ [y] ++ l = ks ++ y :: l := by simp
        rw [el] at q3 q4 q5 q6 q8 q9 ⊢
        exact hOK S' (y :: l) at1 nx1 q1 (pI_ok hc hm e1 e2 q2) q3 q4 q5 q9 q6 q7 ⟨by omega, q8.2.1, by omega, q8.2.2.2.1, q8.2.2.2.2⟩
      · intro S' k z q1 q2 q3 q4
        exact hER S' k z q1 (pI_e3 hc hm e1 e2 q2) q3 q4
    have wk : ∀ {S1 : zS}, mFr B nx (mk + got) S S1 → mFr B nx0 mk S0 S1 := fun k => hfr.tr (k.w (by omega) (by omega) (Nat.le_refl _))
    refine sl18 (d := d) (S := S) (B := B) (rec := fun _ _ _ => .error (0, 0)) hF (by omega) p deep v got hP hp hdp hrd hs0 hs1 hB hB3 hv hmk hg2 ?_ ?_ ?_ ?_ ?_ ?_ ?_ ?_
    · intro c0 c6 e6 b6 n6
      subst e6
      have := hOK S [] at0 nx hF (pI_stop c0 n6) (by rw [List.append_nil, hcl]; exact hP) (by rw [List.append_nil, hcl]; exact hnx) (by rw [List.append_nil, hcl]; exact hD) (by rw [List.append_nil]; exact hks) (by rw [List.append_nil, hcl]; exact hW) hfr (by rw [List.append_nil, hcl]; omega)
      rw [List.append_nil, hcl] at this
      exact this
    · intro c0 S9 f9 e9 k9 p9 S11 v11 f11 e11 b11 k11 p11 o11 g11
      exact step S9 S11 v11 (Or.inl c0) (by omega) e9 k9 f11 e11 b11 k11 p11 o11 g11
    · intro c0 c6 e6 b6 n6 m6 S9 f9 e9 k9 p9 S11 v11 f11 e11 b11 k11 p11 o11 g11
      exact step S9 S11 v11 (Or.inr (e6.trans n6)) m6 e9 k9 f11 e11 b11 k11 p11 o11 g11
    · intro c0 S9 f9 e9 k9 p9 S12 f12 e12 k12 x12
      exact hER S12 _ _ f12 (pI_e2 (Or.inl c0) (by omega) e9 e12) (wk (k9.tr k12)) x12
    · intro c0 S10 f10 e10 k10 x10 w10
      exact hER S10 _ _ f10 (pI_e1 (Or.inl c0) (by omega) e10) (wk k10) x10
    · intro c0 c6 e6 b6 n6 m6 S9 f9 e9 k9 p9 S12 f12 e12 k12 x12
      exact hER S12 _ _ f12 (pI_e2 (Or.inr (e6.trans n6)) m6 e9 e12) (wk (k9.tr k12)) x12
    · intro c0 c6 e6 b6 n6 m6 S10 f10 e10 k10 x10 w10
      exact hER S10 _ _ f10 (pI_e1 (Or.inr (e6.trans n6)) m6 e10) (wk k10) x10
    · intro c0 c6 e6 b6 n6 m6 S10 f10 k10 x10 v10
      exact hER S10 _ _ f10 (pI_most (Or.inr (e6.trans n6)) m6) (wk k10) x10
theorem mOp.w {S : zS} {n k v p : Nat} {js : List Nat} (h : mOp S n k v p js) (w : Int32) : mOp (sI S 97 1592 w) n k v p js := ⟨h.1, h.2.1, h.2.2.eq (fun _ _ => rfl)⟩
theorem m_judged18 {S : zS} (hF : zFin true S) (hd : 6 ≤ d) {at0 rd nx wt B n v p lo hi : Nat} {js ks : List Nat} (hP : mP tp sz S at0 rd nx wt) (hn : n < 3000) (hnB : n < B) (hl : lo ≤ n) (hh : n < hi) (hO : mOp S n 18 v p js) (hK : mKy S lo hi n js ks) (hj : js ≠ [])
    (h1 : ∀ S', zFin true S' → pJ (tN 18 v ks p []) = .ok (tN 18 v ks p []) → mFr B lo wt S S' → mP tp sz S' at0 rd nx wt → mT true S' lo hi (tN 18 v ks p []) n → post (.returned (some (.int (Int32.ofNat n))), S')) : zCall d 134 [.ref 1592, .int (Int32.ofNat n)] S post := by
  obtain ⟨⟨o1, o2, o3, o4, o5⟩, o6, o7⟩ := hO
  have hty : ty (tN 18 v ks p []) = some (0, 444, 0) := (ty_of (x := tN 18 v ks p []) (by rw [tN_Cs]; rfl)).trans (tyN_18 v)
  have hnn : n ∉ js := fun hm => (hK.mem n hm).2.2 rfl
  refine ju0 hF (by omega) n hP.1.2.2.1 hn ?_
  refine m_judges18 hF (by omega) hn o1 o5 hj o7 hK.kind hnn (fun S' kp m => ?_)
  show zEv d 134 12 _ [.int 1] S' post
  have hF' : zFin true S' := kp.1.fin hF
  have hP' : mP tp sz S' at0 rd nx wt := hP.tk kp.1 (by decide) (by decide)
  refine ju1 hF' n hP'.1.2.2.1 hn ?_
  have q : ∀ a, (a ≠ 1616 ∧ a ≠ 1617 ∧ a ≠ 1618) → gA S' a n = gA S a n := fun a ha => kp.A (Or.inr ha)
  refine h1 S' hF' ?_ (kp.fr hl hnB) hP' (mT_iff.mpr ⟨⟨hl, hh⟩, js, ⟨hn, (q _ (by decide)).trans o1, (q _ (by decide)).trans o2, (q _ (by decide)).trans o3, (q _ (by decide)).trans o6, ?_⟩, fun _ => ⟨_, hty, m⟩, ?_⟩)
  · unfold pJ; rw [hty]
  · rw [q _ (by decide)]; exact o7.eq (fun j _ => kp.A (Or.inr (by decide)))
  · rw [tN_K, if_pos rfl, tN_Ks, tN_Cs]
    exact ⟨hK.eq2 (fun j _ _ hj => ⟨kp.A (Or.inl hj), kp.A (Or.inl hj), kp.A (Or.inl hj)⟩), rfl⟩
theorem adK.fr {S S' : zS} {n nx B wt : Nat} {is : List Nat} (h : adK S n is S') (h1 : nx ≤ n) (h2 : n < B) (h3 : ∀ i ∈ is, nx ≤ i ∧ i < B) : mFr B nx wt S S' := by
  refine ⟨h.1.w (by decide) (by decide), fun j hj a ha => ?_, fun j _ => h.A (by decide)⟩
  have hjn : j ≠ n := by omega
  by_cases e1 : a = 1614
  · subst e1; exact (h.2.1 j hjn).1
  by_cases e2 : a = 1612
  · subst e2; exact (h.2.1 j hjn).2
  by_cases e3 : a = 1613
  · subst e3; exact h.2.2 j (fun hm => by have := h3 j hm; omega)
  exact h.A (by simp only [List.mem_cons, List.not_mem_nil, or_false]; omega)
theorem mDs.ad {S S' : zS} {n : Nat} {cs : List zNd} {rs : List (Nat × Nat × Nat)} (hD : mDs S n cs rs) (h : adK S n (rs.map (·.1)) S') : mDs S' n cs rs := by
  have hrg := hD.rng
  refine hD.eq ?_ ?_
  · intro r hr1 j h1 h2
    have hjn : j ≠ n := by have := hrg r hr1; omega
    exact ⟨h.A (by decide), h.A (by decide), h.A (by decide), (h.2.1 j hjn).1, (h.2.1 j hjn).2, h.A (by decide), h.A (by decide), h.A (by decide)⟩
  · intro r hr1 j h1 h2 h3
    refine h.2.2 j (fun hm => ?_)
    obtain ⟨q, hq, e⟩ := List.mem_map.mp hm
    have g1 := hrg q hq
    rcases hD.apart r hr1 q hq with e2 | e2
    · subst e2; exact h3 e.symm
    · have e' : q.1 = j := e
      omega
theorem pWant_see {c at0 a : Nat} (h : pWant tp sz c at0 = .ok a) : pSee tp sz at0 = c := by
  unfold pWant at h
  split at h
  · assumption
  · cases h
theorem m_several17 {S : zS} (hF : zFin true S) (hd : 10 ≤ d) {at0 rd nx wt B p deep : Nat} {rec : Nat → Nat → Nat → pE (zNd × Nat × Nat)} (hP : mP tp sz S at0 rd nx wt) (hp : p ≤ 300) (hdp : deep < 2000) (hrd : rd ≤ 80) (hB : nx + 2 * (sz - at0) + 3 ≤ B) (hB3 : B ≤ 3000) (hwt : wt + (sz - at0) ≤ 2000) (hR : mRd tp sz B (d - 1) (deep + 1) rec)
    (h : ∀ S' q, mEnd tp sz B nx wt S (pIn tp sz rec 17 p deep at0 rd) (fun at1 => nx + 2 * (at1 - at0)) q S' → post (.returned (some (.int q)), S')) : zCall d 156 [.ref 1592, .int (Int32.ofNat 17), .int (Int32.ofNat p), .int (Int32.ofNat deep)] S post := by
  have hs0 := hP.2.2.2.1
  have ha0 := hP.2.2.2.2
  have eU : pIn tp sz rec 17 p deep at0 rd = (do
      let q ← pNum tp sz at0
      let r ← pItems tp sz (rec (deep + 1)) 12 13 0 q.2 rd
      if r.1.length < q.1 then .error (1, r.2.1) else do
        let at1 ← pWant tp sz 41 r.2.1
        let x ← pJ (tN 17 q.1 [] p r.1)
        .ok (x, at1, r.2.2)) := rfl
  refine sv0_17 (B := B) hF (by omega) p deep hP hp hdp hs0 (by omega) ?_ ?_
  · intro S1 v at1 f1 e1 a1 b1 c1 g1 k1 p1
    refine m_loop17 (d := d) (B := B) (rec := rec) (S0 := S) (nx0 := nx) (mk := wt) (p := p) (deep := deep) (v := v) (by omega) hp hdp hs0 hB3 b1 hR 13 0 S1 at1 rd nx [] [] rfl (by omega) f1 p1 rfl trivial (fun r hr => by cases hr) (fun i hi => by cases hi) k1 (Nat.le_refl _) hrd (by omega) (by omega) ?_ ?_
    · intro S2 l rs at2 rd2 nx2 f2 e2 p2 D2 r2 W2 k2 g2
      rw [List.nil_append] at p2 D2 g2 ⊢
      have hrl : rs.length = l.length := D2.len.symm
      refine se17 (d := d) (S := S2) (B := B) (rec := rec) f2 (by omega) p deep v l.length p2 hp hdp g2.2.1 hs0 g2.2.2.2.1 (by omega) hB3 b1 (by omega) (by omega) ?_ ?_ ?_
      · intro c5 e5 b5 n5 S11 f11 e11 k11 p11 S17 f17 k17 p17 o17
        have hvl : ¬ l.length < v := by
          have := (pWant_see e11).symm.trans e5
          omega
        have k27 : mFr B nx2 (wt + l.length) S2 S17 := k11.tr k17
        have D17 : mDs S17 nx2 l rs := D2.fr k27 (fun r hr => (r2 r hr).2)
        have hrg := D17.rng
        have hnd := D17.nodup
        have hin : ∀ i ∈ rs.map (·.1), nx ≤ i ∧ i < nx2 ∧ i < 3000 := fun i hi => by
          obtain ⟨r, hr, e⟩ := List.mem_map.mp hi
          have e' : r.1 = i := e
          have := hrg r hr
          have := r2 r hr
          omega
        have hlen : (rs.map (·.1)).length = l.length := by rw [List.length_map, hrl]
        have W17 : mW S17 wt (rs.map (·.1)) := fun i hi => (k27.2.2 _ (by rw [hlen] at hi; omega)).trans (W2 i hi)
        have := m_adoptL (d := d) (post := post) (n := nx2) (k := 17) (v := v) (p := p) (mk := wt) (is := rs.map (·.1)) (S0 := S17) (by omega) (by omega) (fun i hi => (hin i hi).2.2) hnd (by omega) (by omega) (by rw [hlen]; exact p17.1.2.2.2.2.2) W17 ?_ (rs.map (·.1)) [] S17 rfl f17 adK.rf o17
        · rw [List.length_nil, Nat.add_zero] at this
          exact this
        · intro S18 f18 a18 o18
          refine sv220 (S := S18) f18 (by omega) wt nx2 (by omega) (by omega) ?_
          have p18 := mP_drop (p17.tk a18.1 (by decide) (by decide)) wt
          have k18 : mFr B nx wt S17 S18 := a18.fr (by omega) (by omega) (fun i hi => by have := hin i hi; omega)
          have D18 : mDs (sI S18 97 1592 (Int32.ofNat wt)) nx2 l rs := (D17.ad a18).eq (fun _ _ j _ _ => ⟨rfl, rfl, rfl, rfl, rfl, rfl, rfl, rfl⟩) (fun _ _ j _ _ _ => rfl)
          have k0 : mFr B nx wt S (sI S18 97 1592 (Int32.ofNat wt)) := ((k2.tr (k27.w (by omega) (by omega) (Nat.le_refl _))).tr k18).tr (mFr_sI (by decide))
          refine m_judged (S := sI S18 97 1592 (Int32.ofNat wt)) (k := 17) (v := v) (p := p) (cs := l) (rs := rs) (B := B) (lo := nx) (hi := nx2 + 1) f18 (by omega) p18 (by omega) (by omega) (by omega) (by omega) (o18.w _) D18 (fun r hr => by have := r2 r hr; omega) (by omega) (by omega) b1 (fun _ => a1) hp ⟨by omega, by omega, by omega, by intro _; omega, by omega⟩ (fun S19 f19 e19 k19 t19 j19 p19 m19 => ?_) (fun S19 f19 e19 k19 x19 => ?_)
          · show zEv d 156 232 _ [.int (Int32.ofNat nx2)] S19 post
            refine zEv.wk (by repeat' (first | exact trivial | exact Or.inl rfl | exact Or.inr rfl | refine ⟨?_, ?_⟩)) (sv232 (S := S19) f19 _ ?_)
            refine h S19 _ (mEnd.good f19 (k0.tr k19) m19 p19 (by omega) ?_)
            refine eU.trans ((pb_ok e1).trans ((pb_ok e2).trans ?_))
            show (if l.length < v then _ else _) = _
            rw [if_neg hvl]
            exact (pb_ok e11).trans ((pb_ok e19).trans rfl)
          · show zEv d 156 232 _ [.int (Int32.ofNat nx2)] S19 post
            refine zEv.wk (by repeat' (first | exact trivial | exact Or.inl rfl | exact Or.inr rfl | refine ⟨?_, ?_⟩)) (sv232 (S := S19) f19 _ ?_)
            refine h S19 _ (mEnd.err f19 (k0.tr k19) x19 ?_)
            refine eU.trans ((pb_ok e1).trans ((pb_ok e2).trans ?_))
            show (if l.length < v then _ else _) = _
            rw [if_neg hvl]
            exact (pb_ok e11).trans (pb_er e19)
      · intro c5 e5 b5 n5 S12 f12 e12 k12 x12
        refine h S12 _ (mEnd.err f12 (k2.tr (k12.w (by omega) (by omega) (Nat.le_refl _))) x12 ?_)
        refine eU.trans ((pb_ok e1).trans ((pb_ok e2).trans ?_))
        show (if l.length < v then _ else _) = _
        by_cases hvl : l.length < v
        · rw [if_pos hvl]
        · rw [if_neg hvl]; exact pb_er e12
      · intro c5 e5 b5 n5 m5 S8 f8 k8 x8 v8
        refine h S8 _ (mEnd.err f8 (k2.tr (k8.w (by omega) (by omega) (Nat.le_refl _))) x8 ?_)
        refine eU.trans ((pb_ok e1).trans ((pb_ok e2).trans ?_))
        show (if l.length < v then _ else _) = _
        rw [if_pos (by omega)]
    · intro S2 k z f2 e2 k2 x2
      exact h S2 _ (mEnd.err f2 k2 x2 (eU.trans ((pb_ok e1).trans (pb_er e2))))
  · intro S2 u2 z2 f2 e2 g2 k2 x2
    refine zEv.wk (by repeat' (first | exact trivial | exact Or.inl rfl | exact Or.inr rfl | refine ⟨?_, ?_⟩)) (svX (S := S2) (k := 1) (q := z2) f2 (by omega) _ _ _ _ _ _ _ x2.1 x2 (by omega) (by omega) ?_)
    exact h S2 _ (mEnd.err f2 k2 x2 (eU.trans (pb_er e2)))
theorem m_several18 {S : zS} (hF : zFin true S) (hd : 10 ≤ d) {at0 rd nx wt B p deep : Nat} {rec : Nat → Nat → Nat → pE (zNd × Nat × Nat)} (hP : mP tp sz S at0 rd nx wt) (hp : p ≤ 300) (hdp : deep < 2000) (hrd : rd ≤ 80) (hB : nx + 2 * (sz - at0) + 3 ≤ B) (hB3 : B ≤ 3000) (hwt : wt + (sz - at0) ≤ 2000)
    (h : ∀ S' q, mEnd tp sz B nx wt S (pIn tp sz rec 18 p deep at0 rd) (fun at1 => nx + 2 * (at1 - at0)) q S' → post (.returned (some (.int q)), S')) : zCall d 156 [.ref 1592, .int (Int32.ofNat 18), .int (Int32.ofNat p), .int (Int32.ofNat deep)] S post := by
  have hs0 := hP.2.2.2.1
  have ha0 := hP.2.2.2.2
  have eU : pIn tp sz rec 18 p deep at0 rd = (do
      let q ← pNum tp sz at0
      let r ← pItems tp sz (pKey tp sz) 16 17 0 q.2 rd
      if r.1.length < q.1 then .error (1, r.2.1) else do
        let at1 ← pWant tp sz 41 r.2.1
        let x ← pJ (tN 18 q.1 r.1 p [])
        .ok (x, at1, r.2.2)) := rfl
  refine sv0_18 (B := B) hF (by omega) p deep hP hp hdp hs0 (by omega) ?_ ?_
  · intro S1 v at1 f1 e1 a1 b1 c1 g1 k1 p1
    refine m_loop18 (d := d) (B := B) (S0 := S) (nx0 := nx) (mk := wt) (p := p) (deep := deep) (v := v) (by omega) hp hdp hs0 hB3 b1 17 0 S1 at1 rd nx [] rfl (by omega) f1 p1 rfl rfl trivial (fun r hr => by cases hr) (fun i hi => by cases hi) k1 hrd (by omega) (by omega) ?_ ?_
    · intro S2 l at2 nx2 f2 e2 p2 x2 D2 h16 W2 k2 g2
      rw [List.nil_append] at p2 D2 g2 W2 x2 ⊢
      refine se18 (d := d) (S := S2) (B := B) (rec := fun _ _ _ => .error (0, 0)) f2 (by omega) p deep v l.length p2 hp hdp hrd hs0 g2.2.1 (by omega) hB3 b1 (by omega) (by omega) ?_ ?_ ?_
      · intro c5 e5 b5 n5 S11 f11 e11 k11 p11 S17 f17 k17 p17 o17
        have hvl : ¬ l.length < v := by
          have := (pWant_see e11).symm.trans e5
          omega
        have k27 : mFr B nx2 (wt + l.length) S2 S17 := k11.tr k17
        have D17 : mKy S17 nx nx2 nx2 (List.range' nx l.length) l := D2.eq (k27.eq (Nat.le_refl _))
        have hnd : (List.range' nx l.length).Nodup := List.nodup_range'
        have hin : ∀ i ∈ List.range' nx l.length, nx ≤ i ∧ i < nx2 := fun i hi => ⟨(D17.mem i hi).1, (D17.mem i hi).2.1⟩
        have hlen : (List.range' nx l.length).length = l.length := List.length_range'
        have W17 : mW S17 wt (List.range' nx l.length) := fun i hi => (k27.2.2 _ (by rw [hlen] at hi; omega)).trans (W2 i hi)
        have := m_adoptL (d := d) (post := post) (n := nx2) (k := 18) (v := v) (p := p) (mk := wt) (is := List.range' nx l.length) (S0 := S17) (by omega) (by omega) (fun i hi => by have := hin i hi; omega) hnd (by omega) (by omega) (by rw [hlen]; exact p17.1.2.2.2.2.2) W17 ?_ (List.range' nx l.length) [] S17 rfl f17 adK.rf o17
        · rw [List.length_nil, Nat.add_zero] at this
          exact this
        · intro S18 f18 a18 o18
          refine sv220 (S := S18) f18 (by omega) wt nx2 (by omega) (by omega) ?_
          have p18 := mP_drop (p17.tk a18.1 (by decide) (by decide)) wt
          have k18 : mFr B nx wt S17 S18 := a18.fr (by omega) (by omega) (fun i hi => by have := hin i hi; omega)
          have D18 : mKy (sI S18 97 1592 (Int32.ofNat wt)) nx (nx2 + 1) nx2 (List.range' nx l.length) l := (D17.eq2 (S' := sI S18 97 1592 (Int32.ofNat wt)) (fun j _ _ hj => ⟨a18.A (by decide), a18.A (by decide), (a18.2.1 j hj).2⟩)).up (Nat.le_refl _) (Nat.le_succ _) (Or.inl (Nat.le_refl _))
          have k0 : mFr B nx wt S (sI S18 97 1592 (Int32.ofNat wt)) := ((k2.tr (k27.w (by omega) (by omega) (Nat.le_refl _))).tr k18).tr (mFr_sI (by decide))
          refine m_judged18 (S := sI S18 97 1592 (Int32.ofNat wt)) (v := v) (p := p) (B := B) (lo := nx) (hi := nx2 + 1) f18 (by omega) p18 (by omega) (by omega) (by omega) (by omega) (o18.w _) D18 (fun e => by rw [e] at hlen; simp at hlen; omega) (fun S19 f19 e19 k19 p19 m19 => ?_)
          show zEv d 156 232 _ [.int (Int32.ofNat nx2)] S19 post
          refine zEv.wk (by repeat' (first | exact trivial | exact Or.inl rfl | exact Or.inr rfl | refine ⟨?_, ?_⟩)) (sv232 (S := S19) f19 _ ?_)
          refine h S19 _ (mEnd.good f19 (k0.tr k19) m19 p19 (by omega) ?_)
          refine eU.trans ((pb_ok e1).trans ((pb_ok e2).trans ?_))
          show (if l.length < v then _ else _) = _
          rw [if_neg hvl]
          exact (pb_ok e11).trans ((pb_ok e19).trans rfl)
      · intro c5 e5 b5 n5 S12 f12 e12 k12 x12
        refine h S12 _ (mEnd.err f12 (k2.tr (k12.w (by omega) (by omega) (Nat.le_refl _))) x12 ?_)
        refine eU.trans ((pb_ok e1).trans ((pb_ok e2).trans ?_))
        show (if l.length < v then _ else _) = _
        by_cases hvl : l.length < v
        · rw [if_pos hvl]
        · rw [if_neg hvl]; exact pb_er e12
      · intro c5 e5 b5 n5 m5 S8 f8 k8 x8 v8
        refine h S8 _ (mEnd.err f8 (k2.tr (k8.w (by omega) (by omega) (Nat.le_refl _))) x8 ?_)
        refine eU.trans ((pb_ok e1).trans ((pb_ok e2).trans ?_))
        show (if l.length < v then _ else _) = _
        rw [if_pos (by omega)]
    · intro S2 k z f2 e2 k2 x2
      exact h S2 _ (mEnd.err f2 k2 x2 (eU.trans ((pb_ok e1).trans (pb_er e2))))
  · intro S2 u2 z2 f2 e2 g2 k2 x2
    refine zEv.wk (by repeat' (first | exact trivial | exact Or.inl rfl | exact Or.inr rfl | refine ⟨?_, ?_⟩)) (svX (S := S2) (k := 1) (q := z2) f2 (by omega) _ _ _ _ _ _ _ x2.1 x2 (by omega) (by omega) ?_)
    exact h S2 _ (mEnd.err f2 k2 x2 (eU.trans (pb_er e2)))
end Q17
theorem is17 {d : Nat} {S : zS} (hF : zFin true S) (hd : 1 ≤ d) (p deep : Nat)  (h_fault : gI S 91 1592 = Int32.ofNat 0) (hp : p ≤ 300) (hdp : deep < 2000) {post : Outcome × zS → Prop} (h1 : zCall (d - 1) 156 [.ref 1592, .int 17, .int (Int32.ofNat p), .int (Int32.ofNat deep)] S (zAf d 151 196 [.ref 1592, .int 17, .int (Int32.ofNat p), .int (Int32.ofNat deep), .retAddr 0, .retAddr 0, .retAddr 0, .retAddr 0, .retAddr 0] [] post)) : zCall d 151 [.ref 1592, .int 17, .int (Int32.ofNat p), .int (Int32.ofNat deep)] S post := by
  have ht : ztab 151 = ztb151 := rfl
  show zEv d 151 0 [.ref 1592, .int 17, .int (Int32.ofNat p), .int (Int32.ofNat deep), .retAddr 0, .retAddr 0, .retAddr 0, .retAddr 0, .retAddr 0] [] S post
  refine zv_c1 ht rfl rfl ?_
  have C2 : ∀ (pst1 : Outcome × zS → Prop), (pst1 (.returned (some (.int 1)), S)) → zCall (d - 1) 125 [.ref 1592] S pst1 := by
    intro pst1 k4
    have ht3 : ztab 125 = ztb125 := rfl
    show zEv (d - 1) 125 0 [.ref 1592] [] S pst1
    refine zv_c1 ht3 rfl rfl ?_
    refine zv_e1 (x := 0) ht3 rfl rfl h_fault ?_
    refine zv_br ht3 rfl rfl rfl (fun h => absurd h (by decide)) (fun _ => ?_)
    refine zv_c1 ht3 rfl rfl (zv_c1 ht3 rfl rfl ?_)
    exact zv_rc ht3 rfl rfl rfl rfl (by decide) k4
  refine zv_cl ht rfl rfl rfl rfl (by omega) (Nat.le_of_ble_eq_true rfl) (C2 _ ?_)
  show zEv d 151 4 [.ref 1592, .int 17, .int (Int32.ofNat p), .int (Int32.ofNat deep), .retAddr 0, .retAddr 0, .retAddr 0, .retAddr 0, .retAddr 0] [.int 1] S post
  refine zv_br ht rfl rfl rfl (fun _ => ?_) (fun h => absurd (by decide) h)
  refine zv_c1 ht rfl rfl (zv_c1 ht rfl rfl ?_)
  refine zv_br ht rfl rfl rfl (fun h => absurd h (by decide)) (fun _ => ?_)
  refine zv_c1 ht rfl rfl (zv_c1 ht rfl rfl ?_)
  refine zv_br ht rfl rfl rfl (fun h => absurd h (by decide)) (fun _ => ?_)
  refine zv_c1 ht rfl rfl (zv_c1 ht rfl rfl ?_)
  refine zv_br ht rfl rfl rfl (fun h => absurd h (by decide)) (fun _ => ?_)
  refine zv_c1 ht rfl rfl (zv_c1 ht rfl rfl ?_)
  refine zv_br ht rfl rfl rfl (fun _ => ?_) (fun h => absurd (by decide) h)
  refine zv_c1 ht rfl rfl (zv_c1 ht rfl rfl ?_)
  refine zv_br ht rfl rfl rfl (fun h => absurd h (by decide)) (fun _ => ?_)
  refine zv_c1 ht rfl rfl (zv_c1 ht rfl rfl ?_)
  refine zv_br ht rfl rfl rfl (fun h => absurd h (by decide)) (fun _ => ?_)
  refine zv_c1 ht rfl rfl (zv_c1 ht rfl rfl (zv_c1 ht rfl rfl ?_))
  have C6 : ∀ (pst5 : Outcome × zS → Prop), (pst5 (.returned (some (.int 0)), S)) → zCall (d - 1) 102 [.int 17, .int 6, .int 9] S pst5 := by
    intro pst5 k8
    have ht7 : ztab 102 = ztb102 := rfl
    show zEv (d - 1) 102 0 [.int 17, .int 6, .int 9] [] S pst5
    refine zv_c1 ht7 rfl rfl (zv_c1 ht7 rfl rfl ?_)
    refine zv_br ht7 rfl rfl rfl (fun h => absurd h (by decide)) (fun _ => ?_)
    refine zv_c1 ht7 rfl rfl (zv_c1 ht7 rfl rfl ?_)
    refine zv_br ht7 rfl rfl rfl (fun _ => ?_) (fun h => absurd (by decide) h)
    refine zv_c1 ht7 rfl rfl ?_
    exact zv_rc ht7 rfl rfl rfl rfl (by decide) k8
  refine zv_cl ht rfl rfl rfl rfl (by omega) (Nat.le_of_ble_eq_true rfl) (C6 _ ?_)
  show zEv d 151 124 [.ref 1592, .int 17, .int (Int32.ofNat p), .int (Int32.ofNat deep), .retAddr 0, .retAddr 0, .retAddr 0, .retAddr 0, .retAddr 0] [.int 0] S post
  refine zv_br ht rfl rfl rfl (fun _ => ?_) (fun h => absurd (by decide) h)
  refine zv_c1 ht rfl rfl (zv_c1 ht rfl rfl ?_)
  refine zv_br ht rfl rfl rfl (fun _ => ?_) (fun h => absurd (by decide) h)
  refine zv_c1 ht rfl rfl (zv_c1 ht rfl rfl (zv_c1 ht rfl rfl (zv_c1 ht rfl rfl ?_)))
  refine zv_cl ht rfl rfl rfl rfl (by omega) (Nat.le_of_ble_eq_true rfl) h1

theorem is18 {d : Nat} {S : zS} (hF : zFin true S) (hd : 1 ≤ d) (p deep : Nat)  (h_fault : gI S 91 1592 = Int32.ofNat 0) (hp : p ≤ 300) (hdp : deep < 2000) {post : Outcome × zS → Prop} (h1 : zCall (d - 1) 156 [.ref 1592, .int 18, .int (Int32.ofNat p), .int (Int32.ofNat deep)] S (zAf d 151 196 [.ref 1592, .int 18, .int (Int32.ofNat p), .int (Int32.ofNat deep), .retAddr 0, .retAddr 0, .retAddr 0, .retAddr 0, .retAddr 0] [] post)) : zCall d 151 [.ref 1592, .int 18, .int (Int32.ofNat p), .int (Int32.ofNat deep)] S post := by
  have ht : ztab 151 = ztb151 := rfl
  show zEv d 151 0 [.ref 1592, .int 18, .int (Int32.ofNat p), .int (Int32.ofNat deep), .retAddr 0, .retAddr 0, .retAddr 0, .retAddr 0, .retAddr 0] [] S post
  refine zv_c1 ht rfl rfl ?_
  have C2 : ∀ (pst1 : Outcome × zS → Prop), (pst1 (.returned (some (.int 1)), S)) → zCall (d - 1) 125 [.ref 1592] S pst1 := by
    intro pst1 k4
    have ht3 : ztab 125 = ztb125 := rfl
    show zEv (d - 1) 125 0 [.ref 1592] [] S pst1
    refine zv_c1 ht3 rfl rfl ?_
    refine zv_e1 (x := 0) ht3 rfl rfl h_fault ?_
    refine zv_br ht3 rfl rfl rfl (fun h => absurd h (by decide)) (fun _ => ?_)
    refine zv_c1 ht3 rfl rfl (zv_c1 ht3 rfl rfl ?_)
    exact zv_rc ht3 rfl rfl rfl rfl (by decide) k4
  refine zv_cl ht rfl rfl rfl rfl (by omega) (Nat.le_of_ble_eq_true rfl) (C2 _ ?_)
  show zEv d 151 4 [.ref 1592, .int 18, .int (Int32.ofNat p), .int (Int32.ofNat deep), .retAddr 0, .retAddr 0, .retAddr 0, .retAddr 0, .retAddr 0] [.int 1] S post
  refine zv_br ht rfl rfl rfl (fun _ => ?_) (fun h => absurd (by decide) h)
  refine zv_c1 ht rfl rfl (zv_c1 ht rfl rfl ?_)
  refine zv_br ht rfl rfl rfl (fun h => absurd h (by decide)) (fun _ => ?_)
  refine zv_c1 ht rfl rfl (zv_c1 ht rfl rfl ?_)
  refine zv_br ht rfl rfl rfl (fun h => absurd h (by decide)) (fun _ => ?_)
  refine zv_c1 ht rfl rfl (zv_c1 ht rfl rfl ?_)
  refine zv_br ht rfl rfl rfl (fun h => absurd h (by decide)) (fun _ => ?_)
  refine zv_c1 ht rfl rfl (zv_c1 ht rfl rfl ?_)
  refine zv_br ht rfl rfl rfl (fun _ => ?_) (fun h => absurd (by decide) h)
  refine zv_c1 ht rfl rfl (zv_c1 ht rfl rfl ?_)
  refine zv_br ht rfl rfl rfl (fun h => absurd h (by decide)) (fun _ => ?_)
  refine zv_c1 ht rfl rfl (zv_c1 ht rfl rfl ?_)
  refine zv_br ht rfl rfl rfl (fun h => absurd h (by decide)) (fun _ => ?_)
  refine zv_c1 ht rfl rfl (zv_c1 ht rfl rfl (zv_c1 ht rfl rfl ?_))
  have C6 : ∀ (pst5 : Outcome × zS → Prop), (pst5 (.returned (some (.int 0)), S)) → zCall (d - 1) 102 [.int 18, .int 6, .int 9] S pst5 := by
    intro pst5 k8
    have ht7 : ztab 102 = ztb102 := rfl
    show zEv (d - 1) 102 0 [.int 18, .int 6, .int 9] [] S pst5
    refine zv_c1 ht7 rfl rfl (zv_c1 ht7 rfl rfl ?_)
    refine zv_br ht7 rfl rfl rfl (fun h => absurd h (by decide)) (fun _ => ?_)
    refine zv_c1 ht7 rfl rfl (zv_c1 ht7 rfl rfl ?_)
    refine zv_br ht7 rfl rfl rfl (fun _ => ?_) (fun h => absurd (by decide) h)
    refine zv_c1 ht7 rfl rfl ?_
    exact zv_rc ht7 rfl rfl rfl rfl (by decide) k8
  refine zv_cl ht rfl rfl rfl rfl (by omega) (Nat.le_of_ble_eq_true rfl) (C6 _ ?_)
  show zEv d 151 124 [.ref 1592, .int 18, .int (Int32.ofNat p), .int (Int32.ofNat deep), .retAddr 0, .retAddr 0, .retAddr 0, .retAddr 0, .retAddr 0] [.int 0] S post
  refine zv_br ht rfl rfl rfl (fun _ => ?_) (fun h => absurd (by decide) h)
  refine zv_c1 ht rfl rfl (zv_c1 ht rfl rfl ?_)
  refine zv_br ht rfl rfl rfl (fun h => absurd h (by decide)) (fun _ => ?_)
  refine zv_c1 ht rfl rfl (zv_c1 ht rfl rfl ?_)
  refine zv_br ht rfl rfl rfl (fun h => absurd h (by decide)) (fun _ => ?_)
  refine zv_c1 ht rfl rfl (zv_c1 ht rfl rfl (zv_c1 ht rfl rfl (zv_c1 ht rfl rfl ?_)))
  refine zv_cl ht rfl rfl rfl rfl (by omega) (Nat.le_of_ble_eq_true rfl) h1

theorem isX {d : Nat} {S : zS} (hF : zFin true S) (hd : 1 ≤ d) (k : Nat) (y1 y2 y3 : Int32)  (h_fault : gI S 91 1592 = Int32.ofNat k) (hk : 0 < k) (hk4 : k < 4) {post : Outcome × zS → Prop} (h1 : post (.returned (some (.int (-1))), S)) : zCall d 151 [.ref 1592, .int y1, .int y2, .int y3] S post := by
  have ht : ztab 151 = ztb151 := rfl
  show zEv d 151 0 [.ref 1592, .int y1, .int y2, .int y3, .retAddr 0, .retAddr 0, .retAddr 0, .retAddr 0, .retAddr 0] [] S post
  refine zv_c1 ht rfl rfl ?_
  have C2 : ∀ (pst1 : Outcome × zS → Prop), (pst1 (.returned (some (.int 0)), S)) → zCall (d - 1) 125 [.ref 1592] S pst1 := by
    intro pst1 k5
    have ht3 : ztab 125 = ztb125 := rfl
    show zEv (d - 1) 125 0 [.ref 1592] [] S pst1
    refine zv_c1 ht3 rfl rfl ?_
    refine zv_e1 (x := Int32.ofNat k) ht3 rfl rfl h_fault ?_
    refine zv_br ht3 rfl rfl rfl (fun b4 => ?_) (fun b4 => (show False from by have hq := b4; have hz : k = 0 := (zi_eqE (a := k) (b := 0) rfl rfl (by omega) (by omega)).mp (Classical.not_not.mp hq); omega).elim)
    refine zv_c1 ht3 rfl rfl ?_
    exact zv_rc ht3 rfl rfl rfl rfl (by decide) k5
  refine zv_cl ht rfl rfl rfl rfl (by omega) (Nat.le_of_ble_eq_true rfl) (C2 _ ?_)
  show zEv d 151 4 [.ref 1592, .int y1, .int y2, .int y3, .retAddr 0, .retAddr 0, .retAddr 0, .retAddr 0, .retAddr 0] [.int 0] S post
  refine zv_br ht rfl rfl rfl (fun h => absurd h (by decide)) (fun _ => ?_)
  refine zv_c1 ht rfl rfl ?_
  exact zv_rt ht rfl rfl rfl rfl h1

theorem is199 {d : Nat} {S : zS} (hF : zFin true S) (y : Int32) {post : Outcome × zS → Prop} (h1 : post (.returned (some (.int y)), S)) : zEv d 151 199 [.retAddr 0, .retAddr 0, .retAddr 0, .retAddr 0, .retAddr 0, .retAddr 0, .retAddr 0, .retAddr 0, .retAddr 0] [.int y] S post := by
  have ht : ztab 151 = ztb151 := rfl
  exact zv_rt ht rfl rfl rfl rfl h1


