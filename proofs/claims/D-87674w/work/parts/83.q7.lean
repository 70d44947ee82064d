set_option maxRecDepth 100000
/-! ===== the twin judges what it has built ===== -/
theorem ju1 {d : Nat} {S : zS} (hF : zFin true S) (n : Nat)  (h_fault : gI S 91 1592 = Int32.ofNat 0) (hn : n < 3000) {post : Outcome × zS → Prop} (h1 : post (.returned (some (.int (Int32.ofNat n))), S)) : zEv d 134 12 [.ref 1592, .int (Int32.ofNat n)] [.int 1] S post := by
  have ht : ztab 134 = ztb134 := rfl
  refine zv_br ht rfl rfl rfl (fun _ => ?_) (fun h => absurd (by decide) h)
  refine zv_c1 ht rfl rfl ?_
  exact zv_rt ht rfl rfl rfl rfl h1

theorem ju2 {d : Nat} {S : zS} (hF : zFin true S) (hd : 1 ≤ d) (n p : Nat)  (h_fault : gI S 91 1592 = Int32.ofNat 0) (hn : n < 3000) (hp1 : p ≤ 300) (hp : gA S 1615 n = Int32.ofNat p) {post : Outcome × zS → Prop} (h1 : post (.returned (some (.int (Int32.ofNat n))), sI (sI S 91 1592 3) 92 1592 (Int32.ofNat p))) : zEv d 134 12 [.ref 1592, .int (Int32.ofNat n)] [.int 0] S post := by
  have ht : ztab 134 = ztb134 := rfl
  refine zv_br ht rfl rfl rfl (fun h => absurd h (by decide)) (fun _ => ?_)
  refine zv_c1 ht rfl rfl (zv_c1 ht rfl rfl (zv_c1 ht rfl rfl ?_))
  refine zv_gl (st' := [.ref 1615, .int 3, .ref 1592]) ht rfl hF rfl rfl rfl ?_
  refine zv_c1 ht rfl rfl ?_
  refine zv_iaE (j := n) (x := Int32.ofNat p) ht rfl rfl rfl rfl (zi_natE (a := n) rfl (by omega)) ⟨(Or.inl rfl), zi_inE (a := n) (n := 3000) rfl (by omega) (by omega)⟩ hp ?_
  have C2 : ∀ (pst1 : Outcome × zS → Prop), (pst1 (.returned none, sI (sI S 91 1592 3) 92 1592 (Int32.ofNat p))) → zCall (d - 1) 128 [.ref 1592, .int 3, .int (Int32.ofNat p)] S pst1 := by
    intro pst1 k4
    have ht3 : ztab 128 = ztb128 := rfl
    show zEv (d - 1) 128 0 [.ref 1592, .int 3, .int (Int32.ofNat p)] [] S pst1
    refine zv_c1 ht3 rfl rfl ?_
    refine zv_e1 (x := 0) ht3 rfl rfl h_fault ?_
    refine zv_br ht3 rfl rfl rfl (fun _ => ?_) (fun h => absurd (by decide) h)
    refine zv_c1 ht3 rfl rfl (zv_c1 ht3 rfl rfl ?_)
    refine zv_c1 (S' := sI S 91 1592 3) ht3 rfl rfl ?_
    refine zv_c1 ht3 rfl rfl (zv_c1 ht3 rfl rfl ?_)
    refine zv_c1 (S' := sI (sI S 91 1592 3) 92 1592 (Int32.ofNat p)) ht3 rfl rfl ?_
    exact zv_rt ht3 rfl rfl rfl rfl k4
  refine zv_cl ht rfl rfl rfl rfl (by omega) (Nat.le_of_ble_eq_true rfl) (C2 _ ?_)
  show zEv d 134 26 [.ref 1592, .int (Int32.ofNat n)] [] (sI (sI S 91 1592 3) 92 1592 (Int32.ofNat p)) post
  refine zv_c1 ht rfl rfl ?_
  exact zv_rt ht rfl rfl rfl rfl h1

section Q7
variable {d : Nat} {post : Outcome × zS → Prop} {tp : Nat → Nat} {sz : Nat}
theorem jKp.A {S S' : zS} {n : Nat} (h : jKp S n S') {a j : Nat} (ha : j ≠ n ∨ (a ≠ 1616 ∧ a ≠ 1617 ∧ a ≠ 1618)) : gA S' a j = gA S a j := by
  by_cases e1 : a = 1616
  · subst e1; exact (h.2 j (by omega)).1
  by_cases e2 : a = 1617
  · subst e2; exact (h.2 j (by omega)).2.1
  by_cases e3 : a = 1618
  · subst e3; exact (h.2 j (by omega)).2.2
  exact h.1.A (by simp only [List.mem_cons, List.not_mem_nil, or_false]; omega)
theorem jKp.fr {S S' : zS} {n B nx wt : Nat} (h : jKp S n S') (h1 : nx ≤ n) (h2 : n < B) : mFr B nx wt S S' := ⟨h.1.w (by decide) (by decide), fun j hj a _ => h.A (Or.inl (by omega)), fun j _ => h.1.A (by decide)⟩
theorem mP.tk {S S' : zS} {at0 rd nx wt : Nat} {as : List Nat} (hP : mP tp sz S at0 rd nx wt) (h : zTK [] as S S') (ha : ∀ a ∈ as, a < zLB) (h2 : 1593 ∉ as) : mP tp sz S' at0 rd nx wt := by
  obtain ⟨⟨g1, g2, g3, g4, g5, g6⟩, g7, g8, g9, g10⟩ := hP
  have I : ∀ f, gI S' f 1592 = gI S f 1592 := fun f => h.I (by simp) _
  exact ⟨⟨(I _).trans g1, (I _).trans g2, (I _).trans g3, (I _).trans g4, (I _).trans g5, (I _).trans g6⟩, ⟨g7.1.tk h ha, fun j hj => (h.A h2).trans (g7.2 j hj)⟩, g8, g9, g10⟩
theorem m_judged {S : zS} (hF : zFin true S) (hd : 6 ≤ d) {at0 rd nx wt B n k v p lo hi : Nat} {cs : List zNd} {rs : List (Nat × Nat × Nat)} (hP : mP tp sz S at0 rd nx wt) (hn : n < 3000) (hnB : n < B) (hl : lo ≤ n) (hh : n < hi) (hO : mOp S n k v p (rs.map (·.1))) (hD : mDs S n cs rs) (hr : ∀ r ∈ rs, lo ≤ r.2.1 ∧ r.2.2 ≤ hi) (hk1 : k < 26) (hk18 : k ≠ 18) (hv1 : v < 2147483648) (hv0 : k = 17 → 1 ≤ v) (hp : p ≤ 300) (har : arK k cs.length)
    (h1 : ∀ S', zFin true S' → pJ (tN k v [] p cs) = .ok (tN k v [] p cs) → mFr B lo wt S S' → zTK [] mRw S S' → jKp S n S' → mP tp sz S' at0 rd nx wt → mT true S' lo hi (tN k v [] p cs) n → post (.returned (some (.int (Int32.ofNat n))), S'))
    (h2 : ∀ S', zFin true S' → pJ (tN k v [] p cs) = .error (3, p) → mFr B lo wt S S' → mX S' 3 p → post (.returned (some (.int (Int32.ofNat n))), S')) : zCall d 134 [.ref 1592, .int (Int32.ofNat n)] S post := by
  obtain ⟨⟨o1, o2, o3, o4, o5⟩, o6, o7⟩ := hO
  obtain ⟨l, t1, t2, t3⟩ := hD.typ
  have hrg := hD.rng
  have hnn : n ∉ rs.map (·.1) := fun hm => by
    obtain ⟨r, hr1, e⟩ := List.mem_map.mp hm
    have := hrg r hr1
    have e' : r.1 = n := e
    omega
  have hty : ty (tN k v [] p cs) = tyN k v l := ty_of (x := tN k v [] p cs) (by rw [tN_Cs]; exact t1)
  refine ju0 hF (by omega) n hP.1.2.2.1 hn ?_
  refine m_judges hF (by omega) hn hk1 hk18 hv1 hv0 o1 o2 o4 o5 o6 o7 t2 hD.nodup hnn (by rw [List.length_map, ← t3]; exact har) (fun t S' e kp m => ?_) (fun e => ?_)
  · show zEv d 134 12 _ [.int 1] S' post
    have hF' : zFin true S' := kp.1.fin hF
    have hk : zTK [] mRw S S' := kp.1.w (by decide) (by decide)
    have hP' : mP tp sz S' at0 rd nx wt := hP.tk kp.1 (by decide) (by decide)
    refine ju1 hF' n hP'.1.2.2.1 hn ?_
    have hD' : mDs S' n cs rs := hD.eq (fun r hr1 j a b => by
        have hj : j ≠ n := by have := hrg r hr1; omega
        exact ⟨kp.A (Or.inl hj), kp.A (Or.inl hj), kp.A (Or.inl hj), kp.A (Or.inl hj), kp.A (Or.inl hj), kp.A (Or.inl hj), kp.A (Or.inl hj), kp.A (Or.inl hj)⟩) (fun r hr1 j a b _ => kp.A (Or.inr (by decide)))
    have q : ∀ a, (a ≠ 1616 ∧ a ≠ 1617 ∧ a ≠ 1618) → gA S' a n = gA S a n := fun a ha => kp.A (Or.inr ha)
    refine h1 S' hF' ?_ (kp.fr hl hnB) hk kp hP' (mT_iff.mpr ⟨⟨hl, hh⟩, rs.map (·.1), ⟨hn, (q _ (by decide)).trans o1, (q _ (by decide)).trans o2, (q _ (by decide)).trans o3, (q _ (by decide)).trans o6, ?_⟩, fun _ => ⟨t, hty.trans e, m⟩, ?_⟩)
    · unfold pJ; rw [hty, e]
    · rw [q _ (by decide)]; exact o7.eq (fun j _ => kp.A (Or.inr (by decide)))
    · rw [tN_K, if_neg hk18, tN_Cs]; exact hD'.ro hr
  · show zEv d 134 12 _ [.int 0] S post
    refine ju2 hF (by omega) n p hP.1.2.2.1 hn hp o3 ?_
    refine h2 _ hF ?_ ((mFr_sI (by decide)).tr (mFr_sI (by decide))) ⟨by show gI (sI S 91 1592 3) 91 1592 = _; exact gI_sI_at, gI_sI_at, by omega, by omega⟩
    unfold pJ; rw [hty, e]; rfl
theorem m_judgedX {S : zS} (hF : zFin true S) (hd : 6 ≤ d) {n k p : Nat} (hX : mX S k p) (hn : n < 3000) (h : post (.returned (some (.int (Int32.ofNat n))), S)) : zCall d 134 [.ref 1592, .int (Int32.ofNat n)] S post := juX hF (by omega) n k hX.1 hn hX.2.2.1 hX.2.2.2 h
end Q7

