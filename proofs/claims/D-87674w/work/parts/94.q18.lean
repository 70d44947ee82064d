set_option maxRecDepth 100000
/-! ===== the twin reads a word and what stands behind it ===== -/
/-- the numbers of the words -/
def pKv (k : Nat) : Prop := k ≤ 18 ∨ k = 100 ∨ k = 101 ∨ k = 102
section Q18
variable {d : Nat} {post : Outcome × zS → Prop} {tp : Nat → Nat} {sz : Nat}
theorem lookup_mem {α β : Type} [BEq α] {a : α} {b : β} : ∀ {l : List (α × β)}, l.lookup a = some b → ∃ q ∈ l, q.2 = b := by
  intro l
  induction l with
  | nil => intro h; cases h
  | cons q l ih =>
    intro h
    obtain ⟨x, y⟩ := q
    rw [List.lookup_cons] at h
    split at h
    · exact ⟨(x, y), List.mem_cons_self, Option.some.inj h⟩
    · obtain ⟨q, h1, h2⟩ := ih h
      exact ⟨q, List.mem_cons_of_mem _ h1, h2⟩
theorem pKind_v {w : List Nat} {k : Nat} (h : pKind w = some k) : pKv k := by
  obtain ⟨q, h1, h2⟩ := lookup_mem h
  have : ∀ q ∈ kwd, (q.2 ≤ 18 ∨ q.2 = 100 ∨ q.2 = 101 ∨ q.2 = 102) := by
    intro q hq
    simp only [kwd, List.mem_cons, List.not_mem_nil, or_false] at hq
    rcases hq with e | e | e | e | e | e | e | e | e | e | e | e | e | e | e | e | e | e | e | e | e | e <;> (rw [e]; simp)
  rw [← h2]
  exact this q h1
theorem pKv.le {k : Nat} (h : pKv k) : k ≤ 102 := by
  rcases h with h | h | h | h <;> omega
theorem m_wordEndP {S : zS} (hF : zFin true S) (hd : 2 ≤ d) {at0 rd nx wt : Nat} (hP : mP tp sz S at0 rd nx wt) (h : ∀ e, pWE tp sz at0 = e → at0 ≤ e → e ≤ sz → post (.returned (some (.int (Int32.ofNat e))), S)) : zCall d 126 [.ref 1592] S post :=
  m_wordEnd hF hd hP.v (fun h1 h2 => h _ rfl h1 h2)
theorem m_kindOfP {S : zS} (hF : zFin true S) (hd : 5 ≤ d) {at0 rd nx wt a e : Nat} (hP : mP tp sz S at0 rd nx wt) (ha : a ≤ e) (he : e ≤ sz) (h1 : ∀ k, pKind (pWl tp a e) = some k → pKv k → k ≤ 102 → a < e → post (.returned (some (.int (Int32.ofNat k))), S)) (h2 : pKind (pWl tp a e) = none → post (.returned (some (.int (-1))), S)) : zCall d 130 [.ref 1592, .int (Int32.ofNat a), .int (Int32.ofNat e)] S post := by
  refine m_kindOf hF hd hP.v hP.2.1.1 ha he ?_
  cases hq : pKind (pWl tp a e) with
  | none => exact h2 hq
  | some k =>
    refine h1 k hq (pKind_v hq) (pKind_v hq).le (Classical.byContradiction fun hn => ?_)
    have : pWl tp a e = [] := by
      unfold pWl
      rw [show e - a = 0 from by omega]
      rfl
    rw [this] at hq
    exact nomatch (show (none : Option Nat) = some _ from (show pKind [] = none from by decide).symm.trans hq)
theorem m_wantP {S : zS} (hF : zFin true S) (hd : 2 ≤ d) {at0 rd nx wt w B : Nat} (hP : mP tp sz S at0 rd nx wt) (hw : w < 256) (hw0 : 0 < w)
    (h1 : ∀ S', zFin true S' → pWant tp sz w at0 = .ok (at0 + 1) → mFr B nx wt S S' → mP tp sz S' (at0 + 1) rd nx wt → at0 + 1 ≤ sz → post (.returned none, S'))
    (h2 : ∀ S', zFin true S' → pWant tp sz w at0 = .error (1, at0) → mFr B nx wt S S' → mX S' 1 at0 → post (.returned none, S')) : zCall d 149 [.ref 1592, .int (Int32.ofNat w)] S post :=
  m_want hF hd hP hw hw0 (fun S' a b c e => h1 S' a b c e e.2.2.2.2) h2
theorem mP_at {S : zS} {at0 at1 rd nx wt : Nat} (h : mP tp sz S at0 rd nx wt) (h1 : at1 ≤ sz) : mP tp sz (sI S 89 1592 (Int32.ofNat at1)) at1 rd nx wt := by
  obtain ⟨⟨g1, g2, g3, g4, g5, g6⟩, g7, g8, g9, g10⟩ := h
  exact ⟨⟨gI_sI_at, g2, g3, g4, g5, g6⟩, g7, g8, g9, h1⟩
theorem mX_at {S : zS} {k p : Nat} {v : Int32} (h : mX S k p) : mX (sI S 89 1592 v) k p := h
theorem m_insideX {S : zS} (hF : zFin true S) (hd : 1 ≤ d) {k p : Nat} {y1 y2 y3 : Int32} (hX : mX S k p) (h : post (.returned (some (.int (-1))), S)) : zCall d 151 [.ref 1592, .int y1, .int y2, .int y3] S post := isX hF (by omega) k y1 y2 y3 hX.1 hX.2.2.1 hX.2.2.2 h
theorem m_inside {S : zS} (hF : zFin true S) {K : Nat} (hd : 11 ≤ d) (hK : K + 2 ≤ d) {at0 rd nx wt B k p deep : Nat} {rec : Nat → Nat → Nat → pE (zNd × Nat × Nat)} (hP : mP tp sz S at0 rd nx wt) (hp : p ≤ 300) (hdp : deep < 2000) (hrd : rd ≤ 80) (hB : nx + 2 * (sz - at0) + 3 ≤ B) (hB3 : B ≤ 3000) (hwt : wt + (sz - at0) ≤ 2000) (hRR : ∀ d', K ≤ d' → mRd tp sz B d' (deep + 1) rec) (hk : pKv k) (hk2 : 2 ≤ k)
    (h : ∀ S' q, mEnd tp sz B nx wt S (pIn tp sz rec k p deep at0 rd) (fun at1 => nx + 2 * (at1 - at0)) q S' → post (.returned (some (.int q)), S')) : zCall d 151 [.ref 1592, .int (Int32.ofNat k), .int (Int32.ofNat p), .int (Int32.ofNat deep)] S post := by
  unfold pKv at hk
  by_cases c1 : (2 ≤ k ∧ k < 10) ∨ k = 100 ∨ k = 101
  · exact m_insideL hF (by omega) hP hp hdp (by omega) hB3 c1 h
  by_cases c2 : 11 ≤ k ∧ k < 17
  · exact m_inside2 hF (by omega) hP hp hdp hrd hB hB3 hwt (hRR _ (by omega)) c2 h
  by_cases c3 : k = 10 ∨ k = 102
  · exact m_inside3 hF (by omega) hP hp hdp hrd hB hB3 hwt (hRR _ (by omega)) c3 h
  by_cases c4 : k = 17
  · subst c4
    refine is17 hF (by omega) p deep hP.1.2.2.1 hp hdp ?_
    refine m_several17 (B := B) hF (by omega) hP hp hdp hrd hB hB3 hwt (hRR _ (by omega)) (fun S' q m => ?_)
    show zEv d 151 199 _ [.int q] S' post
    exact zEv.wk (by repeat' (first | exact trivial | exact Or.inl rfl | exact Or.inr rfl | refine ⟨?_, ?_⟩)) (is199 (S := S') m.1 q (h S' q m))
  have c5 : k = 18 := by omega
  subst c5
  refine is18 hF (by omega) p deep hP.1.2.2.1 hp hdp ?_
  refine m_several18 (B := B) (rec := rec) hF (by omega) hP hp hdp hrd hB hB3 hwt (fun S' q m => ?_)
  show zEv d 151 199 _ [.int q] S' post
  exact zEv.wk (by repeat' (first | exact trivial | exact Or.inl rfl | exact Or.inr rfl | refine ⟨?_, ?_⟩)) (is199 (S := S') m.1 q (h S' q m))
end Q18
theorem na0 {d : Nat} {S : zS} (hF : zFin true S) (hd : 12 ≤ d) {tp : Nat → Nat} {sz at0 rd nx wt B K : Nat} {rec : Nat → Nat → Nat → pE (zNd × Nat × Nat)} (deep : Nat)  (hK : K + 3 ≤ d) (hP : mP tp sz S at0 rd nx wt) (hs0 : sz ≤ 300) (ha0 : at0 ≤ sz) (hdp : deep < 2000) (hrd : rd ≤ 80) (hB : nx + 2 * (sz - at0) ≤ B) (hB3 : B ≤ 3000) (hwt : wt + (sz - at0) ≤ 2000) (hRR : deep ≤ 24 → ∀ d', K ≤ d' → mRd tp sz B d' (deep + 1) rec) {post : Outcome × zS → Prop} (h1 : ∀ e5 : Nat, (pWE tp sz at0 = e5) → (at0 ≤ e5) → (e5 ≤ sz) → ∀ k6 : Nat, (pKind (pWl tp at0 e5) = some k6) → (pKv k6) → (k6 ≤ 102) → (at0 < e5) → (k6 < 100) → ∀ S10 : zS, ∀ rd10 : Nat, (zFin true S10) → (pRead at0 deep rd false = .ok rd10) → (rd10 ≤ 80) → (deep ≤ 24) → (mFr B nx wt S S10) → (mP tp sz S10 at0 rd10 nx wt) → (2 ≤ k6) → ∀ S17 : zS, (zFin true S17) → (pWant tp sz 40 e5 = .ok (e5 + 1)) → (mFr B nx wt (sI S10 89 1592 (Int32.ofNat e5)) S17) → (mP tp sz S17 (e5 + 1) rd10 nx wt) → (e5 + 1 ≤ sz) → ∀ S19 : zS, ∀ q19 : Int32, (mEnd tp sz B nx wt S17 (pIn tp sz rec k6 at0 deep (e5 + 1) rd10) (fun at1 => nx + 2 * (at1 - (e5 + 1))) q19 S19) → post (.returned (some (.int q19)), S19)) (h2 : ∀ e5 : Nat, (pWE tp sz at0 = e5) → (at0 ≤ e5) → (e5 ≤ sz) → ∀ k6 : Nat, (pKind (pWl tp at0 e5) = some k6) → (pKv k6) → (k6 ≤ 102) → (at0 < e5) → (k6 < 100) → ∀ S10 : zS, ∀ rd10 : Nat, (zFin true S10) → (pRead at0 deep rd false = .ok rd10) → (rd10 ≤ 80) → (deep ≤ 24) → (mFr B nx wt S S10) → (mP tp sz S10 at0 rd10 nx wt) → (2 ≤ k6) → ∀ S18 : zS, (zFin true S18) → (pWant tp sz 40 e5 = .error (1, e5)) → (mFr B nx wt (sI S10 89 1592 (Int32.ofNat e5)) S18) → (mX S18 1 e5) → post (.returned (some (.int (-1))), S18)) (h3 : ∀ e5 : Nat, (pWE tp sz at0 = e5) → (at0 ≤ e5) → (e5 ≤ sz) → ∀ k6 : Nat, (pKind (pWl tp at0 e5) = some k6) → (pKv k6) → (k6 ≤ 102) → (at0 < e5) → (k6 < 100) → ∀ S10 : zS, ∀ rd10 : Nat, (zFin true S10) → (pRead at0 deep rd false = .ok rd10) → (rd10 ≤ 80) → (deep ≤ 24) → (mFr B nx wt S S10) → (mP tp sz S10 at0 rd10 nx wt) → (¬ (2 ≤ k6)) → ∀ S20 : zS, (zFin true S20) → (mFr B nx wt (sI S10 89 1592 (Int32.ofNat e5)) S20) → (mP tp sz S20 e5 rd10 (nx + 1) wt) → (mOp S20 nx k6 0 at0 []) → ∀ S21 : zS, (zFin true S21) → (mFr B nx wt S20 S21) → (mP tp sz S21 e5 rd10 (nx + 1) wt) → (mT true S21 nx (nx + 1) (tN k6 0 [] at0 []) nx) → post (.returned (some (.int (Int32.ofNat nx))), S21)) (h4 : ∀ e5 : Nat, (pWE tp sz at0 = e5) → (at0 ≤ e5) → (e5 ≤ sz) → ∀ k6 : Nat, (pKind (pWl tp at0 e5) = some k6) → (pKv k6) → (k6 ≤ 102) → (at0 < e5) → (k6 < 100) → ∀ S11 : zS, (zFin true S11) → (pRead at0 deep rd false = .error (2, at0)) → (mFr B nx wt S S11) → (mX S11 2 at0) → post (.returned (some (.int (-1))), S11)) (h5 : ∀ e5 : Nat, (pWE tp sz at0 = e5) → (at0 ≤ e5) → (e5 ≤ sz) → ∀ k6 : Nat, (pKind (pWl tp at0 e5) = some k6) → (pKv k6) → (k6 ≤ 102) → (at0 < e5) → (¬ (k6 < 100)) → ∀ S26 : zS, ∀ rd26 : Nat, (zFin true S26) → (pRead at0 deep rd true = .ok rd26) → (rd26 ≤ 80) → (deep ≤ 24) → (mFr B nx wt S S26) → (mP tp sz S26 at0 rd26 nx wt) → ∀ S33 : zS, (zFin true S33) → (pWant tp sz 40 e5 = .ok (e5 + 1)) → (mFr B nx wt (sI S26 89 1592 (Int32.ofNat e5)) S33) → (mP tp sz S33 (e5 + 1) rd26 nx wt) → (e5 + 1 ≤ sz) → ∀ S35 : zS, ∀ q35 : Int32, (mEnd tp sz B nx wt S33 (pIn tp sz rec k6 at0 deep (e5 + 1) rd26) (fun at1 => nx + 2 * (at1 - (e5 + 1))) q35 S35) → post (.returned (some (.int q35)), S35)) (h6 : ∀ e5 : Nat, (pWE tp sz at0 = e5) → (at0 ≤ e5) → (e5 ≤ sz) → ∀ k6 : Nat, (pKind (pWl tp at0 e5) = some k6) → (pKv k6) → (k6 ≤ 102) → (at0 < e5) → (¬ (k6 < 100)) → ∀ S26 : zS, ∀ rd26 : Nat, (zFin true S26) → (pRead at0 deep rd true = .ok rd26) → (rd26 ≤ 80) → (deep ≤ 24) → (mFr B nx wt S S26) → (mP tp sz S26 at0 rd26 nx wt) → ∀ S34 : zS, (zFin true S34) → (pWant tp sz 40 e5 = .error (1, e5)) → (mFr B nx wt (sI S26 89 1592 (Int32.ofNat e5)) S34) → (mX S34 1 e5) → post (.returned (some (.int (-1))), S34)) (h7 : ∀ e5 : Nat, (pWE tp sz at0 = e5) → (at0 ≤ e5) → (e5 ≤ sz) → ∀ k6 : Nat, (pKind (pWl tp at0 e5) = some k6) → (pKv k6) → (k6 ≤ 102) → (at0 < e5) → (¬ (k6 < 100)) → ∀ S27 : zS, (zFin true S27) → (pRead at0 deep rd true = .error (2, at0)) → (mFr B nx wt S S27) → (mX S27 2 at0) → post (.returned (some (.int (-1))), S27)) (h8 : ∀ e5 : Nat, (pWE tp sz at0 = e5) → (at0 ≤ e5) → (e5 ≤ sz) → (pKind (pWl tp at0 e5) = none) → ∀ S40 : zS, (zFin true S40) → (mFr B nx wt S S40) → (mX S40 1 at0) → (mV tp sz S40 at0) → post (.returned (some (.int (-1))), S40)) : zCall d 129 [.ref 1592, .int (Int32.ofNat deep)] S post := by
  have ht : ztab 129 = ztb129 := rfl
  show zEv d 129 0 [.ref 1592, .int (Int32.ofNat deep), .retAddr 0, .retAddr 0, .retAddr 0, .retAddr 0] [] S post
  refine zv_c1 ht rfl rfl ?_
  have C2 : ∀ (pst1 : Outcome × zS → Prop), (pst1 (.returned (some (.int 1)), S)) → zCall (d - 1) 125 [.ref 1592] S pst1 := by
    intro pst1 k4
    have ht3 : ztab 125 = ztb125 := rfl
    show zEv (d - 1) 125 0 [.ref 1592] [] S pst1
    refine zv_c1 ht3 rfl rfl ?_
    refine zv_e1 (x := 0) ht3 rfl rfl hP.1.2.2.1 ?_
    refine zv_br ht3 rfl rfl rfl (fun h => absurd h (by decide)) (fun _ => ?_)
    refine zv_c1 ht3 rfl rfl (zv_c1 ht3 rfl rfl ?_)
    exact zv_rc ht3 rfl rfl rfl rfl (by decide) k4
  refine zv_cl ht rfl rfl rfl rfl (by omega) (Nat.le_of_ble_eq_true rfl) (C2 _ ?_)
  show zEv d 129 4 [.ref 1592, .int (Int32.ofNat deep), .retAddr 0, .retAddr 0, .retAddr 0, .retAddr 0] [.int 1] S post
  refine zv_br ht rfl rfl rfl (fun _ => ?_) (fun h => absurd (by decide) h)
  refine zv_c1 ht rfl rfl ?_
  refine zv_e1 (x := Int32.ofNat at0) ht rfl rfl hP.1.1 ?_
  refine zv_c2 (L' := [.ref 1592, .int (Int32.ofNat deep), .int (Int32.ofNat at0), .retAddr 0, .retAddr 0, .retAddr 0]) ht rfl rfl ?_
  refine zv_c1 ht rfl rfl ?_
  refine zv_cl ht rfl rfl rfl rfl (by omega) (Nat.le_of_ble_eq_true rfl) (m_wordEndP (S := S) (tp := tp) (sz := sz) hF (by omega) hP (fun e5 w5 l5 z5 => ?_))
  show zEv d 129 18 [.ref 1592, .int (Int32.ofNat deep), .int (Int32.ofNat at0), .retAddr 0, .retAddr 0, .retAddr 0] [.int (Int32.ofNat e5)] S post
  refine zv_c2 (L' := [.ref 1592, .int (Int32.ofNat deep), .int (Int32.ofNat at0), .int (Int32.ofNat e5), .retAddr 0, .retAddr 0]) ht rfl rfl ?_
  refine zv_c1 ht rfl rfl (zv_c1 ht rfl rfl ?_)
  refine zv_e1 (x := Int32.ofNat at0) ht rfl rfl hP.1.1 ?_
  refine zv_c1 ht rfl rfl ?_
  refine zv_cl ht rfl rfl rfl rfl (by omega) (Nat.le_of_ble_eq_true rfl) (m_kindOfP (S := S) (tp := tp) (sz := sz) (a := at0) (e := e5) hF (by omega) hP (by omega) (by omega) (fun k6 q6 b6 c6 a6 => ?_) (fun q7 => ?_))
  · show zEv d 129 28 [.ref 1592, .int (Int32.ofNat deep), .int (Int32.ofNat at0), .int (Int32.ofNat e5), .retAddr 0, .retAddr 0] [.int (Int32.ofNat k6)] S post
    refine zv_c2 (L' := [.ref 1592, .int (Int32.ofNat deep), .int (Int32.ofNat at0), .int (Int32.ofNat e5), .int (Int32.ofNat k6), .retAddr 0]) ht rfl rfl ?_
    refine zv_c1 ht rfl rfl (zv_c1 ht rfl rfl ?_)
    refine zv_br ht rfl rfl rfl (fun b8 => ?_) (fun b8 => (b8 (zi_nneg rfl (by omega) (by decide))).elim)
    refine zv_c1 ht rfl rfl (zv_c1 ht rfl rfl (zv_c1 ht rfl rfl (zv_c1 ht rfl rfl (zv_c1 ht rfl rfl ?_))))
    refine zv_br ht rfl rfl rfl (fun b9 => ?_) (fun b9 => ?_)
    · replace b9 : k6 < 100 := (zi_ltE (a := k6) (b := 100) rfl rfl (by omega) (by omega)).mp b9
      refine zv_c1 ht rfl rfl ?_
      refine zv_cl ht rfl rfl rfl rfl (by omega) (Nat.le_of_ble_eq_true rfl) (m_reads (S := S) (tp := tp) (sz := sz) (B := B) (p := at0) (deep := deep) (two := false) hF (by omega) hP (by omega) (by omega) (by omega) (fun S10 rd10 hF10 e10 g10 l10 k10 p10 => ?_) (fun S11 hF11 e11 k11 x11 => ?_))
      · show zEv d 129 65 [.ref 1592, .int (Int32.ofNat deep), .int (Int32.ofNat at0), .int (Int32.ofNat e5), .int (Int32.ofNat k6), .retAddr 0] [] S10 post
        refine zv_c1 ht rfl rfl ?_
        have C13 : ∀ (pst12 : Outcome × zS → Prop), (pst12 (.returned (some (.int 1)), S10)) → zCall (d - 1) 125 [.ref 1592] S10 pst12 := by
          intro pst12 k15
          have ht14 : ztab 125 = ztb125 := rfl
          show zEv (d - 1) 125 0 [.ref 1592] [] S10 pst12
          refine zv_c1 ht14 rfl rfl ?_
          refine zv_e1 (x := 0) ht14 rfl rfl p10.1.2.2.1 ?_
          refine zv_br ht14 rfl rfl rfl (fun h => absurd h (by decide)) (fun _ => ?_)
          refine zv_c1 ht14 rfl rfl (zv_c1 ht14 rfl rfl ?_)
          exact zv_rc ht14 rfl rfl rfl rfl (by decide) k15
        refine zv_cl ht rfl rfl rfl rfl (by omega) (Nat.le_of_ble_eq_true rfl) (C13 _ ?_)
        show zEv d 129 69 [.ref 1592, .int (Int32.ofNat deep), .int (Int32.ofNat at0), .int (Int32.ofNat e5), .int (Int32.ofNat k6), .retAddr 0] [.int 1] S10 post
        refine zv_br ht rfl rfl rfl (fun _ => ?_) (fun h => absurd (by decide) h)
        refine zv_c1 ht rfl rfl (zv_c1 ht rfl rfl ?_)
        refine zv_c1 (S' := sI S10 89 1592 (Int32.ofNat e5)) ht rfl rfl ?_
        refine zv_c1 ht rfl rfl (zv_c1 ht rfl rfl ?_)
        refine zv_br ht rfl rfl rfl (fun b16 => ?_) (fun b16 => ?_)
        · replace b16 : 2 ≤ k6 := (zi_leE (a := 2) (b := k6) rfl rfl (by omega) (by omega)).mp b16
          refine zv_c1 ht rfl rfl (zv_c1 ht rfl rfl ?_)
          refine zv_cl ht rfl rfl rfl rfl (by omega) (Nat.le_of_ble_eq_true rfl) (m_wantP (S := sI S10 89 1592 (Int32.ofNat e5)) (tp := tp) (sz := sz) (B := B) (w := 40) hF10 (by omega) (mP_at p10 (by omega)) (by omega) (by omega) (fun S17 hF17 e17 k17 p17 g17 => ?_) (fun S18 hF18 e18 k18 x18 => ?_))
          · show zEv d 129 104 [.ref 1592, .int (Int32.ofNat deep), .int (Int32.ofNat at0), .int (Int32.ofNat e5), .int (Int32.ofNat k6), .retAddr 0] [] S17 post
            refine zv_c1 ht rfl rfl (zv_c1 ht rfl rfl (zv_c1 ht rfl rfl (zv_c1 ht rfl rfl ?_)))
            refine zv_cl ht rfl rfl rfl rfl (by omega) (Nat.le_of_ble_eq_true rfl) (m_inside (S := S17) (tp := tp) (sz := sz) (B := B) (rec := rec) (k := k6) (p := at0) (deep := deep) (K := K) hF17 (by omega) (by omega) p17 (by omega) (by omega) (by omega) (by omega) (by omega) (by omega) (hRR (by omega)) b6 (by omega) (fun S19 q19 m19 => ?_))
            show zEv d 129 112 [.ref 1592, .int (Int32.ofNat deep), .int (Int32.ofNat at0), .int (Int32.ofNat e5), .int (Int32.ofNat k6), .retAddr 0] [.int q19] S19 post
            refine zv_c2 (L' := [.ref 1592, .int (Int32.ofNat deep), .int (Int32.ofNat at0), .int (Int32.ofNat e5), .int (Int32.ofNat k6), .int q19]) ht rfl rfl ?_
            refine zv_c1 ht rfl rfl ?_
            exact zv_rt ht rfl rfl rfl rfl (h1 e5 w5 l5 z5 k6 q6 b6 c6 a6 b9 S10 rd10 hF10 e10 g10 l10 k10 p10 b16 S17 hF17 e17 k17 p17 g17 S19 q19 m19)
          · show zEv d 129 104 [.ref 1592, .int (Int32.ofNat deep), .int (Int32.ofNat at0), .int (Int32.ofNat e5), .int (Int32.ofNat k6), .retAddr 0] [] S18 post
            refine zv_c1 ht rfl rfl (zv_c1 ht rfl rfl (zv_c1 ht rfl rfl (zv_c1 ht rfl rfl ?_)))
            refine zv_cl ht rfl rfl rfl rfl (by omega) (Nat.le_of_ble_eq_true rfl) (m_insideX (S := S18) hF18 (by omega) x18 ?_)
            show zEv d 129 112 [.ref 1592, .int (Int32.ofNat deep), .int (Int32.ofNat at0), .int (Int32.ofNat e5), .int (Int32.ofNat k6), .retAddr 0] [.int (-1)] S18 post
            refine zv_c2 (L' := [.ref 1592, .int (Int32.ofNat deep), .int (Int32.ofNat at0), .int (Int32.ofNat e5), .int (Int32.ofNat k6), .int (-1)]) ht rfl rfl ?_
            refine zv_c1 ht rfl rfl ?_
            exact zv_rt ht rfl rfl rfl rfl (h2 e5 w5 l5 z5 k6 q6 b6 c6 a6 b9 S10 rd10 hF10 e10 g10 l10 k10 p10 b16 S18 hF18 e18 k18 x18)
        · replace b16 : ¬ (2 ≤ k6) := fun h => b16 ((zi_leE (a := 2) (b := k6) rfl rfl (by omega) (by omega)).mpr h)
          refine zv_c1 ht rfl rfl (zv_c1 ht rfl rfl (zv_c1 ht rfl rfl (zv_c1 ht rfl rfl (zv_c1 ht rfl rfl ?_))))
          refine zv_cl ht rfl rfl rfl rfl (by omega) (Nat.le_of_ble_eq_true rfl) (m_node (S := sI S10 89 1592 (Int32.ofNat e5)) (tp := tp) (sz := sz) (B := B) (k := k6) (v := 0) (p := at0) hF10 (mP_at p10 (by omega)) (by omega) (by omega) (by omega) (by omega) (by omega) (fun S20 hF20 k20 p20 o20 => ?_))
          show zEv d 129 94 [.ref 1592, .int (Int32.ofNat deep), .int (Int32.ofNat at0), .int (Int32.ofNat e5), .int (Int32.ofNat k6), .retAddr 0] [.int (Int32.ofNat nx), .ref 1592] S20 post
          refine zv_cl ht rfl rfl rfl rfl (by omega) (Nat.le_of_ble_eq_true rfl) (m_leaf (S := S20) (tp := tp) (sz := sz) (B := B) (n := nx) (k := k6) (v := 0) (p := at0) hF20 (by omega) p20 (by omega) (by omega) o20 (by omega) (by omega) (by omega) (fun S21 hF21 k21 p21 t21 => ?_))
          show zEv d 129 97 [.ref 1592, .int (Int32.ofNat deep), .int (Int32.ofNat at0), .int (Int32.ofNat e5), .int (Int32.ofNat k6), .retAddr 0] [.int (Int32.ofNat nx)] S21 post
          exact zv_rt ht rfl rfl rfl rfl (h3 e5 w5 l5 z5 k6 q6 b6 c6 a6 b9 S10 rd10 hF10 e10 g10 l10 k10 p10 b16 S20 hF20 k20 p20 o20 S21 hF21 k21 p21 t21)
      · show zEv d 129 65 [.ref 1592, .int (Int32.ofNat deep), .int (Int32.ofNat at0), .int (Int32.ofNat e5), .int (Int32.ofNat k6), .retAddr 0] [] S11 post
        refine zv_c1 ht rfl rfl ?_
        have C23 : ∀ (pst22 : Outcome × zS → Prop), (pst22 (.returned (some (.int 0)), S11)) → zCall (d - 1) 125 [.ref 1592] S11 pst22 := by
          intro pst22 k25
          have ht24 : ztab 125 = ztb125 := rfl
          show zEv (d - 1) 125 0 [.ref 1592] [] S11 pst22
          refine zv_c1 ht24 rfl rfl ?_
          refine zv_e1 (x := 2) ht24 rfl rfl x11.1 ?_
          refine zv_br ht24 rfl rfl rfl (fun _ => ?_) (fun h => absurd (by decide) h)
          refine zv_c1 ht24 rfl rfl ?_
          exact zv_rc ht24 rfl rfl rfl rfl (by decide) k25
        refine zv_cl ht rfl rfl rfl rfl (by omega) (Nat.le_of_ble_eq_true rfl) (C23 _ ?_)
        show zEv d 129 69 [.ref 1592, .int (Int32.ofNat deep), .int (Int32.ofNat at0), .int (Int32.ofNat e5), .int (Int32.ofNat k6), .retAddr 0] [.int 0] S11 post
        refine zv_br ht rfl rfl rfl (fun h => absurd h (by decide)) (fun _ => ?_)
        refine zv_c1 ht rfl rfl ?_
        exact zv_rt ht rfl rfl rfl rfl (h4 e5 w5 l5 z5 k6 q6 b6 c6 a6 b9 S11 hF11 e11 k11 x11)
    · replace b9 : ¬ (k6 < 100) := fun h => b9 ((zi_ltE (a := k6) (b := 100) rfl rfl (by omega) (by omega)).mpr h)
      refine zv_c1 ht rfl rfl (zv_c1 ht rfl rfl ?_)
      refine zv_cl ht rfl rfl rfl rfl (by omega) (Nat.le_of_ble_eq_true rfl) (m_reads (S := S) (tp := tp) (sz := sz) (B := B) (p := at0) (deep := deep) (two := true) hF (by omega) hP (by omega) (by omega) (by omega) (fun S26 rd26 hF26 e26 g26 l26 k26 p26 => ?_) (fun S27 hF27 e27 k27 x27 => ?_))
      · show zEv d 129 65 [.ref 1592, .int (Int32.ofNat deep), .int (Int32.ofNat at0), .int (Int32.ofNat e5), .int (Int32.ofNat k6), .retAddr 0] [] S26 post
        refine zv_c1 ht rfl rfl ?_
        have C29 : ∀ (pst28 : Outcome × zS → Prop), (pst28 (.returned (some (.int 1)), S26)) → zCall (d - 1) 125 [.ref 1592] S26 pst28 := by
          intro pst28 k31
          have ht30 : ztab 125 = ztb125 := rfl
          show zEv (d - 1) 125 0 [.ref 1592] [] S26 pst28
          refine zv_c1 ht30 rfl rfl ?_
          refine zv_e1 (x := 0) ht30 rfl rfl p26.1.2.2.1 ?_
          refine zv_br ht30 rfl rfl rfl (fun h => absurd h (by decide)) (fun _ => ?_)
          refine zv_c1 ht30 rfl rfl (zv_c1 ht30 rfl rfl ?_)
          exact zv_rc ht30 rfl rfl rfl rfl (by decide) k31
        refine zv_cl ht rfl rfl rfl rfl (by omega) (Nat.le_of_ble_eq_true rfl) (C29 _ ?_)
        show zEv d 129 69 [.ref 1592, .int (Int32.ofNat deep), .int (Int32.ofNat at0), .int (Int32.ofNat e5), .int (Int32.ofNat k6), .retAddr 0] [.int 1] S26 post
        refine zv_br ht rfl rfl rfl (fun _ => ?_) (fun h => absurd (by decide) h)
        refine zv_c1 ht rfl rfl (zv_c1 ht rfl rfl ?_)
        refine zv_c1 (S' := sI S26 89 1592 (Int32.ofNat e5)) ht rfl rfl ?_
        refine zv_c1 ht rfl rfl (zv_c1 ht rfl rfl ?_)
        refine zv_br ht rfl rfl rfl (fun b32 => ?_) (fun b32 => (show False from by have hq := b32; have hz : ¬ (2 ≤ k6) := fun h => hq ((zi_leE (a := 2) (b := k6) rfl rfl (by omega) (by omega)).mpr h); omega).elim)
        refine zv_c1 ht rfl rfl (zv_c1 ht rfl rfl ?_)
        refine zv_cl ht rfl rfl rfl rfl (by omega) (Nat.le_of_ble_eq_true rfl) (m_wantP (S := sI S26 89 1592 (Int32.ofNat e5)) (tp := tp) (sz := sz) (B := B) (w := 40) hF26 (by omega) (mP_at p26 (by omega)) (by omega) (by omega) (fun S33 hF33 e33 k33 p33 g33 => ?_) (fun S34 hF34 e34 k34 x34 => ?_))
        · show zEv d 129 104 [.ref 1592, .int (Int32.ofNat deep), .int (Int32.ofNat at0), .int (Int32.ofNat e5), .int (Int32.ofNat k6), .retAddr 0] [] S33 post
          refine zv_c1 ht rfl rfl (zv_c1 ht rfl rfl (zv_c1 ht rfl rfl (zv_c1 ht rfl rfl ?_)))
          refine zv_cl ht rfl rfl rfl rfl (by omega) (Nat.le_of_ble_eq_true rfl) (m_inside (S := S33) (tp := tp) (sz := sz) (B := B) (rec := rec) (k := k6) (p := at0) (deep := deep) (K := K) hF33 (by omega) (by omega) p33 (by omega) (by omega) (by omega) (by omega) (by omega) (by omega) (hRR (by omega)) b6 (by omega) (fun S35 q35 m35 => ?_))
          show zEv d 129 112 [.ref 1592, .int (Int32.ofNat deep), .int (Int32.ofNat at0), .int (Int32.ofNat e5), .int (Int32.ofNat k6), .retAddr 0] [.int q35] S35 post
          refine zv_c2 (L' := [.ref 1592, .int (Int32.ofNat deep), .int (Int32.ofNat at0), .int (Int32.ofNat e5), .int (Int32.ofNat k6), .int q35]) ht rfl rfl ?_
          refine zv_c1 ht rfl rfl ?_
          exact zv_rt ht rfl rfl rfl rfl (h5 e5 w5 l5 z5 k6 q6 b6 c6 a6 b9 S26 rd26 hF26 e26 g26 l26 k26 p26 S33 hF33 e33 k33 p33 g33 S35 q35 m35)
        · show zEv d 129 104 [.ref 1592, .int (Int32.ofNat deep), .int (Int32.ofNat at0), .int (Int32.ofNat e5), .int (Int32.ofNat k6), .retAddr 0] [] S34 post
          refine zv_c1 ht rfl rfl (zv_c1 ht rfl rfl (zv_c1 ht rfl rfl (zv_c1 ht rfl rfl ?_)))
          refine zv_cl ht rfl rfl rfl rfl (by omega) (Nat.le_of_ble_eq_true rfl) (m_insideX (S := S34) hF34 (by omega) x34 ?_)
          show zEv d 129 112 [.ref 1592, .int (Int32.ofNat deep), .int (Int32.ofNat at0), .int (Int32.ofNat e5), .int (Int32.ofNat k6), .retAddr 0] [.int (-1)] S34 post
          refine zv_c2 (L' := [.ref 1592, .int (Int32.ofNat deep), .int (Int32.ofNat at0), .int (Int32.ofNat e5), .int (Int32.ofNat k6), .int (-1)]) ht rfl rfl ?_
          refine zv_c1 ht rfl rfl ?_
          exact zv_rt ht rfl rfl rfl rfl (h6 e5 w5 l5 z5 k6 q6 b6 c6 a6 b9 S26 rd26 hF26 e26 g26 l26 k26 p26 S34 hF34 e34 k34 x34)
      · show zEv d 129 65 [.ref 1592, .int (Int32.ofNat deep), .int (Int32.ofNat at0), .int (Int32.ofNat e5), .int (Int32.ofNat k6), .retAddr 0] [] S27 post
        refine zv_c1 ht rfl rfl ?_
        have C37 : ∀ (pst36 : Outcome × zS → Prop), (pst36 (.returned (some (.int 0)), S27)) → zCall (d - 1) 125 [.ref 1592] S27 pst36 := by
          intro pst36 k39
          have ht38 : ztab 125 = ztb125 := rfl
          show zEv (d - 1) 125 0 [.ref 1592] [] S27 pst36
          refine zv_c1 ht38 rfl rfl ?_
          refine zv_e1 (x := 2) ht38 rfl rfl x27.1 ?_
          refine zv_br ht38 rfl rfl rfl (fun _ => ?_) (fun h => absurd (by decide) h)
          refine zv_c1 ht38 rfl rfl ?_
          exact zv_rc ht38 rfl rfl rfl rfl (by decide) k39
        refine zv_cl ht rfl rfl rfl rfl (by omega) (Nat.le_of_ble_eq_true rfl) (C37 _ ?_)
        show zEv d 129 69 [.ref 1592, .int (Int32.ofNat deep), .int (Int32.ofNat at0), .int (Int32.ofNat e5), .int (Int32.ofNat k6), .retAddr 0] [.int 0] S27 post
        refine zv_br ht rfl rfl rfl (fun h => absurd h (by decide)) (fun _ => ?_)
        refine zv_c1 ht rfl rfl ?_
        exact zv_rt ht rfl rfl rfl rfl (h7 e5 w5 l5 z5 k6 q6 b6 c6 a6 b9 S27 hF27 e27 k27 x27)
  · show zEv d 129 28 [.ref 1592, .int (Int32.ofNat deep), .int (Int32.ofNat at0), .int (Int32.ofNat e5), .retAddr 0, .retAddr 0] [.int (-1)] S post
    refine zv_c2 (L' := [.ref 1592, .int (Int32.ofNat deep), .int (Int32.ofNat at0), .int (Int32.ofNat e5), .int (-1), .retAddr 0]) ht rfl rfl ?_
    refine zv_c1 ht rfl rfl (zv_c1 ht rfl rfl ?_)
    refine zv_br ht rfl rfl rfl (fun h => absurd h (by decide)) (fun _ => ?_)
    refine zv_c1 ht rfl rfl (zv_c1 ht rfl rfl (zv_c1 ht rfl rfl ?_))
    refine zv_e1 (x := Int32.ofNat at0) ht rfl rfl hP.1.1 ?_
    refine zv_cl ht rfl rfl rfl rfl (by omega) (Nat.le_of_ble_eq_true rfl) (m_fails (S := S) (tp := tp) (sz := sz) (B := B) (f := 1) (p := at0) hF hP (by omega) (by omega) (fun S40 hF40 k40 x40 w40 => ?_))
    show zEv d 129 45 [.ref 1592, .int (Int32.ofNat deep), .int (Int32.ofNat at0), .int (Int32.ofNat e5), .int (-1), .retAddr 0] [] S40 post
    refine zv_c1 ht rfl rfl ?_
    exact zv_rt ht rfl rfl rfl rfl (h8 e5 w5 l5 z5 q7 S40 hF40 k40 x40 w40)

theorem naX {d : Nat} {S : zS} (hF : zFin true S) (hd : 1 ≤ d) (k : Nat) (y : Int32)  (h_fault : gI S 91 1592 = Int32.ofNat k) (hk : 0 < k) (hk4 : k < 4) {post : Outcome × zS → Prop} (h1 : post (.returned (some (.int (-1))), S)) : zCall d 129 [.ref 1592, .int y] S post := by
  have ht : ztab 129 = ztb129 := rfl
  show zEv d 129 0 [.ref 1592, .int y, .retAddr 0, .retAddr 0, .retAddr 0, .retAddr 0] [] S post
  refine zv_c1 ht rfl rfl ?_
  have C2 : ∀ (pst1 : Outcome × zS → Prop), (pst1 (.returned (some (.int 0)), S)) → zCall (d - 1) 125 [.ref 1592] S pst1 := by
    intro pst1 k5
    have ht3 : ztab 125 = ztb125 := rfl
    show zEv (d - 1) 125 0 [.ref 1592] [] S pst1
    refine zv_c1 ht3 rfl rfl ?_
    refine zv_e1 (x := Int32.ofNat k) ht3 rfl rfl h_fault ?_
    refine zv_br ht3 rfl rfl rfl (fun b4 => ?_) (fun b4 => (show False from by have hq := b4; have hz : k = 0 := (zi_eqE (a := k) (b := 0) rfl rfl (by omega) (by omega)).mp (Classical.not_not.mp hq); omega).elim)
    refine zv_c1 ht3 rfl rfl ?_
    exact zv_rc ht3 rfl rfl rfl rfl (by decide) k5
  refine zv_cl ht rfl rfl rfl rfl (by omega) (Nat.le_of_ble_eq_true rfl) (C2 _ ?_)
  show zEv d 129 4 [.ref 1592, .int y, .retAddr 0, .retAddr 0, .retAddr 0, .retAddr 0] [.int 0] S post
  refine zv_br ht rfl rfl rfl (fun h => absurd h (by decide)) (fun _ => ?_)
  refine zv_c1 ht rfl rfl ?_
  exact zv_rt ht rfl rfl rfl rfl h1

section Q18b
variable {d : Nat} {post : Outcome × zS → Prop} {tp : Nat → Nat} {sz : Nat}
theorem m_namedX {S : zS} (hF : zFin true S) (hd : 2 ≤ d) {k p : Nat} {y : Int32} (hX : mX S k p) (h : post (.returned (some (.int (-1))), S)) : zCall d 129 [.ref 1592, .int y] S post := naX hF (by omega) k y hX.1 hX.2.2.1 hX.2.2.2 h
theorem m_named {S : zS} (hF : zFin true S) {K : Nat} (hd : 12 ≤ d) (hK : K + 3 ≤ d) {at0 rd nx wt B deep : Nat} {rec : Nat → Nat → Nat → pE (zNd × Nat × Nat)} (hP : mP tp sz S at0 rd nx wt) (hdp : deep < 2000) (hrd : rd ≤ 80) (hB : nx + 2 * (sz - at0) ≤ B) (hB3 : B ≤ 3000) (hwt : wt + (sz - at0) ≤ 2000) (hRR : deep ≤ 24 → ∀ d', K ≤ d' → mRd tp sz B d' (deep + 1) rec)
    (h : ∀ S' q, mEnd tp sz B nx wt S (pNamed tp sz rec deep at0 rd) (fun at1 => nx + 2 * (at1 - at0)) q S' → post (.returned (some (.int q)), S')) : zCall d 129 [.ref 1592, .int (Int32.ofNat deep)] S post := by
  have eN : ∀ {k : Nat}, pKind (pWl tp at0 (pWE tp sz at0)) = some k → pNamed tp sz rec deep at0 rd = (do
      let rd1 ← pRead at0 deep rd (decide (100 ≤ k))
      if k < 2 then do
        let x ← pJ (tN k 0 [] at0 [])
        .ok (x, pWE tp sz at0, rd1)
      else do
        let at1 ← pWant tp sz 40 (pWE tp sz at0)
        pIn tp sz rec k at0 deep at1 rd1) := fun e => by unfold pNamed; rw [e]
  have eF : ∀ {k : Nat}, k < 100 → decide (100 ≤ k) = false := fun e => decide_eq_false (by omega)
  have eT : ∀ {k : Nat}, ¬ k < 100 → decide (100 ≤ k) = true := fun e => decide_eq_true (by omega)
  have fat : ∀ {S : zS} {v : Int32}, mFr B nx wt S (sI S 89 1592 v) := mFr_sI (by decide)
  refine na0 (B := B) (K := K) (rec := rec) hF (by omega) deep hK hP hP.2.2.2.1 hP.2.2.2.2 hdp hrd hB hB3 hwt hRR ?_ ?_ ?_ ?_ ?_ ?_ ?_ ?_
  · intro e5 w5 l5 z5 k6 q6 b6 c6 a6 n6 S10 rd10 f10 e10 g10 l10 k10 p10 n2 S17 f17 e17 k17 p17 g17 S19 q19 m19
    subst w5
    refine h S19 q19 (m19.pre ((k10.tr fat).tr k17) ?_ (fun x a b e => ?_))
    · rw [eN q6, eF n6]
      refine (pb_ok e10).trans ?_
      show (if k6 < 2 then _ else _) = _
      rw [if_neg (by omega)]
      exact pb_ok e17
    · show nx + 2 * (a - (pWE tp sz at0 + 1)) ≤ nx + 2 * (a - at0)
      omega
  · intro e5 w5 l5 z5 k6 q6 b6 c6 a6 n6 S10 rd10 f10 e10 g10 l10 k10 p10 n2 S18 f18 e18 k18 x18
    subst w5
    refine h S18 _ (mEnd.err f18 ((k10.tr fat).tr k18) x18 ?_)
    rw [eN q6, eF n6]
    refine (pb_ok e10).trans ?_
    show (if k6 < 2 then _ else _) = _
    rw [if_neg (by omega)]
    exact pb_er e18
  · intro e5 w5 l5 z5 k6 q6 b6 c6 a6 n6 S10 rd10 f10 e10 g10 l10 k10 p10 n2 S20 f20 k20 p20 o20 S21 f21 k21 p21 t21
    subst w5
    refine h S21 _ (mEnd.good f21 (((k10.tr fat).tr k20).tr (k21.w (by omega) (by omega) (Nat.le_refl _))) t21 p21 (by show nx + 1 ≤ nx + 2 * (pWE tp sz at0 - at0); omega) ?_)
    rw [eN q6, eF n6]
    refine (pb_ok e10).trans ?_
    show (if k6 < 2 then _ else _) = _
    rw [if_pos (by omega)]
    exact (pb_ok (pJ_leaf (by omega))).trans rfl
  · intro e5 w5 l5 z5 k6 q6 b6 c6 a6 n6 S11 f11 e11 k11 x11
    subst w5
    refine h S11 _ (mEnd.err f11 k11 x11 ?_)
    rw [eN q6, eF n6]
    exact pb_er e11
  · intro e5 w5 l5 z5 k6 q6 b6 c6 a6 n6 S10 rd10 f10 e10 g10 l10 k10 p10 S17 f17 e17 k17 p17 g17 S19 q19 m19
    subst w5
    refine h S19 q19 (m19.pre ((k10.tr fat).tr k17) ?_ (fun x a b e => ?_))
    · rw [eN q6, eT n6]
      refine (pb_ok e10).trans ?_
      show (if k6 < 2 then _ else _) = _
      rw [if_neg (by omega)]
      exact pb_ok e17
    · show nx + 2 * (a - (pWE tp sz at0 + 1)) ≤ nx + 2 * (a - at0)
      omega
  · intro e5 w5 l5 z5 k6 q6 b6 c6 a6 n6 S10 rd10 f10 e10 g10 l10 k10 p10 S18 f18 e18 k18 x18
    subst w5
    refine h S18 _ (mEnd.err f18 ((k10.tr fat).tr k18) x18 ?_)
    rw [eN q6, eT n6]
    refine (pb_ok e10).trans ?_
    show (if k6 < 2 then _ else _) = _
    rw [if_neg (by omega)]
    exact pb_er e18
  · intro e5 w5 l5 z5 k6 q6 b6 c6 a6 n6 S11 f11 e11 k11 x11
    subst w5
    refine h S11 _ (mEnd.err f11 k11 x11 ?_)
    rw [eN q6, eT n6]
    exact pb_er e11
  · intro e5 w5 l5 z5 q6 S40 f40 k40 x40 w40
    subst w5
    refine h S40 _ (mEnd.err f40 k40 x40 ?_)
    unfold pNamed
    rw [q6]
end Q18b

