set_option maxRecDepth 100000
/-! ===== the twin reads a fragment, whole ===== -/
section Q21
variable {d : Nat} {post : Outcome × zS → Prop} {tp : Nat → Nat} {sz : Nat}
theorem pb_inv {α β : Type} {x : pE α} {f : α → pE β} {b : β} (h : (x >>= f) = .ok b) : ∃ a, x = .ok a ∧ f a = .ok b := by
  cases x with
  | error e => cases h
  | ok a => exact ⟨a, rfl, h⟩
theorem pWant_ok {c at0 a : Nat} (h : pWant tp sz c at0 = .ok a) : a = at0 + 1 := by
  unfold pWant at h
  split at h
  · exact (Except.ok.inj h).symm
  · cases h
theorem pLet_ok {lo hi at0 : Nat} {q : Nat × Nat} (h : pLet tp sz lo hi at0 = .ok q) : q.2 = at0 + 1 := by
  unfold pLet at h
  split at h
  · rw [← Except.ok.inj h]
  · cases h
theorem pNumL_ok : ∀ {n v at0 : Nat} {q : Nat × Nat}, pNumL tp sz n v at0 = .ok q → at0 ≤ q.2 := by
  intro n
  induction n with
  | zero => intro v at0 q h; rw [← Except.ok.inj h]; exact Nat.le_refl _
  | succ n ih =>
    intro v at0 q h
    unfold pNumL at h
    split at h
    · split at h
      · cases h
      · exact Nat.le_trans (Nat.le_succ _) (ih h)
    · rw [← Except.ok.inj h]; exact Nat.le_refl _
theorem pNum_ok {at0 : Nat} {q : Nat × Nat} (h : pNum tp sz at0 = .ok q) : at0 ≤ q.2 := by
  unfold pNum at h
  split at h
  · exact pNumL_ok h
  · cases h
theorem pItems_ok {α : Type} {it : Nat → Nat → pE (α × Nat × Nat)} {most : Nat} (hit : ∀ at0 rd q, rd ≤ 80 → it at0 rd = .ok q → at0 ≤ q.2.1 ∧ q.2.2 ≤ 80) : ∀ {n got at0 rd : Nat} {q : List α × Nat × Nat}, rd ≤ 80 → pItems tp sz it most n got at0 rd = .ok q → at0 ≤ q.2.1 ∧ q.2.2 ≤ 80 := by
  intro n
  induction n with
  | zero => intro got at0 rd q hr h; rw [← Except.ok.inj h]; exact ⟨Nat.le_refl _, hr⟩
  | succ n ih =>
    intro got at0 rd q hr h
    unfold pItems at h
    split at h
    · split at h
      · cases h
      · obtain ⟨a, h1, h⟩ := pb_inv h
        obtain ⟨b, h2, h⟩ := pb_inv h
        obtain ⟨c, h3, h⟩ := pb_inv h
        rw [← Except.ok.inj h]
        have e1 := pWant_ok h1
        have e2 := hit _ _ _ hr h2
        have e3 := ih e2.2 h3
        exact ⟨by show at0 ≤ c.2.1; omega, e3.2⟩
    · rw [← Except.ok.inj h]; exact ⟨Nat.le_refl _, hr⟩
theorem pKey_ok {at0 rd : Nat} {q : Nat × Nat × Nat} (hr : rd ≤ 80) (h : pKey tp sz at0 rd = .ok q) : at0 ≤ q.2.1 ∧ q.2.2 ≤ 80 := by
  obtain ⟨a, h1, h⟩ := pb_inv h
  rw [← Except.ok.inj h]
  exact ⟨by show at0 ≤ a.2; rw [pLet_ok h1]; exact Nat.le_succ _, hr⟩
def pMono (rec : Nat → Nat → Nat → pE (zNd × Nat × Nat)) : Prop := ∀ deep at0 rd q, rd ≤ 80 → rec deep at0 rd = .ok q → at0 < q.2.1 ∧ q.2.2 ≤ 80
theorem pIn_ok {rec : Nat → Nat → Nat → pE (zNd × Nat × Nat)} (hrec : pMono rec) {k p deep at0 rd : Nat} {q : zNd × Nat × Nat} (hr : rd ≤ 80) (h : pIn tp sz rec k p deep at0 rd = .ok q) : at0 < q.2.1 ∧ q.2.2 ≤ 80 := by
  unfold pIn at h
  split at h
  · obtain ⟨a, h1, h⟩ := pb_inv h
    obtain ⟨b, h2, h⟩ := pb_inv h
    obtain ⟨c, h3, h⟩ := pb_inv h
    obtain ⟨e, h4, h⟩ := pb_inv h
    rw [← Except.ok.inj h]
    have := pLet_ok h1
    have := pWant_ok h2
    exact ⟨by show at0 < b; omega, hr⟩
  split at h
  · obtain ⟨a, h1, h⟩ := pb_inv h
    obtain ⟨b, h2, h⟩ := pb_inv h
    obtain ⟨c, h3, h⟩ := pb_inv h
    rw [← Except.ok.inj h]
    have h1' : at0 ≤ a.2 := by
      split at h1
      · exact pNum_ok h1
      · rw [pLet_ok h1]; exact Nat.le_succ _
    have := pWant_ok h2
    exact ⟨by show at0 < b; omega, hr⟩
  split at h
  · obtain ⟨a, h1, h⟩ := pb_inv h
    obtain ⟨b, h2, h⟩ := pb_inv h
    have e1 := pNum_ok h1
    have e2 := pItems_ok (fun a r q hr h => ⟨Nat.le_of_lt (hrec _ a r q hr h).1, (hrec _ a r q hr h).2⟩) hr h2
    split at h
    · cases h
    · obtain ⟨c, h3, h⟩ := pb_inv h
      obtain ⟨x, h4, h⟩ := pb_inv h
      rw [← Except.ok.inj h]
      have := pWant_ok h3
      exact ⟨by show at0 < c; omega, e2.2⟩
  split at h
  · obtain ⟨a, h1, h⟩ := pb_inv h
    obtain ⟨b, h2, h⟩ := pb_inv h
    have e1 := pNum_ok h1
    have e2 := pItems_ok (fun a r q hr h => pKey_ok hr h) hr h2
    split at h
    · cases h
    · obtain ⟨c, h3, h⟩ := pb_inv h
      obtain ⟨x, h4, h⟩ := pb_inv h
      rw [← Except.ok.inj h]
      have := pWant_ok h3
      exact ⟨by show at0 < c; omega, e2.2⟩
  obtain ⟨a, h1, h⟩ := pb_inv h
  obtain ⟨b, h2, h⟩ := pb_inv h
  obtain ⟨c, h3, h⟩ := pb_inv h
  have e1 := hrec _ _ _ _ hr h1
  have e2 := pWant_ok h2
  have e3 := hrec _ _ _ _ e1.2 h3
  split at h
  · obtain ⟨x, h4, h⟩ := pb_inv h
    obtain ⟨y, h5, h⟩ := pb_inv h
    obtain ⟨z, h6, h⟩ := pb_inv h
    obtain ⟨w, h7, h⟩ := pb_inv h
    rw [← Except.ok.inj h]
    have e4 := pWant_ok h4
    have e5 := hrec _ _ _ _ e3.2 h5
    have e6 := pWant_ok h6
    exact ⟨by show at0 < z; omega, e5.2⟩
  · obtain ⟨x, h4, h⟩ := pb_inv h
    obtain ⟨y, h5, h⟩ := pb_inv h
    rw [← Except.ok.inj h]
    have e4 := pWant_ok h4
    exact ⟨by show at0 < x; omega, e3.2⟩
theorem pRead_ok {p deep rd r : Nat} {two : Bool} (h : pRead p deep rd two = .ok r) : r ≤ 80 ∧ deep ≤ 24 := by
  unfold pRead at h
  split at h
  · cases h
  · rename_i hc
    rw [← Except.ok.inj h]
    cases two <;> simp at hc <;> simp <;> omega
theorem pNamed_ok {rec : Nat → Nat → Nat → pE (zNd × Nat × Nat)} (hrec : pMono rec) {deep at0 rd : Nat} {q : zNd × Nat × Nat} (hr : rd ≤ 80) (h : pNamed tp sz rec deep at0 rd = .ok q) : at0 < q.2.1 ∧ q.2.2 ≤ 80 := by
  unfold pNamed at h
  split at h
  · cases h
  · rename_i k hk
    have hne : at0 < pWE tp sz at0 := by
      refine Classical.byContradiction fun hn => ?_
      rw [pWl_nil (by omega)] at hk
      exact absurd hk (by decide)
    obtain ⟨a, h1, h⟩ := pb_inv h
    have e1 := pRead_ok h1
    split at h
    · obtain ⟨b, h2, h⟩ := pb_inv h
      rw [← Except.ok.inj h]
      exact ⟨hne, e1.1⟩
    · obtain ⟨b, h2, h⟩ := pb_inv h
      have e2 := pWant_ok h2
      have e3 := pIn_ok hrec e1.1 h
      exact ⟨by omega, e3.2⟩
theorem pReads_ok : ∀ {l : List Nat} {p deep rd r : Nat}, rd ≤ 80 → pReads l p deep rd = .ok r → r ≤ 80 := by
  intro l
  induction l with
  | nil => intro p deep rd r h e; rw [← Except.ok.inj e]; exact h
  | cons c l ih =>
    intro p deep rd r h e
    obtain ⟨a, h1, h2⟩ := pb_inv e
    exact ih (pRead_ok h1).1 h2
theorem pWEn_le : ∀ {n e : Nat}, e ≤ pWEn tp sz n e := by
  intro n
  induction n with
  | zero => intro e; exact Nat.le_refl _
  | succ n ih =>
    intro e
    unfold pWEn
    split
    · exact Nat.le_trans (Nat.le_succ _) ih
    · exact Nat.le_refl _
theorem pF_ok : ∀ f, pMono (pF tp sz f) := by
  intro f
  induction f with
  | zero => intro deep at0 rd q _ h; cases h
  | succ f ih =>
    intro deep at0 rd q hr h
    unfold pF at h
    split at h
    · cases h
    split at h
    · obtain ⟨a, h1, h⟩ := pb_inv h
      obtain ⟨b, h2, h⟩ := pb_inv h
      have e2 := pReads_ok hr h2
      split at h
      · cases h
      · obtain ⟨c, h3, h⟩ := pb_inv h
        obtain ⟨x, h4, h⟩ := pb_inv h
        rw [← Except.ok.inj h]
        have e3 := pNamed_ok ih e2 h3
        have : at0 ≤ pWE tp sz at0 := pWEn_le
        exact ⟨by show at0 < c.2.1; omega, e3.2⟩
    · exact pNamed_ok ih hr h
theorem emap_cap {r : pE zNd} {a b : Nat} {y : zNd} {a' b' : Nat} (h : r.map (fun y => (y, a, b)) = .ok (y, a', b')) : a' = a := by
  revert h
  cases r with
  | error z => intro e; cases e
  | ok z => intro e; cases e; rfl
/-- are all letters wrappers? -/
theorem m_loop66 (hd : 4 ≤ d) {K lo0 deep be e at0 rd nx wt B : Nat} {rec : Nat → Nat → Nat → pE (zNd × Nat × Nat)} {S : zS} (hF : zFin true S) (hK : K + 4 ≤ d) (hP : mP tp sz S at0 rd nx wt) (hrd : rd ≤ 80) (hB : nx + 2 * (sz - at0) ≤ B) (hB3 : B ≤ 3000) (hwt : wt + (sz - at0) ≤ 2000) (hRR : ∀ dp d', lo0 ≤ dp → dp ≤ 24 → K ≤ d' → mRd tp sz B d' (dp + 1) rec) (hbe : be ≤ e) (hes : e < sz) (hdp : deep < 1000) :
    ∀ (m k : Nat), k + m = e → (pBad (pWl tp k e) k = .ok () → zEv d 124 105 [.ref 1592, .retAddr 0, .int (Int32.ofNat be), .int (Int32.ofNat e), .int (Int32.ofNat deep), .int (Int32.ofNat be), .retAddr 0] [] S post) →
      (∀ S' p, zFin true S' → pBad (pWl tp k e) k = .error (1, p) → mFr B nx wt S S' → mX S' 1 p → zEv d 124 105 [.ref 1592, .retAddr 0, .int (Int32.ofNat be), .int (Int32.ofNat e), .int (Int32.ofNat deep), .int (Int32.ofNat be), .retAddr 0] [] S' post) →
      zEv d 124 66 [.ref 1592, .int (Int32.ofNat deep), .int (Int32.ofNat be), .int (Int32.ofNat e), .int (Int32.ofNat k), .retAddr 0, .retAddr 0] [] S post := by
  intro m
  have hs := hP.2.2.2.1
  have ha := hP.2.2.2.2
  have ht := hP.2.2.1
  induction m with
  | zero =>
    intro k hk K1 K2
    refine rf66 (B := B) (rec := rec) hF (by omega) deep be e k hK hP hs ha hrd hB hB3 hwt hRR hbe hes hdp (by omega) (fun _ => K1 (by rw [pWl_nil (by omega)]; rfl)) (fun b => absurd (by omega) b) (fun b => absurd (by omega) b)
  | succ m ih =>
    intro k hk K1 K2
    have hke : k < e := by omega
    have hm : tp k % 256 = tp k := Nat.mod_eq_of_lt (ht k)
    refine rf66 (B := B) (rec := rec) hF (by omega) deep be e k hK hP hs ha hrd hB hB3 hwt hRR hbe hes hdp (by omega) (fun b => absurd b (by omega)) (fun _ w hw _ _ => ?_) (fun _ hw S5 f5 k5 x5 v5 => ?_)
    · rw [hm] at hw
      have e1 : pBad (pWl tp k e) k = pBad (pWl tp (k + 1) e) (k + 1) := by
        rw [pWl_cons hke]
        show (match pWr (tp k) with | none => _ | some _ => _) = _
        rw [hw]
      exact ih (k + 1) (by omega) (fun q => K1 (e1.trans q)) (fun S' p f q r x => K2 S' p f (e1.trans q) r x)
    · rw [hm] at hw
      have e1 : pBad (pWl tp k e) k = .error (1, k) := by
        rw [pWl_cons hke]
        show (match pWr (tp k) with | none => _ | some _ => _) = _
        rw [hw]
      exact m_loop66b hd f5 v5 x5 hbe hes hdp (K2 S5 k f5 e1 k5 x5) m (k + 1) (by omega)
/-- the wrappers are counted -/
theorem m_loop105 (hd : 14 ≤ d) {K lo0 be e at0 nx wt B : Nat} {rec : Nat → Nat → Nat → pE (zNd × Nat × Nat)} {S0 : zS} (hK : K + 4 ≤ d) (hB : nx + 2 * (sz - at0) ≤ B) (hB3 : B ≤ 3000) (hwt : wt + (sz - at0) ≤ 2000) (hRR : ∀ dp d', lo0 ≤ dp → dp ≤ 24 → K ≤ d' → mRd tp sz B d' (dp + 1) rec) (hbe : be ≤ e) (hes : e < sz) (h1e : 1 ≤ e) (hae : at0 ≤ e) (hpw : ∀ k, be ≤ k → k < e → ∃ w, pWr (tp k) = some w) :
    ∀ (m k dd rd : Nat) (S : zS), k + m = e → be ≤ k → zFin true S → mP tp sz S at0 rd nx wt → rd ≤ 80 → dd + m < 2000 → lo0 ≤ dd → mFr B nx wt S0 S →
      (∀ S' rd', zFin true S' → pReads (pWl tp k e) k dd rd = .ok rd' → rd' ≤ 80 → mFr B nx wt S0 S' → mP tp sz S' at0 rd' nx wt → zEv d 124 105 [.ref 1592, .retAddr 0, .int (Int32.ofNat be), .int (Int32.ofNat e), .int (Int32.ofNat (dd + m)), .int (Int32.ofNat e), .retAddr 0] [] S' post) →
      (∀ S' p y k', zFin true S' → pReads (pWl tp k e) k dd rd = .error (2, p) → mFr B nx wt S0 S' → mX S' 2 p → k' ≤ e → zEv d 124 105 [.ref 1592, .retAddr 0, .int (Int32.ofNat be), .int (Int32.ofNat e), .int y, .int (Int32.ofNat k'), .retAddr 0] [] S' post) →
      zEv d 124 105 [.ref 1592, .retAddr 0, .int (Int32.ofNat be), .int (Int32.ofNat e), .int (Int32.ofNat dd), .int (Int32.ofNat k), .retAddr 0] [] S post := by
  intro m
  induction m with
  | zero =>
    intro k dd rd S hk hbk hF hP hrd hdd hlo hfr K1 K2
    have e0 : k = e := by omega
    subst e0
    exact K1 S rd hF (by rw [pWl_nil (Nat.le_refl _)]; rfl) hrd hfr hP
  | succ m ih =>
    intro k dd rd S hk hbk hF hP hrd hdd hlo hfr K1 K2
    have hke : k < e := by omega
    have hs := hP.2.2.2.1
    have ha := hP.2.2.2.2
    have hm : tp k % 256 = tp k := Nat.mod_eq_of_lt (hP.2.2.1 k)
    obtain ⟨w, hw⟩ := hpw k hbk hke
    have eC : pReads (pWl tp k e) k dd rd = (do
      let rd1 ← pRead k dd rd (decide (100 < w))
      pReads (pWl tp (k + 1) e) (k + 1) (dd + 1) rd1) := by
      rw [pWl_cons hke]
      show (pRead k dd rd (decide (100 < (pWr (tp k)).getD 0)) >>= fun rd1 => pReads (pWl tp (k + 1) e) (k + 1) (dd + 1) rd1) = _
      rw [hw]
      rfl
    have go : ∀ (S1 : zS) (rd1 : Nat), zFin true S1 → pRead k dd rd (decide (100 < w)) = .ok rd1 → rd1 ≤ 80 → mFr B nx wt S S1 → mP tp sz S1 at0 rd1 nx wt → zEv d 124 105 [.ref 1592, .retAddr 0, .int (Int32.ofNat be), .int (Int32.ofNat e), .int (Int32.ofNat (dd + 1)), .int (Int32.ofNat (k + 1)), .retAddr 0] [] S1 post := by
      intro S1 rd1 f1 e1 g1 k1 p1
      refine ih (k + 1) (dd + 1) rd1 S1 (by omega) (by omega) f1 p1 g1 (by omega) (by omega) (hfr.tr k1) ?_ ?_
      · intro S' rd' f' e' g' k' p'
        rw [show dd + 1 + m = dd + (m + 1) from by omega]
        exact K1 S' rd' f' (eC.trans ((pb_ok e1).trans e')) g' k' p'
      · intro S' p y k' f' e' q' x' l'
        exact K2 S' p y k' f' (eC.trans ((pb_ok e1).trans e')) q' x' l'
    have no : ∀ {X : Prop}, pWr (tp k % 256) = none → X := fun h => by rw [hm, hw] at h; cases h
    refine rf105 (S := S) (B := B) (rec := rec) hF (by omega) be e dd k hK hP hs ha hrd hB hB3 hwt hRR hbe hes (by omega) (by omega) h1e hae hlo ?_ ?_ ?_ ?_ ?_ ?_ ?_ ?_
    · intro _ w6 q6 b6 c6 n6 S9 rd9 f9 e9 g9 l9 k9 p9
      rw [hm, hw] at q6
      have ew := Option.some.inj q6
      exact go S9 rd9 f9 (by rw [decide_eq_false (by omega)]; exact e9) g9 k9 p9
    · intro _ w6 q6 b6 c6 n6 S10 f10 e10 k10 x10
      rw [hm, hw] at q6
      have ew := Option.some.inj q6
      exact K2 S10 k _ (k + 1) f10 (eC.trans (pb_er (by rw [decide_eq_false (by omega)]; exact e10))) (hfr.tr k10) x10 (by omega)
    · intro _ w6 q6 b6 c6 n6 S9 rd9 f9 e9 g9 l9 k9 p9
      rw [hm, hw] at q6
      have ew := Option.some.inj q6
      exact go S9 rd9 f9 (by rw [decide_eq_true (by omega)]; exact e9) g9 k9 p9
    · intro _ w6 q6 b6 c6 n6 S10 f10 e10 k10 x10
      rw [hm, hw] at q6
      have ew := Option.some.inj q6
      exact K2 S10 k _ (k + 1) f10 (eC.trans (pb_er (by rw [decide_eq_true (by omega)]; exact e10))) (hfr.tr k10) x10 (by omega)
    · intro _ q6; exact no q6
    · intro _ q6; exact no q6
    · intro b; exact absurd b (by omega)
    · intro b; exact absurd b (by omega)
theorem m_frag {S : zS} (hF : zFin true S) {K f : Nat} (hd : 14 ≤ d) (hK : K + 4 ≤ d) {at0 rd nx wt B deep : Nat} (hP : mP tp sz S at0 rd nx wt) (hdp : deep < 100) (hrd : rd ≤ 80) (hB : nx + 2 * (sz - at0) ≤ B) (hB3 : B ≤ 3000) (hwt : wt + (sz - at0) ≤ 2000) (hRR : ∀ dp d', deep ≤ dp → dp ≤ 24 → K ≤ d' → mRd tp sz B d' (dp + 1) (pF tp sz f))
    (h : ∀ S' q, mEnd tp sz B nx wt S (pF tp sz (f + 1) deep at0 rd) (fun at1 => nx + 2 * (at1 - at0)) q S' → post (.returned (some (.int q)), S')) : zCall d 124 [.ref 1592, .int (Int32.ofNat deep)] S post := by
  have hs := hP.2.2.2.1
  have ha := hP.2.2.2.2
  have ht := hP.2.2.1
  have fat : ∀ {S : zS} {v : Int32}, mFr B nx wt S (sI S 89 1592 v) := mFr_sI (by decide)
  refine rf0 (B := B) (rec := pF tp sz f) hF (by omega) deep hK hP hs ha hrd hB hB3 hwt hRR (by omega) (Nat.le_refl _) ?_ ?_ ?_
  · intro e w5 l5 z5 n5 n6 c6
    have hes : e < sz := by omega
    rw [Nat.mod_eq_of_lt (ht e)] at c6
    have eU : pF tp sz (f + 1) deep at0 rd = (do
      let _ ← pBad (pWl tp at0 e) at0
      let rd1 ← pReads (pWl tp at0 e) at0 deep rd
      if pWE tp sz (e + 1) = e + 1 then .error (1, e + 1) else do
        let q ← pNamed tp sz (pF tp sz f) (deep + (e - at0)) (e + 1) rd1
        let x ← pWraps (pWl tp at0 e) at0 q.1
        .ok (x, q.2.1, q.2.2)) := by
      rw [pF, w5, if_neg n5, if_pos ⟨hes, c6⟩]
    refine m_loop66 (B := B) (rec := pF tp sz f) (by omega) hF hK hP hrd hB hB3 hwt hRR l5 hes (by omega) (e - at0) at0 (by omega) (fun hb => ?_) (fun S' p f' hb k' x' => ?_)
    · have hpw : ∀ k, at0 ≤ k → k < e → ∃ w, pWr (tp k) = some w := fun k h1 h2 => pBad_mem hb _ (pWl_mem h1 h2)
      refine m_loop105 (S0 := S) (B := B) (rec := pF tp sz f) hd hK hB hB3 hwt hRR l5 hes (by omega) (by omega) hpw (e - at0) at0 deep rd S (by omega) (Nat.le_refl _) hF hP hrd (by omega) (Nat.le_refl _) mFr.rf ?_ ?_
      · intro S1 rd1 f1 e1 g1 k1 p1
        refine rf105 (S := S1) (B := B) (rec := pF tp sz f) f1 (by omega) at0 e (deep + (e - at0)) e hK p1 hs ha g1 hB hB3 hwt hRR l5 hes (by omega) (Nat.le_refl _) (by omega) (by omega) (by omega) (fun b => absurd (Nat.le_refl _) b) (fun b => absurd (Nat.le_refl _) b) (fun b => absurd (Nat.le_refl _) b) (fun b => absurd (Nat.le_refl _) b) (fun b => absurd (Nat.le_refl _) b) (fun b => absurd (Nat.le_refl _) b) ?_ ?_
        · intro _ e19 w19 l19 z19 n19 S22 q22 m22
          have n19' : ¬ pWE tp sz (e + 1) = e + 1 := by rw [w19]; exact n19
          obtain ⟨g2, k2, r2⟩ := m22
          have kk := (k1.tr fat).tr k2
          cases hn : pNamed tp sz (pF tp sz f) (deep + (e - at0)) (e + 1) rd1 with
          | error z =>
            obtain ⟨z1, z2⟩ := z
            rw [hn] at r2
            have r2 : mX S22 z1 z2 := r2
            refine zEv.wk (by repeat' (first | exact trivial | exact Or.inl rfl | exact Or.inr rfl | refine ⟨?_, ?_⟩)) (rf202b (S := S22) g2 (by omega) at0 (e - 1) z1 q22 r2.1 r2.2.2.1 r2.2.2.2 (by omega) (by omega) ?_)
            refine h S22 q22 (mEnd.err g2 kk r2 ?_)
            refine eU.trans ((pb_ok hb).trans ((pb_ok e1).trans ?_))
            show (if pWE tp sz (e + 1) = e + 1 then _ else _) = _
            rw [if_neg n19']
            exact pb_er hn
          | ok q =>
            obtain ⟨x, at1, rd2⟩ := q
            rw [hn] at r2
            obtain ⟨i, nx1, rfl, t1, p2, c1⟩ := r2
            have c1 : nx1 ≤ nx + 2 * (at1 - (e + 1)) := c1
            have ho := pNamed_ok (pF_ok f) g1 hn
            have ho : e + 1 < at1 ∧ rd2 ≤ 80 := ho
            have ha1 := p2.2.2.2.2
            refine zEv.wk (by repeat' (first | exact trivial | exact Or.inl rfl | exact Or.inr rfl | refine ⟨?_, ?_⟩)) (m_loop202 (d := d) (post := post) (S0 := S) (be := at0) (e := e) (nx0 := nx) (wt := wt) (B := B) (C := nx + 2 * (at1 - at0)) (at1 := at1) (rd1 := rd2) (x := x) (by omega) hs hes hB3 (by omega) ht hpw (fun S' q mm => ?_) (e - 1 - at0) (e - 1) S22 x i nx1 (by omega) (by omega) g2 p2 t1 kk (by rw [show e - 1 + 1 = e from by omega, pWl_nil (Nat.le_refl _)]; rfl) (by omega))
            refine h S' q (mm.pre mFr.rf ?_ (fun y a b e9 => ?_))
            · refine eU.trans ((pb_ok hb).trans ((pb_ok e1).trans ?_))
              show (if pWE tp sz (e + 1) = e + 1 then _ else _) = _
              rw [if_neg n19']
              refine (pb_ok hn).trans ?_
              show (pWraps (pWl tp at0 e) at0 x >>= fun x => Except.ok (x, at1, rd2)) = _
              cases pWraps (pWl tp at0 e) at0 x <;> rfl
            · have ea := emap_cap e9
              subst ea
              exact Nat.le_refl _
        · intro _ e19 w19 l19 z19 n19 S21 f21 k21 x21 v21
          refine zEv.wk (by repeat' (first | exact trivial | exact Or.inl rfl | exact Or.inr rfl | refine ⟨?_, ?_⟩)) (rf202b (S := S21) f21 (by omega) at0 (e - 1) 1 _ x21.1 x21.2.2.1 x21.2.2.2 (by omega) (by omega) ?_)
          refine h S21 _ (mEnd.err f21 ((k1.tr fat).tr k21) x21 ?_)
          refine eU.trans ((pb_ok hb).trans ((pb_ok e1).trans ?_))
          show (if pWE tp sz (e + 1) = e + 1 then _ else _) = _
          rw [if_pos (by rw [w19]; exact n19)]
      · intro S1 p y k' f1 e1 k1 x1 l1
        refine zEv.wk (by repeat' (first | exact trivial | exact Or.inl rfl | exact Or.inr rfl | refine ⟨?_, ?_⟩)) (rf105b (S := S1) (sz := sz) (kf := 2) (pf := p) f1 (by omega) at0 e k' y x1.1 x1 (by omega) (by omega) hs l5 hes (by omega) l1 ?_)
        refine zEv.wk (by repeat' (first | exact trivial | exact Or.inl rfl | exact Or.inr rfl | refine ⟨?_, ?_⟩)) (rf202b (S := sI S1 89 1592 (Int32.ofNat (e + 1))) f1 (by omega) at0 (e - 1) 2 _ x1.1 (by omega) (by omega) (by omega) (by omega) ?_)
        exact h _ _ (mEnd.err f1 (k1.tr fat) (mX_at x1) (eU.trans ((pb_ok hb).trans (pb_er e1))))
    · refine zEv.wk (by repeat' (first | exact trivial | exact Or.inl rfl | exact Or.inr rfl | refine ⟨?_, ?_⟩)) (rf105b (S := S') (sz := sz) (kf := 1) (pf := p) f' (by omega) at0 e at0 _ x'.1 x' (by omega) (by omega) hs l5 hes (by omega) l5 ?_)
      refine zEv.wk (by repeat' (first | exact trivial | exact Or.inl rfl | exact Or.inr rfl | refine ⟨?_, ?_⟩)) (rf202b (S := sI S' 89 1592 (Int32.ofNat (e + 1))) f' (by omega) at0 (e - 1) 1 _ x'.1 (by omega) (by omega) (by omega) (by omega) ?_)
      exact h _ _ (mEnd.err f' (k'.tr fat) (mX_at x') (eU.trans (pb_er hb)))
  · intro e w5 l5 z5 n5 c6 S11 q11 m11
    refine h S11 q11 (m11.pre mFr.rf ?_ (fun _ _ _ _ => Nat.le_refl _))
    rw [pF, w5, if_neg n5, if_neg]
    rintro ⟨h1, h2⟩
    rcases c6 with c | c
    · omega
    · exact c (by rw [h2])
  · intro e w5 l5 z5 n5 S12 f12 k12 x12 v12
    refine h S12 _ (mEnd.err f12 k12 x12 ?_)
    rw [pF, w5, if_pos n5]
/-- reading a fragment answers as the plain reader -/
theorem m_read {B : Nat} (hB3 : B ≤ 3000) : ∀ (f deep d : Nat), deep ≤ 25 → 26 ≤ f + deep → 4 * f + 20 ≤ d → mRd tp sz B d deep (pF tp sz f) := by
  intro f
  induction f with
  | zero => intro deep d h1 h2; omega
  | succ f ih =>
    intro deep d h1 h2 h3 S at0 rd nx wt post hF hP hrd hB hwt k1 k2
    refine m_frag (K := 4 * f + 20) (f := f) (B := B) hF (by omega) (by omega) hP (by omega) hrd hB hB3 hwt (fun dp d' a b c => ih (dp + 1) d' (by omega) (by omega) c) (fun S' q mm => ?_)
    obtain ⟨g, kk, r⟩ := mm
    cases hq : pF tp sz (f + 1) deep at0 rd with
    | error z =>
      obtain ⟨z1, z2⟩ := z
      rw [hq] at r
      have r : mX S' z1 z2 := r
      exact k2 S' q z1 z2 g hq kk r r.2.2
    | ok w =>
      obtain ⟨x, at1, rd1⟩ := w
      rw [hq] at r
      obtain ⟨i, nx1, rfl, t1, p1, c1⟩ := r
      have ho : at0 < at1 ∧ rd1 ≤ 80 := pF_ok (f + 1) _ _ _ _ hrd hq
      have hi := t1.i3
      exact k1 S' x i at1 rd1 nx1 g hq kk t1 p1 ⟨ho.1, p1.2.2.2.2, c1, ho.2, by omega, hi.2⟩
end Q21

