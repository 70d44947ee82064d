set_option maxRecDepth 100000
/-! ===== the twin reads a fragment ===== -/
section Q20
variable {d : Nat} {post : Outcome × zS → Prop} {tp : Nat → Nat} {sz : Nat}
theorem pWl_cons {k e : Nat} (h : k < e) : pWl tp k e = tp k :: pWl tp (k + 1) e := by
  unfold pWl
  rw [show e - k = (e - (k + 1)) + 1 from by omega, List.range_succ_eq_map, List.map_cons, List.map_map]
  congr 1
  apply List.map_congr_left
  intro i _
  show tp (k + (i + 1)) = tp (k + 1 + i)
  congr 1
  omega
theorem pWl_nil {k e : Nat} (h : e ≤ k) : pWl tp k e = [] := by
  unfold pWl
  rw [show e - k = 0 from by omega]
  rfl
theorem pBad_mem {l : List Nat} : ∀ {p : Nat}, pBad l p = .ok () → ∀ c ∈ l, ∃ w, pWr c = some w := by
  induction l with
  | nil => intro p _ c hc; cases hc
  | cons a l ih =>
    intro p h c hc
    unfold pBad at h
    cases hq : pWr a with
    | none => rw [hq] at h; cases h
    | some w =>
      rw [hq] at h
      rcases List.mem_cons.mp hc with e | e
      · exact ⟨w, by rw [e]; exact hq⟩
      · exact ih h c e
theorem pWl_mem {a e k : Nat} (h1 : a ≤ k) (h2 : k < e) : tp k ∈ pWl tp a e := by
  unfold pWl
  refine List.mem_map.mpr ⟨k - a, List.mem_range.mpr (by omega), ?_⟩
  congr 1
  omega
theorem pWraps_cons {k e w : Nat} {x y : zNd} (h : k < e) (hw : pWr (tp k) = some w) (hy : pWraps (pWl tp (k + 1) e) (k + 1) x = .ok y) : pWraps (pWl tp k e) k x = pWrap w y k := by
  rw [pWl_cons h]
  show (pWraps (pWl tp (k + 1) e) (k + 1) x >>= fun y => pWrap ((pWr (tp k)).getD 0) y k) = _
  rw [pb_ok hy, hw]
  rfl
theorem pWraps_er {be e : Nat} {x : zNd} {z : Nat × Nat} : ∀ (m k : Nat), k = be + m → k < e → pWraps (pWl tp k e) k x = .error z → pWraps (pWl tp be e) be x = .error z := by
  intro m
  induction m with
  | zero => intro k hk _ h; rw [hk] at h; exact h
  | succ m ih =>
    intro k hk he h
    refine ih (k - 1) (by omega) (by omega) ?_
    rw [pWl_cons (by omega)]
    show (pWraps (pWl tp (k - 1 + 1) e) (k - 1 + 1) x >>= _) = _
    rw [show k - 1 + 1 = k from by omega]
    exact pb_er h
theorem zi_pred {be : Nat} (h : be < 1000) : Int32.ofNat be + (-1) < Int32.ofNat be := by
  by_cases e : be = 0
  · subst e; decide
  · rw [zi_decE (n := be) (c := 1) rfl (by omega) (by decide)]
    exact (zi_ltE rfl rfl (by omega) (by omega)).mpr (by omega)
/-- the wrappers are put around -/
theorem m_loop202 (hd : 9 ≤ d) {be e nx0 wt B C at1 rd1 : Nat} {x : zNd} {S0 : zS} (hs0 : sz ≤ 300) (hes : e < sz) (hB3 : B ≤ 3000) (hC : C ≤ B) (ht : ∀ j, tp j < 256) (hpw : ∀ k, be ≤ k → k < e → ∃ w, pWr (tp k) = some w)
    (h : ∀ S' q, mEnd tp sz B nx0 wt S0 ((pWraps (pWl tp be e) be x).map (fun y => (y, at1, rd1))) (fun _ => C) q S' → post (.returned (some (.int q)), S')) :
    ∀ (m k : Nat) (S : zS) (y : zNd) (i ny : Nat), k = be + m → k < e → zFin true S → mP tp sz S at1 rd1 ny wt → mT true S nx0 ny y i → mFr B nx0 wt S0 S → pWraps (pWl tp (k + 1) e) (k + 1) x = .ok y → ny + 2 * (k + 1 - be) ≤ C →
      zEv d 124 202 [.ref 1592, .retAddr 0, .int (Int32.ofNat be), .retAddr 0, .retAddr 0, .int (Int32.ofNat i), .int (Int32.ofNat k)] [] S post := by
  intro m
  induction m with
  | zero =>
    intro k S y i ny hk hke hF hP hx hfr hy hny
    obtain ⟨w, hw⟩ := hpw k (by omega) hke
    have hw' : pWr (tp k % 256) = some w := by rw [Nat.mod_eq_of_lt (ht k)]; exact hw
    have hv := pWr_v hw
    have hv5 : w ≤ 105 := by unfold pWv at hv; omega
    have eW := pWraps_cons hke hw hy
    have hkb : k = be := by omega
    refine rf202 (S := S) (B := B) hF (by omega) be e i k w hP hx hs0 hes hx.i3.2 (by omega) hB3 (by omega) hke hw' hv hv5 (fun _ => ?_) (fun b => absurd b (by omega))
    refine m_wrapped (B := B) hF (by omega) hP (by omega) hB3 hx (by omega) hv (fun S' q mm => ?_)
    show zEv d 124 233 _ [.int q] S' post
    refine zEv.wk (by repeat' (first | exact trivial | exact Or.inl rfl | exact Or.inr rfl | refine ⟨?_, ?_⟩)) (rf233e (S := S') mm.1 be (Int32.ofNat k) q (fun _ => ?_) (fun b => absurd (by rw [hkb]; exact zi_pred (by omega)) b))
    refine h S' q (mm.pre hfr ?_ (fun _ _ _ _ => ?_))
    · rw [← hkb, eW]
    · show ny + (if w < 100 then 1 else 2) ≤ C
      split <;> omega
  | succ m ih =>
    intro k S y i ny hk hke hF hP hx hfr hy hny
    obtain ⟨w, hw⟩ := hpw k (by omega) hke
    have hw' : pWr (tp k % 256) = some w := by rw [Nat.mod_eq_of_lt (ht k)]; exact hw
    have hv := pWr_v hw
    have hv5 : w ≤ 105 := by unfold pWv at hv; omega
    have eW := pWraps_cons hke hw hy
    refine rf202 (S := S) (B := B) hF (by omega) be e i k w hP hx hs0 hes hx.i3.2 (by omega) hB3 (by omega) hke hw' hv hv5 (fun _ => ?_) (fun b => absurd b (by omega))
    refine m_wrapped (B := B) hF (by omega) hP (by omega) hB3 hx (by omega) hv (fun S' q mm => ?_)
    show zEv d 124 233 _ [.int q] S' post
    obtain ⟨g1, g2, g3⟩ := mm
    refine zEv.wk (by repeat' (first | exact trivial | exact Or.inl rfl | exact Or.inr rfl | refine ⟨?_, ?_⟩)) (rf233 (S := S') g1 be k q (by omega) (by omega) ?_)
    cases hq : pWrap w y k with
    | error z =>
      obtain ⟨z1, z2⟩ := z
      rw [hq] at g3
      have g3 : mX S' z1 z2 := g3
      refine rf202b (S := S') g1 (by omega) be (k - 1) z1 q g3.1 g3.2.2.1 g3.2.2.2 (by omega) (by omega) ?_
      refine h S' q (mEnd.err g1 (hfr.tr g2) g3 ?_)
      rw [pWraps_er (m + 1) k hk hke (eW.trans hq)]
      rfl
    | ok y' =>
      rw [hq] at g3
      obtain ⟨i', nx1, rfl, t1, p1, c1⟩ := g3
      refine ih (k - 1) S' y' i' nx1 (by omega) (by omega) g1 p1 t1 (hfr.tr g2) ?_ ?_
      · rw [show k - 1 + 1 = k from by omega]
        exact eW.trans hq
      · have : nx1 ≤ ny + (if w < 100 then 1 else 2) := c1
        have h2 : (if w < 100 then 1 else 2) ≤ 2 := by split <;> omega
        omega
/-- are all letters wrappers? -/
theorem m_loop66b (hd : 4 ≤ d) {deep be e at0 kf pf : Nat} {S : zS} (hF : zFin true S) (hV : mV tp sz S at0) (hX : mX S kf pf) (hbe : be ≤ e) (hes : e < sz) (hdp : deep < 1000)
    (h : zEv d 124 105 [.ref 1592, .retAddr 0, .int (Int32.ofNat be), .int (Int32.ofNat e), .int (Int32.ofNat deep), .int (Int32.ofNat be), .retAddr 0] [] S post) :
    ∀ (m k : Nat), k + m = e → zEv d 124 66 [.ref 1592, .int (Int32.ofNat deep), .int (Int32.ofNat be), .int (Int32.ofNat e), .int (Int32.ofNat k), .retAddr 0, .retAddr 0] [] S post := by
  intro m
  have hs := hV.2.2.2.2.1
  induction m with
  | zero => intro k hk; exact rf66b hF (by omega) deep be e k hX.1 hV hX hX.2.2.1 hX.2.2.2 hs hbe hes hdp (by omega) (fun _ => h) (fun b => absurd (by omega) b) (fun b => absurd (by omega) b)
  | succ m ih => intro k hk; exact rf66b hF (by omega) deep be e k hX.1 hV hX hX.2.2.1 hX.2.2.2 hs hbe hes hdp (by omega) (fun b => absurd b (by omega)) (fun _ w _ _ _ => ih (k + 1) (by omega)) (fun _ _ => ih (k + 1) (by omega))
end Q20

