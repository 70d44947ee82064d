set_option maxRecDepth 100000
/-! ===== the house reads wrappers, the whole of it ===== -/
section X26
variable {d : Nat} {post : Outcome × zS → Prop} {tp : Nat → Nat} {sz : Nat}
theorem pWr_cases {c : Nat} (h : c ∈ ztn 29) : c = 97 ∨ c = 115 ∨ c = 99 ∨ c = 100 ∨ c = 118 ∨ c = 106 ∨ c = 110 ∨ c = 116 ∨ c = 108 ∨ c = 117 := by
  have e : ∀ x, x ∈ ztn 29 → x = 97 ∨ x = 115 ∨ x = 99 ∨ x = 100 ∨ x = 118 ∨ x = 106 ∨ x = 110 ∨ x = 116 ∨ x = 108 ∨ x = 117 := by decide
  exact e c h
theorem pWr_case {c v : Nat} (h : pWr c = some v) : c = 97 ∨ c = 115 ∨ c = 99 ∨ c = 100 ∨ c = 118 ∨ c = 106 ∨ c = 110 ∨ c = 116 ∨ c = 108 ∨ c = 117 := pWr_cases (pWr_in.mp ⟨v, h⟩)
section
variable {rec : Nat → Nat → Nat → pE (zNd × Nat × Nat)} {n k deep e nd v : Nat}
theorem pWx_0 : pWx tp sz rec 0 k deep e nd = if pWE tp sz (e + 1) = e + 1 then .error (1, e + 1) else pNamed tp sz rec deep (e + 1) nd := rfl
theorem pWx_s (hv : pWr (tp k) = some v) : pWx tp sz rec (n + 1) k deep e nd = (do
    let rd1 ← pRead k deep nd (decide (100 < v))
    let q ← pWx tp sz rec n (k + 1) (deep + 1) e rd1
    let x ← pWrap v q.1 k
    .ok (x, q.2.1, q.2.2)) := by
  show (pRead k deep nd (decide (100 < (pWr (tp k)).getD 0)) >>= fun rd1 => pWx tp sz rec n (k + 1) (deep + 1) e rd1 >>= fun q => pWrap ((pWr (tp k)).getD 0) q.1 k >>= fun x => Except.ok (x, q.2.1, q.2.2)) = _
  rw [hv]
  rfl
theorem pWx_103 (hv : pWr (tp k) = some 103) : pWx tp sz rec (n + 1) k deep e nd = (do
    let rd1 ← pRead k deep nd true
    let q ← pWx tp sz rec n (k + 1) (deep + 1) e rd1
    let c ← pJ (tN 1 0 [] k [])
    let x ← pJ (tN 11 0 [] k [q.1, tN 1 0 [] k []])
    .ok (x, q.2.1, q.2.2)) := by
  rw [pWx_s hv, pJ_leaf (by omega)]
  rfl
theorem pWx_104 (hv : pWr (tp k) = some 104) : pWx tp sz rec (n + 1) k deep e nd = (do
    let rd1 ← pRead k deep nd true
    let q ← pWx tp sz rec n (k + 1) (deep + 1) e rd1
    let c ← pJ (tN 0 0 [] k [])
    let x ← pJ (tN 16 0 [] k [tN 0 0 [] k [], q.1])
    .ok (x, q.2.1, q.2.2)) := by
  rw [pWx_s hv, pJ_leaf (by omega)]
  rfl
theorem pWx_105 (hv : pWr (tp k) = some 105) : pWx tp sz rec (n + 1) k deep e nd = (do
    let rd1 ← pRead k deep nd true
    let q ← pWx tp sz rec n (k + 1) (deep + 1) e rd1
    let c ← pJ (tN 0 0 [] k [])
    let x ← pJ (tN 16 0 [] k [q.1, tN 0 0 [] k []])
    .ok (x, q.2.1, q.2.2)) := by
  rw [pWx_s hv, pJ_leaf (by omega)]
  rfl
/-- the twin's three sweeps are the house's one -/
theorem pWx_eq : ∀ (n k deep nd : Nat), k + n = e → (pWx tp sz rec n k deep e nd = do
    let rd1 ← pReads (pWl tp k e) k deep nd
    if pWE tp sz (e + 1) = e + 1 then .error (1, e + 1) else do
      let q ← pNamed tp sz rec (deep + n) (e + 1) rd1
      let x ← pWraps (pWl tp k e) k q.1
      .ok (x, q.2.1, q.2.2)) := by
  intro n
  induction n with
  | zero =>
    intro k deep nd hk
    rw [pWl_nil (by omega), pWx_0]
    show _ = if pWE tp sz (e + 1) = e + 1 then _ else (pNamed tp sz rec (deep + 0) (e + 1) nd >>= fun q => Except.ok (q.1, q.2.1, q.2.2))
    by_cases c : pWE tp sz (e + 1) = e + 1
    · rw [if_pos c, if_pos c]
    · rw [if_neg c, if_neg c]
      show _ = (pNamed tp sz rec deep (e + 1) nd >>= fun q => Except.ok (q.1, q.2.1, q.2.2))
      cases pNamed tp sz rec deep (e + 1) nd <;> rfl
  | succ n ih =>
    intro k deep nd hk
    rw [pWl_cons (by omega)]
    show (pRead k deep nd (decide (100 < (pWr (tp k)).getD 0)) >>= fun rd1 => pWx tp sz rec n (k + 1) (deep + 1) e rd1 >>= fun q => pWrap ((pWr (tp k)).getD 0) q.1 k >>= fun x => Except.ok (x, q.2.1, q.2.2)) = ((pRead k deep nd (decide (100 < (pWr (tp k)).getD 0)) >>= fun rd1 => pReads (pWl tp (k + 1) e) (k + 1) (deep + 1) rd1) >>= fun rd1 => if pWE tp sz (e + 1) = e + 1 then Except.error (1, e + 1) else (pNamed tp sz rec (deep + (n + 1)) (e + 1) rd1 >>= fun q => (pWraps (pWl tp (k + 1) e) (k + 1) q.1 >>= fun y => pWrap ((pWr (tp k)).getD 0) y k) >>= fun x => Except.ok (x, q.2.1, q.2.2)))
    cases pRead k deep nd (decide (100 < (pWr (tp k)).getD 0)) with
    | error z => rfl
    | ok rd1 =>
      show (pWx tp sz rec n (k + 1) (deep + 1) e rd1 >>= fun q => pWrap ((pWr (tp k)).getD 0) q.1 k >>= fun x => Except.ok (x, q.2.1, q.2.2)) = (pReads (pWl tp (k + 1) e) (k + 1) (deep + 1) rd1 >>= fun rd1 => if pWE tp sz (e + 1) = e + 1 then Except.error (1, e + 1) else (pNamed tp sz rec (deep + (n + 1)) (e + 1) rd1 >>= fun q => (pWraps (pWl tp (k + 1) e) (k + 1) q.1 >>= fun y => pWrap ((pWr (tp k)).getD 0) y k) >>= fun x => Except.ok (x, q.2.1, q.2.2)))
      rw [ih (k + 1) (deep + 1) rd1 (by omega), show deep + 1 + n = deep + (n + 1) from by omega]
      cases pReads (pWl tp (k + 1) e) (k + 1) (deep + 1) rd1 with
      | error z => rfl
      | ok rd2 =>
        show ((if pWE tp sz (e + 1) = e + 1 then Except.error (1, e + 1) else (pNamed tp sz rec (deep + (n + 1)) (e + 1) rd2 >>= fun q => pWraps (pWl tp (k + 1) e) (k + 1) q.1 >>= fun x => Except.ok (x, q.2.1, q.2.2))) >>= fun q => pWrap ((pWr (tp k)).getD 0) q.1 k >>= fun x => Except.ok (x, q.2.1, q.2.2)) = if pWE tp sz (e + 1) = e + 1 then Except.error (1, e + 1) else (pNamed tp sz rec (deep + (n + 1)) (e + 1) rd2 >>= fun q => (pWraps (pWl tp (k + 1) e) (k + 1) q.1 >>= fun y => pWrap ((pWr (tp k)).getD 0) y k) >>= fun x => Except.ok (x, q.2.1, q.2.2))
        by_cases c : pWE tp sz (e + 1) = e + 1
        · rw [if_pos c, if_pos c]; rfl
        · rw [if_neg c, if_neg c]
          cases pNamed tp sz rec (deep + (n + 1)) (e + 1) rd2 with
          | error z => rfl
          | ok q =>
            show ((pWraps (pWl tp (k + 1) e) (k + 1) q.1 >>= fun x => Except.ok (x, q.2.1, q.2.2)) >>= fun q => pWrap ((pWr (tp k)).getD 0) q.1 k >>= fun x => Except.ok (x, q.2.1, q.2.2)) = ((pWraps (pWl tp (k + 1) e) (k + 1) q.1 >>= fun y => pWrap ((pWr (tp k)).getD 0) y k) >>= fun x => Except.ok (x, q.2.1, q.2.2))
            cases pWraps (pWl tp (k + 1) e) (k + 1) q.1 <;> rfl
end
theorem pBad_er {l : List Nat} : ∀ {p : Nat} {z : Nat × Nat}, pBad l p = .error z → z.1 = 1 := by
  induction l with
  | nil => intro p z h; cases h
  | cons a l ih =>
    intro p z h
    unfold pBad at h
    cases hq : pWr a with
    | none =>
      rw [hq] at h
      have h : (Except.error (1, p) : pE Unit) = .error z := h
      injection h with h
      rw [← h]
    | some v =>
      rw [hq] at h
      exact ih h
theorem x_wrapN {rec : Nat → Nat → Nat → pE (zNd × Nat × Nat)} (hmono : pMono rec) {w b e0 wl deep0 : Nat} (hwl : (pWl tp b e0).length = wl) (hel : e0 = b + wl) (hes : e0 < sz) (hbad : pBad (pWl tp b e0) b = .ok ()) (hRd : ∀ dp d', deep0 < dp → dp ≤ 25 → 10 * (26 - dp) + 80 ≤ d' → xRd tp sz d' dp rec) :
    ∀ (n k deep d : Nat), k + n = wl → 0 < k → deep0 ≤ deep → deep ≤ 25 → 10 * (26 - deep) + 76 ≤ d → xWr tp sz d w b e0 rec n k deep := by
  intro n
  induction n with
  | zero =>
    intro k deep d hkn hk0 h0 hdp hdd S r nd post hF hR hw hnd hN h
    have h8 := hR.2.2.2.1
    have h9 := hR.2.2.2.2.1
    have ek : b + k = e0 := by omega
    rw [ek] at hR hN h
    rw [show k = wl from hkn]
    have hNN : 2 * (e0 - e0) = 0 := by omega
    refine wrE (K := 10 * (26 - (deep + 1)) + 80) (rec := rec) hF (by omega) b e0 wl deep hR h8.1 h8.2 h9.1 h9.2 hN (by omega) hnd hw hw.2.1 hwl (by omega) hes hmono (by omega) (by omega) (fun de dp d' a1 a2 a3 a4 => hRd dp d' (by omega) (by omega) (by omega)) ?_ ?_ ?_
    · intro S2 s2 wl2 hF2 e2 k2 p2 d2 s_2 g2 c2 S4 a4 y4 at4 nd4 hF4 e4 k4 t4 p4 g4 c4
      exact h _ _ (xEc.good (S' := S4) hF4 (zKE.tr (zKE.tr (zKE.tr zKE.rf (zKE_sI (Or.inl (by decide)))) (zKE.w k2 (show gN S ≤ gN S from by omega) (fun _ h => h) (fun _ h => h))) (zKE.w k4 (show gN S ≤ gN S2 from by omega) (fun _ h => h) (fun _ h => h))) t4 p4 (by omega) ((pWx_0.trans (if_neg (by omega))).trans (e4)))
    · intro S2 s2 wl2 hF2 e2 k2 p2 d2 s_2 g2 c2 S5 q5 kk5 z5 hF5 e5 k5 x5 g5
      exact h _ _ (xEc.err (S' := S5) hF5 (zKE.tr (zKE.tr (zKE.tr zKE.rf (zKE_sI (Or.inl (by decide)))) (zKE.w k2 (show gN S ≤ gN S from by omega) (fun _ h => h) (fun _ h => h))) (zKE.w k5 (show gN S ≤ gN S2 from by omega) (fun _ h => h) (fun _ h => h))) x5 (by omega) ((pWx_0.trans (if_neg (by omega))).trans (e5)))
    · intro S3 q3 hF3 e3 k3 x3 g3
      exact h _ _ (xEc.err (S' := S3) hF3 (zKE.tr (zKE.tr zKE.rf (zKE_sI (Or.inl (by decide)))) (zKE.w k3 (show gN S ≤ gN S from by omega) (fun _ h => h) (fun _ h => h))) x3 (by omega) ((pWx_0.trans (if_pos e3)).trans (rfl)))
  | succ n ih =>
    intro k deep d hkn hk0 h0 hdp hdd S r nd post hF hR hw hnd hN h
    have h8 := hR.2.2.2.1
    have h9 := hR.2.2.2.2.1
    obtain ⟨v, hv⟩ := pBad_mem hbad (tp (b + k)) (pWl_mem (by omega) (by omega))
    rcases pWr_case hv with hl | hl | hl | hl | hl | hl | hl | hl | hl | hl
    · have eU : pWx tp sz rec (n + 1) (b + k) deep e0 nd = (do
            let rd1 ← pRead (b + k) deep nd false
            let q ← pWx tp sz rec n (b + k + 1) (deep + 1) e0 rd1
            let x ← pJ (tN 19 0 [] (b + k) [q.1])
            .ok (x, q.2.1, q.2.2)) := pWx_s (by rw [hl]; rfl)
      refine wrP97 (rec := rec) (K := 0) (n := n) hF (by omega) b e0 wl k deep hR h8.1 h8.2 h9.1 h9.2 hN (by omega) hnd hw hw.2.1 hwl hel hes hk0 (by omega) (by rw [pWl_getD (by omega)]; exact hl) (fun hd24 => ih (k + 1) (deep + 1) (d - 1) (by omega) (by omega) (by omega) (by omega) (by omega)) ?_ ?_ ?_ ?_
      · intro S3 nd3 hF3 e3 k3 p3 g3 b3 c3 d3 S5 a5 y5 at5 nd5 hF5 e5 k5 t5 p5 g5 c5 S18 hF18 e18 j18 t18 p18 g18
        exact h _ _ (xEc.good (S' := S18) hF18 (zKE.tr (zKE.tr (zKE.tr (zKE.tr (zKE.tr (zKE.tr (zKE.tr (zKE.tr (zKE.tr zKE.rf (zKE.w k3 (show gN S ≤ gN S from by omega) (fun _ h => h) (fun _ h => h))) (zKE_sI (Or.inl (by decide)))) (zKE.w k5 (show gN S ≤ gN S3 from by omega) (fun _ h => h) (fun _ h => h))) (zKE_new (show gN S ≤ gN S5 ∧ gN S5 < zLB from ⟨by omega, by have hLB : zLB = 4294967296 := rfl; omega⟩))) (zKE_sP (Or.inr (Or.inr ⟨by omega, by have hLB : zLB = 4294967296 := rfl; omega⟩)))) (zKE_sI (Or.inr (Or.inr ⟨by omega, by have hLB : zLB = 4294967296 := rfl; omega⟩)))) (zKE_sI (Or.inr (Or.inr ⟨by omega, by have hLB : zLB = 4294967296 := rfl; omega⟩)))) (zKE_sP (Or.inr (Or.inr ⟨by omega, by have hLB : zLB = 4294967296 := rfl; omega⟩)))) (xJd.ke j18 ⟨by omega, by have hLB : zLB = 4294967296 := rfl; omega⟩)) t18 p18 (by omega) (eU.trans ((pb_ok e3).trans ((pb_ok e5).trans ((pb_ok e18).trans (rfl))))))
      · intro S3 nd3 hF3 e3 k3 p3 g3 b3 c3 d3 S5 a5 y5 at5 nd5 hF5 e5 k5 t5 p5 g5 c5 S19 q19 hF19 e19 k19 x19 g19
        exact h _ _ (xEc.err (S' := S19) hF19 (zKE.tr (zKE.tr (zKE.tr (zKE.tr (zKE.tr (zKE.tr (zKE.tr (zKE.tr (zKE.tr zKE.rf (zKE.w k3 (show gN S ≤ gN S from by omega) (fun _ h => h) (fun _ h => h))) (zKE_sI (Or.inl (by decide)))) (zKE.w k5 (show gN S ≤ gN S3 from by omega) (fun _ h => h) (fun _ h => h))) (zKE_new (show gN S ≤ gN S5 ∧ gN S5 < zLB from ⟨by omega, by have hLB : zLB = 4294967296 := rfl; omega⟩))) (zKE_sP (Or.inr (Or.inr ⟨by omega, by have hLB : zLB = 4294967296 := rfl; omega⟩)))) (zKE_sI (Or.inr (Or.inr ⟨by omega, by have hLB : zLB = 4294967296 := rfl; omega⟩)))) (zKE_sI (Or.inr (Or.inr ⟨by omega, by have hLB : zLB = 4294967296 := rfl; omega⟩)))) (zKE_sP (Or.inr (Or.inr ⟨by omega, by have hLB : zLB = 4294967296 := rfl; omega⟩)))) (xFn.ke k19 (show gN S ≤ gN S5 + 1 from by omega) ⟨by omega, by have hLB : zLB = 4294967296 := rfl; omega⟩)) x19 (by omega) (eU.trans ((pb_ok e3).trans ((pb_ok e5).trans (pb_er e19)))))
      · intro S3 nd3 hF3 e3 k3 p3 g3 b3 c3 d3 S6 q6 kk6 z6 hF6 e6 k6 x6 g6
        exact h _ _ (xEc.err (S' := S6) hF6 (zKE.tr (zKE.tr (zKE.tr zKE.rf (zKE.w k3 (show gN S ≤ gN S from by omega) (fun _ h => h) (fun _ h => h))) (zKE_sI (Or.inl (by decide)))) (zKE.w k6 (show gN S ≤ gN S3 from by omega) (fun _ h => h) (fun _ h => h))) x6 (by omega) (eU.trans ((pb_ok e3).trans (pb_er e6))))
      · intro S4 q4 hF4 e4 k4 x4 g4
        exact h _ _ (xEc.err (S' := S4) hF4 (zKE.tr zKE.rf (zKE.w k4 (show gN S ≤ gN S from by omega) (fun _ h => h) (fun _ h => h))) x4 (by omega) (eU.trans (pb_er e4)))
    · have eU : pWx tp sz rec (n + 1) (b + k) deep e0 nd = (do
            let rd1 ← pRead (b + k) deep nd false
            let q ← pWx tp sz rec n (b + k + 1) (deep + 1) e0 rd1
            let x ← pJ (tN 20 0 [] (b + k) [q.1])
            .ok (x, q.2.1, q.2.2)) := pWx_s (by rw [hl]; rfl)
      refine wrP115 (rec := rec) (K := 0) (n := n) hF (by omega) b e0 wl k deep hR h8.1 h8.2 h9.1 h9.2 hN (by omega) hnd hw hw.2.1 hwl hel hes hk0 (by omega) (by rw [pWl_getD (by omega)]; exact hl) (fun hd24 => ih (k + 1) (deep + 1) (d - 1) (by omega) (by omega) (by omega) (by omega) (by omega)) ?_ ?_ ?_ ?_
      · intro S3 nd3 hF3 e3 k3 p3 g3 b3 c3 d3 S5 a5 y5 at5 nd5 hF5 e5 k5 t5 p5 g5 c5 S18 hF18 e18 j18 t18 p18 g18
        exact h _ _ (xEc.good (S' := S18) hF18 (zKE.tr (zKE.tr (zKE.tr (zKE.tr (zKE.tr (zKE.tr (zKE.tr (zKE.tr (zKE.tr zKE.rf (zKE.w k3 (show gN S ≤ gN S from by omega) (fun _ h => h) (fun _ h => h))) (zKE_sI (Or.inl (by decide)))) (zKE.w k5 (show gN S ≤ gN S3 from by omega) (fun _ h => h) (fun _ h => h))) (zKE_new (show gN S ≤ gN S5 ∧ gN S5 < zLB from ⟨by omega, by have hLB : zLB = 4294967296 := rfl; omega⟩))) (zKE_sP (Or.inr (Or.inr ⟨by omega, by have hLB : zLB = 4294967296 := rfl; omega⟩)))) (zKE_sI (Or.inr (Or.inr ⟨by omega, by have hLB : zLB = 4294967296 := rfl; omega⟩)))) (zKE_sI (Or.inr (Or.inr ⟨by omega, by have hLB : zLB = 4294967296 := rfl; omega⟩)))) (zKE_sP (Or.inr (Or.inr ⟨by omega, by have hLB : zLB = 4294967296 := rfl; omega⟩)))) (xJd.ke j18 ⟨by omega, by have hLB : zLB = 4294967296 := rfl; omega⟩)) t18 p18 (by omega) (eU.trans ((pb_ok e3).trans ((pb_ok e5).trans ((pb_ok e18).trans (rfl))))))
      · intro S3 nd3 hF3 e3 k3 p3 g3 b3 c3 d3 S5 a5 y5 at5 nd5 hF5 e5 k5 t5 p5 g5 c5 S19 q19 hF19 e19 k19 x19 g19
        exact h _ _ (xEc.err (S' := S19) hF19 (zKE.tr (zKE.tr (zKE.tr (zKE.tr (zKE.tr (zKE.tr (zKE.tr (zKE.tr (zKE.tr zKE.rf (zKE.w k3 (show gN S ≤ gN S from by omega) (fun _ h => h) (fun _ h => h))) (zKE_sI (Or.inl (by decide)))) (zKE.w k5 (show gN S ≤ gN S3 from by omega) (fun _ h => h) (fun _ h => h))) (zKE_new (show gN S ≤ gN S5 ∧ gN S5 < zLB from ⟨by omega, by have hLB : zLB = 4294967296 := rfl; omega⟩))) (zKE_sP (Or.inr (Or.inr ⟨by omega, by have hLB : zLB = 4294967296 := rfl; omega⟩)))) (zKE_sI (Or.inr (Or.inr ⟨by omega, by have hLB : zLB = 4294967296 := rfl; omega⟩)))) (zKE_sI (Or.inr (Or.inr ⟨by omega, by have hLB : zLB = 4294967296 := rfl; omega⟩)))) (zKE_sP (Or.inr (Or.inr ⟨by omega, by have hLB : zLB = 4294967296 := rfl; omega⟩)))) (xFn.ke k19 (show gN S ≤ gN S5 + 1 from by omega) ⟨by omega, by have hLB : zLB = 4294967296 := rfl; omega⟩)) x19 (by omega) (eU.trans ((pb_ok e3).trans ((pb_ok e5).trans (pb_er e19)))))
      · intro S3 nd3 hF3 e3 k3 p3 g3 b3 c3 d3 S6 q6 kk6 z6 hF6 e6 k6 x6 g6
        exact h _ _ (xEc.err (S' := S6) hF6 (zKE.tr (zKE.tr (zKE.tr zKE.rf (zKE.w k3 (show gN S ≤ gN S from by omega) (fun _ h => h) (fun _ h => h))) (zKE_sI (Or.inl (by decide)))) (zKE.w k6 (show gN S ≤ gN S3 from by omega) (fun _ h => h) (fun _ h => h))) x6 (by omega) (eU.trans ((pb_ok e3).trans (pb_er e6))))
      · intro S4 q4 hF4 e4 k4 x4 g4
        exact h _ _ (xEc.err (S' := S4) hF4 (zKE.tr zKE.rf (zKE.w k4 (show gN S ≤ gN S from by omega) (fun _ h => h) (fun _ h => h))) x4 (by omega) (eU.trans (pb_er e4)))
    · have eU : pWx tp sz rec (n + 1) (b + k) deep e0 nd = (do
            let rd1 ← pRead (b + k) deep nd false
            let q ← pWx tp sz rec n (b + k + 1) (deep + 1) e0 rd1
            let x ← pJ (tN 21 0 [] (b + k) [q.1])
            .ok (x, q.2.1, q.2.2)) := pWx_s (by rw [hl]; rfl)
      refine wrP99 (rec := rec) (K := 0) (n := n) hF (by omega) b e0 wl k deep hR h8.1 h8.2 h9.1 h9.2 hN (by omega) hnd hw hw.2.1 hwl hel hes hk0 (by omega) (by rw [pWl_getD (by omega)]; exact hl) (fun hd24 => ih (k + 1) (deep + 1) (d - 1) (by omega) (by omega) (by omega) (by omega) (by omega)) ?_ ?_ ?_ ?_
      · intro S3 nd3 hF3 e3 k3 p3 g3 b3 c3 d3 S5 a5 y5 at5 nd5 hF5 e5 k5 t5 p5 g5 c5 S18 hF18 e18 j18 t18 p18 g18
        exact h _ _ (xEc.good (S' := S18) hF18 (zKE.tr (zKE.tr (zKE.tr (zKE.tr (zKE.tr (zKE.tr (zKE.tr (zKE.tr (zKE.tr zKE.rf (zKE.w k3 (show gN S ≤ gN S from by omega) (fun _ h => h) (fun _ h => h))) (zKE_sI (Or.inl (by decide)))) (zKE.w k5 (show gN S ≤ gN S3 from by omega) (fun _ h => h) (fun _ h => h))) (zKE_new (show gN S ≤ gN S5 ∧ gN S5 < zLB from ⟨by omega, by have hLB : zLB = 4294967296 := rfl; omega⟩))) (zKE_sP (Or.inr (Or.inr ⟨by omega, by have hLB : zLB = 4294967296 := rfl; omega⟩)))) (zKE_sI (Or.inr (Or.inr ⟨by omega, by have hLB : zLB = 4294967296 := rfl; omega⟩)))) (zKE_sI (Or.inr (Or.inr ⟨by omega, by have hLB : zLB = 4294967296 := rfl; omega⟩)))) (zKE_sP (Or.inr (Or.inr ⟨by omega, by have hLB : zLB = 4294967296 := rfl; omega⟩)))) (xJd.ke j18 ⟨by omega, by have hLB : zLB = 4294967296 := rfl; omega⟩)) t18 p18 (by omega) (eU.trans ((pb_ok e3).trans ((pb_ok e5).trans ((pb_ok e18).trans (rfl))))))
      · intro S3 nd3 hF3 e3 k3 p3 g3 b3 c3 d3 S5 a5 y5 at5 nd5 hF5 e5 k5 t5 p5 g5 c5 S19 q19 hF19 e19 k19 x19 g19
        exact h _ _ (xEc.err (S' := S19) hF19 (zKE.tr (zKE.tr (zKE.tr (zKE.tr (zKE.tr (zKE.tr (zKE.tr (zKE.tr (zKE.tr zKE.rf (zKE.w k3 (show gN S ≤ gN S from by omega) (fun _ h => h) (fun _ h => h))) (zKE_sI (Or.inl (by decide)))) (zKE.w k5 (show gN S ≤ gN S3 from by omega) (fun _ h => h) (fun _ h => h))) (zKE_new (show gN S ≤ gN S5 ∧ gN S5 < zLB from ⟨by omega, by have hLB : zLB = 4294967296 := rfl; omega⟩))) (zKE_sP (Or.inr (Or.inr ⟨by omega, by have hLB : zLB = 4294967296 := rfl; omega⟩)))) (zKE_sI (Or.inr (Or.inr ⟨by omega, by have hLB : zLB = 4294967296 := rfl; omega⟩)))) (zKE_sI (Or.inr (Or.inr ⟨by omega, by have hLB : zLB = 4294967296 := rfl; omega⟩)))) (zKE_sP (Or.inr (Or.inr ⟨by omega, by have hLB : zLB = 4294967296 := rfl; omega⟩)))) (xFn.ke k19 (show gN S ≤ gN S5 + 1 from by omega) ⟨by omega, by have hLB : zLB = 4294967296 := rfl; omega⟩)) x19 (by omega) (eU.trans ((pb_ok e3).trans ((pb_ok e5).trans (pb_er e19)))))
      · intro S3 nd3 hF3 e3 k3 p3 g3 b3 c3 d3 S6 q6 kk6 z6 hF6 e6 k6 x6 g6
        exact h _ _ (xEc.err (S' := S6) hF6 (zKE.tr (zKE.tr (zKE.tr zKE.rf (zKE.w k3 (show gN S ≤ gN S from by omega) (fun _ h => h) (fun _ h => h))) (zKE_sI (Or.inl (by decide)))) (zKE.w k6 (show gN S ≤ gN S3 from by omega) (fun _ h => h) (fun _ h => h))) x6 (by omega) (eU.trans ((pb_ok e3).trans (pb_er e6))))
      · intro S4 q4 hF4 e4 k4 x4 g4
        exact h _ _ (xEc.err (S' := S4) hF4 (zKE.tr zKE.rf (zKE.w k4 (show gN S ≤ gN S from by omega) (fun _ h => h) (fun _ h => h))) x4 (by omega) (eU.trans (pb_er e4)))
    · have eU : pWx tp sz rec (n + 1) (b + k) deep e0 nd = (do
            let rd1 ← pRead (b + k) deep nd false
            let q ← pWx tp sz rec n (b + k + 1) (deep + 1) e0 rd1
            let x ← pJ (tN 22 0 [] (b + k) [q.1])
            .ok (x, q.2.1, q.2.2)) := pWx_s (by rw [hl]; rfl)
      refine wrP100 (rec := rec) (K := 0) (n := n) hF (by omega) b e0 wl k deep hR h8.1 h8.2 h9.1 h9.2 hN (by omega) hnd hw hw.2.1 hwl hel hes hk0 (by omega) (by rw [pWl_getD (by omega)]; exact hl) (fun hd24 => ih (k + 1) (deep + 1) (d - 1) (by omega) (by omega) (by omega) (by omega) (by omega)) ?_ ?_ ?_ ?_
      · intro S3 nd3 hF3 e3 k3 p3 g3 b3 c3 d3 S5 a5 y5 at5 nd5 hF5 e5 k5 t5 p5 g5 c5 S18 hF18 e18 j18 t18 p18 g18
        exact h _ _ (xEc.good (S' := S18) hF18 (zKE.tr (zKE.tr (zKE.tr (zKE.tr (zKE.tr (zKE.tr (zKE.tr (zKE.tr (zKE.tr zKE.rf (zKE.w k3 (show gN S ≤ gN S from by omega) (fun _ h => h) (fun _ h => h))) (zKE_sI (Or.inl (by decide)))) (zKE.w k5 (show gN S ≤ gN S3 from by omega) (fun _ h => h) (fun _ h => h))) (zKE_new (show gN S ≤ gN S5 ∧ gN S5 < zLB from ⟨by omega, by have hLB : zLB = 4294967296 := rfl; omega⟩))) (zKE_sP (Or.inr (Or.inr ⟨by omega, by have hLB : zLB = 4294967296 := rfl; omega⟩)))) (zKE_sI (Or.inr (Or.inr ⟨by omega, by have hLB : zLB = 4294967296 := rfl; omega⟩)))) (zKE_sI (Or.inr (Or.inr ⟨by omega, by have hLB : zLB = 4294967296 := rfl; omega⟩)))) (zKE_sP (Or.inr (Or.inr ⟨by omega, by have hLB : zLB = 4294967296 := rfl; omega⟩)))) (xJd.ke j18 ⟨by omega, by have hLB : zLB = 4294967296 := rfl; omega⟩)) t18 p18 (by omega) (eU.trans ((pb_ok e3).trans ((pb_ok e5).trans ((pb_ok e18).trans (rfl))))))
      · intro S3 nd3 hF3 e3 k3 p3 g3 b3 c3 d3 S5 a5 y5 at5 nd5 hF5 e5 k5 t5 p5 g5 c5 S19 q19 hF19 e19 k19 x19 g19
        exact h _ _ (xEc.err (S' := S19) hF19 (zKE.tr (zKE.tr (zKE.tr (zKE.tr (zKE.tr (zKE.tr (zKE.tr (zKE.tr (zKE.tr zKE.rf (zKE.w k3 (show gN S ≤ gN S from by omega) (fun _ h => h) (fun _ h => h))) (zKE_sI (Or.inl (by decide)))) (zKE.w k5 (show gN S ≤ gN S3 from by omega) (fun _ h => h) (fun _ h => h))) (zKE_new (show gN S ≤ gN S5 ∧ gN S5 < zLB from ⟨by omega, by have hLB : zLB = 4294967296 := rfl; omega⟩))) (zKE_sP (Or.inr (Or.inr ⟨by omega, by have hLB : zLB = 4294967296 := rfl; omega⟩)))) (zKE_sI (Or.inr (Or.inr ⟨by omega, by have hLB : zLB = 4294967296 := rfl; omega⟩)))) (zKE_sI (Or.inr (Or.inr ⟨by omega, by have hLB : zLB = 4294967296 := rfl; omega⟩)))) (zKE_sP (Or.inr (Or.inr ⟨by omega, by have hLB : zLB = 4294967296 := rfl; omega⟩)))) (xFn.ke k19 (show gN S ≤ gN S5 + 1 from by omega) ⟨by omega, by have hLB : zLB = 4294967296 := rfl; omega⟩)) x19 (by omega) (eU.trans ((pb_ok e3).trans ((pb_ok e5).trans (pb_er e19)))))
      · intro S3 nd3 hF3 e3 k3 p3 g3 b3 c3 d3 S6 q6 kk6 z6 hF6 e6 k6 x6 g6
        exact h _ _ (xEc.err (S' := S6) hF6 (zKE.tr (zKE.tr (zKE.tr zKE.rf (zKE.w k3 (show gN S ≤ gN S from by omega) (fun _ h => h) (fun _ h => h))) (zKE_sI (Or.inl (by decide)))) (zKE.w k6 (show gN S ≤ gN S3 from by omega) (fun _ h => h) (fun _ h => h))) x6 (by omega) (eU.trans ((pb_ok e3).trans (pb_er e6))))
      · intro S4 q4 hF4 e4 k4 x4 g4
        exact h _ _ (xEc.err (S' := S4) hF4 (zKE.tr zKE.rf (zKE.w k4 (show gN S ≤ gN S from by omega) (fun _ h => h) (fun _ h => h))) x4 (by omega) (eU.trans (pb_er e4)))
    · have eU : pWx tp sz rec (n + 1) (b + k) deep e0 nd = (do
            let rd1 ← pRead (b + k) deep nd false
            let q ← pWx tp sz rec n (b + k + 1) (deep + 1) e0 rd1
            let x ← pJ (tN 23 0 [] (b + k) [q.1])
            .ok (x, q.2.1, q.2.2)) := pWx_s (by rw [hl]; rfl)
      refine wrP118 (rec := rec) (K := 0) (n := n) hF (by omega) b e0 wl k deep hR h8.1 h8.2 h9.1 h9.2 hN (by omega) hnd hw hw.2.1 hwl hel hes hk0 (by omega) (by rw [pWl_getD (by omega)]; exact hl) (fun hd24 => ih (k + 1) (deep + 1) (d - 1) (by omega) (by omega) (by omega) (by omega) (by omega)) ?_ ?_ ?_ ?_
      · intro S3 nd3 hF3 e3 k3 p3 g3 b3 c3 d3 S5 a5 y5 at5 nd5 hF5 e5 k5 t5 p5 g5 c5 S18 hF18 e18 j18 t18 p18 g18
        exact h _ _ (xEc.good (S' := S18) hF18 (zKE.tr (zKE.tr (zKE.tr (zKE.tr (zKE.tr (zKE.tr (zKE.tr (zKE.tr (zKE.tr zKE.rf (zKE.w k3 (show gN S ≤ gN S from by omega) (fun _ h => h) (fun _ h => h))) (zKE_sI (Or.inl (by decide)))) (zKE.w k5 (show gN S ≤ gN S3 from by omega) (fun _ h => h) (fun _ h => h))) (zKE_new (show gN S ≤ gN S5 ∧ gN S5 < zLB from ⟨by omega, by have hLB : zLB = 4294967296 := rfl; omega⟩))) (zKE_sP (Or.inr (Or.inr ⟨by omega, by have hLB : zLB = 4294967296 := rfl; omega⟩)))) (zKE_sI (Or.inr (Or.inr ⟨by omega, by have hLB : zLB = 4294967296 := rfl; omega⟩)))) (zKE_sI (Or.inr (Or.inr ⟨by omega, by have hLB : zLB = 4294967296 := rfl; omega⟩)))) (zKE_sP (Or.inr (Or.inr ⟨by omega, by have hLB : zLB = 4294967296 := rfl; omega⟩)))) (xJd.ke j18 ⟨by omega, by have hLB : zLB = 4294967296 := rfl; omega⟩)) t18 p18 (by omega) (eU.trans ((pb_ok e3).trans ((pb_ok e5).trans ((pb_ok e18).trans (rfl))))))
      · intro S3 nd3 hF3 e3 k3 p3 g3 b3 c3 d3 S5 a5 y5 at5 nd5 hF5 e5 k5 t5 p5 g5 c5 S19 q19 hF19 e19 k19 x19 g19
        exact h _ _ (xEc.err (S' := S19) hF19 (zKE.tr (zKE.tr (zKE.tr (zKE.tr (zKE.tr (zKE.tr (zKE.tr (zKE.tr (zKE.tr zKE.rf (zKE.w k3 (show gN S ≤ gN S from by omega) (fun _ h => h) (fun _ h => h))) (zKE_sI (Or.inl (by decide)))) (zKE.w k5 (show gN S ≤ gN S3 from by omega) (fun _ h => h) (fun _ h => h))) (zKE_new (show gN S ≤ gN S5 ∧ gN S5 < zLB from ⟨by omega, by have hLB : zLB = 4294967296 := rfl; omega⟩))) (zKE_sP (Or.inr (Or.inr ⟨by omega, by have hLB : zLB = 4294967296 := rfl; omega⟩)))) (zKE_sI (Or.inr (Or.inr ⟨by omega, by have hLB : zLB = 4294967296 := rfl; omega⟩)))) (zKE_sI (Or.inr (Or.inr ⟨by omega, by have hLB : zLB = 4294967296 := rfl; omega⟩)))) (zKE_sP (Or.inr (Or.inr ⟨by omega, by have hLB : zLB = 4294967296 := rfl; omega⟩)))) (xFn.ke k19 (show gN S ≤ gN S5 + 1 from by omega) ⟨by omega, by have hLB : zLB = 4294967296 := rfl; omega⟩)) x19 (by omega) (eU.trans ((pb_ok e3).trans ((pb_ok e5).trans (pb_er e19)))))
      · intro S3 nd3 hF3 e3 k3 p3 g3 b3 c3 d3 S6 q6 kk6 z6 hF6 e6 k6 x6 g6
        exact h _ _ (xEc.err (S' := S6) hF6 (zKE.tr (zKE.tr (zKE.tr zKE.rf (zKE.w k3 (show gN S ≤ gN S from by omega) (fun _ h => h) (fun _ h => h))) (zKE_sI (Or.inl (by decide)))) (zKE.w k6 (show gN S ≤ gN S3 from by omega) (fun _ h => h) (fun _ h => h))) x6 (by omega) (eU.trans ((pb_ok e3).trans (pb_er e6))))
      · intro S4 q4 hF4 e4 k4 x4 g4
        exact h _ _ (xEc.err (S' := S4) hF4 (zKE.tr zKE.rf (zKE.w k4 (show gN S ≤ gN S from by omega) (fun _ h => h) (fun _ h => h))) x4 (by omega) (eU.trans (pb_er e4)))
    · have eU : pWx tp sz rec (n + 1) (b + k) deep e0 nd = (do
            let rd1 ← pRead (b + k) deep nd false
            let q ← pWx tp sz rec n (b + k + 1) (deep + 1) e0 rd1
            let x ← pJ (tN 24 0 [] (b + k) [q.1])
            .ok (x, q.2.1, q.2.2)) := pWx_s (by rw [hl]; rfl)
      refine wrP106 (rec := rec) (K := 0) (n := n) hF (by omega) b e0 wl k deep hR h8.1 h8.2 h9.1 h9.2 hN (by omega) hnd hw hw.2.1 hwl hel hes hk0 (by omega) (by rw [pWl_getD (by omega)]; exact hl) (fun hd24 => ih (k + 1) (deep + 1) (d - 1) (by omega) (by omega) (by omega) (by omega) (by omega)) ?_ ?_ ?_ ?_
      · intro S3 nd3 hF3 e3 k3 p3 g3 b3 c3 d3 S5 a5 y5 at5 nd5 hF5 e5 k5 t5 p5 g5 c5 S18 hF18 e18 j18 t18 p18 g18
        exact h _ _ (xEc.good (S' := S18) hF18 (zKE.tr (zKE.tr (zKE.tr (zKE.tr (zKE.tr (zKE.tr (zKE.tr (zKE.tr (zKE.tr zKE.rf (zKE.w k3 (show gN S ≤ gN S from by omega) (fun _ h => h) (fun _ h => h))) (zKE_sI (Or.inl (by decide)))) (zKE.w k5 (show gN S ≤ gN S3 from by omega) (fun _ h => h) (fun _ h => h))) (zKE_new (show gN S ≤ gN S5 ∧ gN S5 < zLB from ⟨by omega, by have hLB : zLB = 4294967296 := rfl; omega⟩))) (zKE_sP (Or.inr (Or.inr ⟨by omega, by have hLB : zLB = 4294967296 := rfl; omega⟩)))) (zKE_sI (Or.inr (Or.inr ⟨by omega, by have hLB : zLB = 4294967296 := rfl; omega⟩)))) (zKE_sI (Or.inr (Or.inr ⟨by omega, by have hLB : zLB = 4294967296 := rfl; omega⟩)))) (zKE_sP (Or.inr (Or.inr ⟨by omega, by have hLB : zLB = 4294967296 := rfl; omega⟩)))) (xJd.ke j18 ⟨by omega, by have hLB : zLB = 4294967296 := rfl; omega⟩)) t18 p18 (by omega) (eU.trans ((pb_ok e3).trans ((pb_ok e5).trans ((pb_ok e18).trans (rfl))))))
      · intro S3 nd3 hF3 e3 k3 p3 g3 b3 c3 d3 S5 a5 y5 at5 nd5 hF5 e5 k5 t5 p5 g5 c5 S19 q19 hF19 e19 k19 x19 g19
        exact h _ _ (xEc.err (S' := S19) hF19 (zKE.tr (zKE.tr (zKE.tr (zKE.tr (zKE.tr (zKE.tr (zKE.tr (zKE.tr (zKE.tr zKE.rf (zKE.w k3 (show gN S ≤ gN S from by omega) (fun _ h => h) (fun _ h => h))) (zKE_sI (Or.inl (by decide)))) (zKE.w k5 (show gN S ≤ gN S3 from by omega) (fun _ h => h) (fun _ h => h))) (zKE_new (show gN S ≤ gN S5 ∧ gN S5 < zLB from ⟨by omega, by have hLB : zLB = 4294967296 := rfl; omega⟩))) (zKE_sP (Or.inr (Or.inr ⟨by omega, by have hLB : zLB = 4294967296 := rfl; omega⟩)))) (zKE_sI (Or.inr (Or.inr ⟨by omega, by have hLB : zLB = 4294967296 := rfl; omega⟩)))) (zKE_sI (Or.inr (Or.inr ⟨by omega, by have hLB : zLB = 4294967296 := rfl; omega⟩)))) (zKE_sP (Or.inr (Or.inr ⟨by omega, by have hLB : zLB = 4294967296 := rfl; omega⟩)))) (xFn.ke k19 (show gN S ≤ gN S5 + 1 from by omega) ⟨by omega, by have hLB : zLB = 4294967296 := rfl; omega⟩)) x19 (by omega) (eU.trans ((pb_ok e3).trans ((pb_ok e5).trans (pb_er e19)))))
      · intro S3 nd3 hF3 e3 k3 p3 g3 b3 c3 d3 S6 q6 kk6 z6 hF6 e6 k6 x6 g6
        exact h _ _ (xEc.err (S' := S6) hF6 (zKE.tr (zKE.tr (zKE.tr zKE.rf (zKE.w k3 (show gN S ≤ gN S from by omega) (fun _ h => h) (fun _ h => h))) (zKE_sI (Or.inl (by decide)))) (zKE.w k6 (show gN S ≤ gN S3 from by omega) (fun _ h => h) (fun _ h => h))) x6 (by omega) (eU.trans ((pb_ok e3).trans (pb_er e6))))
      · intro S4 q4 hF4 e4 k4 x4 g4
        exact h _ _ (xEc.err (S' := S4) hF4 (zKE.tr zKE.rf (zKE.w k4 (show gN S ≤ gN S from by omega) (fun _ h => h) (fun _ h => h))) x4 (by omega) (eU.trans (pb_er e4)))
    · have eU : pWx tp sz rec (n + 1) (b + k) deep e0 nd = (do
            let rd1 ← pRead (b + k) deep nd false
            let q ← pWx tp sz rec n (b + k + 1) (deep + 1) e0 rd1
            let x ← pJ (tN 25 0 [] (b + k) [q.1])
            .ok (x, q.2.1, q.2.2)) := pWx_s (by rw [hl]; rfl)
      refine wrP110 (rec := rec) (K := 0) (n := n) hF (by omega) b e0 wl k deep hR h8.1 h8.2 h9.1 h9.2 hN (by omega) hnd hw hw.2.1 hwl hel hes hk0 (by omega) (by rw [pWl_getD (by omega)]; exact hl) (fun hd24 => ih (k + 1) (deep + 1) (d - 1) (by omega) (by omega) (by omega) (by omega) (by omega)) ?_ ?_ ?_ ?_
      · intro S3 nd3 hF3 e3 k3 p3 g3 b3 c3 d3 S5 a5 y5 at5 nd5 hF5 e5 k5 t5 p5 g5 c5 S18 hF18 e18 j18 t18 p18 g18
        exact h _ _ (xEc.good (S' := S18) hF18 (zKE.tr (zKE.tr (zKE.tr (zKE.tr (zKE.tr (zKE.tr (zKE.tr (zKE.tr (zKE.tr zKE.rf (zKE.w k3 (show gN S ≤ gN S from by omega) (fun _ h => h) (fun _ h => h))) (zKE_sI (Or.inl (by decide)))) (zKE.w k5 (show gN S ≤ gN S3 from by omega) (fun _ h => h) (fun _ h => h))) (zKE_new (show gN S ≤ gN S5 ∧ gN S5 < zLB from ⟨by omega, by have hLB : zLB = 4294967296 := rfl; omega⟩))) (zKE_sP (Or.inr (Or.inr ⟨by omega, by have hLB : zLB = 4294967296 := rfl; omega⟩)))) (zKE_sI (Or.inr (Or.inr ⟨by omega, by have hLB : zLB = 4294967296 := rfl; omega⟩)))) (zKE_sI (Or.inr (Or.inr ⟨by omega, by have hLB : zLB = 4294967296 := rfl; omega⟩)))) (zKE_sP (Or.inr (Or.inr ⟨by omega, by have hLB : zLB = 4294967296 := rfl; omega⟩)))) (xJd.ke j18 ⟨by omega, by have hLB : zLB = 4294967296 := rfl; omega⟩)) t18 p18 (by omega) (eU.trans ((pb_ok e3).trans ((pb_ok e5).trans ((pb_ok e18).trans (rfl))))))
      · intro S3 nd3 hF3 e3 k3 p3 g3 b3 c3 d3 S5 a5 y5 at5 nd5 hF5 e5 k5 t5 p5 g5 c5 S19 q19 hF19 e19 k19 x19 g19
        exact h _ _ (xEc.err (S' := S19) hF19 (zKE.tr (zKE.tr (zKE.tr (zKE.tr (zKE.tr (zKE.tr (zKE.tr (zKE.tr (zKE.tr zKE.rf (zKE.w k3 (show gN S ≤ gN S from by omega) (fun _ h => h) (fun _ h => h))) (zKE_sI (Or.inl (by decide)))) (zKE.w k5 (show gN S ≤ gN S3 from by omega) (fun _ h => h) (fun _ h => h))) (zKE_new (show gN S ≤ gN S5 ∧ gN S5 < zLB from ⟨by omega, by have hLB : zLB = 4294967296 := rfl; omega⟩))) (zKE_sP (Or.inr (Or.inr ⟨by omega, by have hLB : zLB = 4294967296 := rfl; omega⟩)))) (zKE_sI (Or.inr (Or.inr ⟨by omega, by have hLB : zLB = 4294967296 := rfl; omega⟩)))) (zKE_sI (Or.inr (Or.inr ⟨by omega, by have hLB : zLB = 4294967296 := rfl; omega⟩)))) (zKE_sP (Or.inr (Or.inr ⟨by omega, by have hLB : zLB = 4294967296 := rfl; omega⟩)))) (xFn.ke k19 (show gN S ≤ gN S5 + 1 from by omega) ⟨by omega, by have hLB : zLB = 4294967296 := rfl; omega⟩)) x19 (by omega) (eU.trans ((pb_ok e3).trans ((pb_ok e5).trans (pb_er e19)))))
      · intro S3 nd3 hF3 e3 k3 p3 g3 b3 c3 d3 S6 q6 kk6 z6 hF6 e6 k6 x6 g6
        exact h _ _ (xEc.err (S' := S6) hF6 (zKE.tr (zKE.tr (zKE.tr zKE.rf (zKE.w k3 (show gN S ≤ gN S from by omega) (fun _ h => h) (fun _ h => h))) (zKE_sI (Or.inl (by decide)))) (zKE.w k6 (show gN S ≤ gN S3 from by omega) (fun _ h => h) (fun _ h => h))) x6 (by omega) (eU.trans ((pb_ok e3).trans (pb_er e6))))
      · intro S4 q4 hF4 e4 k4 x4 g4
        exact h _ _ (xEc.err (S' := S4) hF4 (zKE.tr zKE.rf (zKE.w k4 (show gN S ≤ gN S from by omega) (fun _ h => h) (fun _ h => h))) x4 (by omega) (eU.trans (pb_er e4)))
    · have eU : pWx tp sz rec (n + 1) (b + k) deep e0 nd = (do
            let rd1 ← pRead (b + k) deep nd true
            let q ← pWx tp sz rec n (b + k + 1) (deep + 1) e0 rd1
            let c ← pJ (tN 1 0 [] (b + k) [])
            let x ← pJ (tN 11 0 [] (b + k) [q.1, tN 1 0 [] (b + k) []])
            .ok (x, q.2.1, q.2.2)) := pWx_103 (by rw [hl]; rfl)
      refine wrP116 (rec := rec) (K := 0) (n := n) hF (by omega) b e0 wl k deep hR h8.1 h8.2 h9.1 h9.2 hN (by omega) hnd hw hw.2.1 hwl hel hes hk0 (by omega) (by rw [pWl_getD (by omega)]; exact hl) (fun hd24 => ih (k + 1) (deep + 1) (d - 1) (by omega) (by omega) (by omega) (by omega) (by omega)) ?_ ?_ ?_ ?_ ?_
      · intro S3 nd3 hF3 e3 k3 p3 g3 b3 c3 d3 S5 a5 y5 at5 nd5 hF5 e5 k5 t5 p5 g5 c5 S22 hF22 e22 j22 t22 p22 g22 S37 hF37 e37 j37 t37 p37 g37
        exact h _ _ (xEc.good (S' := S37) hF37 (zKE.tr (zKE.tr (zKE.tr (zKE.tr (zKE.tr (zKE.tr (zKE.tr (zKE.tr (zKE.tr (zKE.tr (zKE.tr (zKE.tr (zKE.tr (zKE.tr (zKE.tr zKE.rf (zKE.w k3 (show gN S ≤ gN S from by omega) (fun _ h => h) (fun _ h => h))) (zKE_sI (Or.inl (by decide)))) (zKE.w k5 (show gN S ≤ gN S3 from by omega) (fun _ h => h) (fun _ h => h))) (zKE_new (show gN S ≤ gN S5 ∧ gN S5 < zLB from ⟨by omega, by have hLB : zLB = 4294967296 := rfl; omega⟩))) (zKE_sP (Or.inr (Or.inr ⟨by omega, by have hLB : zLB = 4294967296 := rfl; omega⟩)))) (zKE_sI (Or.inr (Or.inr ⟨by omega, by have hLB : zLB = 4294967296 := rfl; omega⟩)))) (zKE_sI (Or.inr (Or.inr ⟨by omega, by have hLB : zLB = 4294967296 := rfl; omega⟩)))) (xJd.ke j22 ⟨by omega, by have hLB : zLB = 4294967296 := rfl; omega⟩)) (zKE_new (show gN S ≤ gN S22 ∧ gN S22 < zLB from ⟨by omega, by have hLB : zLB = 4294967296 := rfl; omega⟩))) (zKE_sP (Or.inr (Or.inr ⟨by omega, by have hLB : zLB = 4294967296 := rfl; omega⟩)))) (zKE_sI (Or.inr (Or.inr ⟨by omega, by have hLB : zLB = 4294967296 := rfl; omega⟩)))) (zKE_sI (Or.inr (Or.inr ⟨by omega, by have hLB : zLB = 4294967296 := rfl; omega⟩)))) (zKE_sP (Or.inr (Or.inr ⟨by omega, by have hLB : zLB = 4294967296 := rfl; omega⟩)))) (zKE_sP (Or.inr (Or.inr ⟨by omega, by have hLB : zLB = 4294967296 := rfl; omega⟩)))) (xJd.ke j37 ⟨by omega, by have hLB : zLB = 4294967296 := rfl; omega⟩)) t37 p37 (by omega) (eU.trans ((pb_ok e3).trans ((pb_ok e5).trans ((pb_ok e22).trans ((pb_ok e37).trans (rfl)))))))
      · intro S3 nd3 hF3 e3 k3 p3 g3 b3 c3 d3 S5 a5 y5 at5 nd5 hF5 e5 k5 t5 p5 g5 c5 S22 hF22 e22 j22 t22 p22 g22 S38 q38 hF38 e38 k38 x38 g38
        exact h _ _ (xEc.err (S' := S38) hF38 (zKE.tr (zKE.tr (zKE.tr (zKE.tr (zKE.tr (zKE.tr (zKE.tr (zKE.tr (zKE.tr (zKE.tr (zKE.tr (zKE.tr (zKE.tr (zKE.tr (zKE.tr zKE.rf (zKE.w k3 (show gN S ≤ gN S from by omega) (fun _ h => h) (fun _ h => h))) (zKE_sI (Or.inl (by decide)))) (zKE.w k5 (show gN S ≤ gN S3 from by omega) (fun _ h => h) (fun _ h => h))) (zKE_new (show gN S ≤ gN S5 ∧ gN S5 < zLB from ⟨by omega, by have hLB : zLB = 4294967296 := rfl; omega⟩))) (zKE_sP (Or.inr (Or.inr ⟨by omega, by have hLB : zLB = 4294967296 := rfl; omega⟩)))) (zKE_sI (Or.inr (Or.inr ⟨by omega, by have hLB : zLB = 4294967296 := rfl; omega⟩)))) (zKE_sI (Or.inr (Or.inr ⟨by omega, by have hLB : zLB = 4294967296 := rfl; omega⟩)))) (xJd.ke j22 ⟨by omega, by have hLB : zLB = 4294967296 := rfl; omega⟩)) (zKE_new (show gN S ≤ gN S22 ∧ gN S22 < zLB from ⟨by omega, by have hLB : zLB = 4294967296 := rfl; omega⟩))) (zKE_sP (Or.inr (Or.inr ⟨by omega, by have hLB : zLB = 4294967296 := rfl; omega⟩)))) (zKE_sI (Or.inr (Or.inr ⟨by omega, by have hLB : zLB = 4294967296 := rfl; omega⟩)))) (zKE_sI (Or.inr (Or.inr ⟨by omega, by have hLB : zLB = 4294967296 := rfl; omega⟩)))) (zKE_sP (Or.inr (Or.inr ⟨by omega, by have hLB : zLB = 4294967296 := rfl; omega⟩)))) (zKE_sP (Or.inr (Or.inr ⟨by omega, by have hLB : zLB = 4294967296 := rfl; omega⟩)))) (xFn.ke k38 (show gN S ≤ gN S22 + 1 from by omega) ⟨by omega, by have hLB : zLB = 4294967296 := rfl; omega⟩)) x38 (by omega) (eU.trans ((pb_ok e3).trans ((pb_ok e5).trans ((pb_ok e22).trans (pb_er e38))))))
      · intro S3 nd3 hF3 e3 k3 p3 g3 b3 c3 d3 S5 a5 y5 at5 nd5 hF5 e5 k5 t5 p5 g5 c5 S23 q23 hF23 e23 k23 x23 g23
        exact h _ _ (xEc.err (S' := S23) hF23 (zKE.tr (zKE.tr (zKE.tr (zKE.tr (zKE.tr (zKE.tr (zKE.tr (zKE.tr zKE.rf (zKE.w k3 (show gN S ≤ gN S from by omega) (fun _ h => h) (fun _ h => h))) (zKE_sI (Or.inl (by decide)))) (zKE.w k5 (show gN S ≤ gN S3 from by omega) (fun _ h => h) (fun _ h => h))) (zKE_new (show gN S ≤ gN S5 ∧ gN S5 < zLB from ⟨by omega, by have hLB : zLB = 4294967296 := rfl; omega⟩))) (zKE_sP (Or.inr (Or.inr ⟨by omega, by have hLB : zLB = 4294967296 := rfl; omega⟩)))) (zKE_sI (Or.inr (Or.inr ⟨by omega, by have hLB : zLB = 4294967296 := rfl; omega⟩)))) (zKE_sI (Or.inr (Or.inr ⟨by omega, by have hLB : zLB = 4294967296 := rfl; omega⟩)))) (xFn.ke k23 (show gN S ≤ gN S5 + 1 from by omega) ⟨by omega, by have hLB : zLB = 4294967296 := rfl; omega⟩)) x23 (by omega) (eU.trans ((pb_ok e3).trans ((pb_ok e5).trans (pb_er e23)))))
      · intro S3 nd3 hF3 e3 k3 p3 g3 b3 c3 d3 S6 q6 kk6 z6 hF6 e6 k6 x6 g6
        exact h _ _ (xEc.err (S' := S6) hF6 (zKE.tr (zKE.tr (zKE.tr zKE.rf (zKE.w k3 (show gN S ≤ gN S from by omega) (fun _ h => h) (fun _ h => h))) (zKE_sI (Or.inl (by decide)))) (zKE.w k6 (show gN S ≤ gN S3 from by omega) (fun _ h => h) (fun _ h => h))) x6 (by omega) (eU.trans ((pb_ok e3).trans (pb_er e6))))
      · intro S4 q4 hF4 e4 k4 x4 g4
        exact h _ _ (xEc.err (S' := S4) hF4 (zKE.tr zKE.rf (zKE.w k4 (show gN S ≤ gN S from by omega) (fun _ h => h) (fun _ h => h))) x4 (by omega) (eU.trans (pb_er e4)))
    · have eU : pWx tp sz rec (n + 1) (b + k) deep e0 nd = (do
            let rd1 ← pRead (b + k) deep nd true
            let q ← pWx tp sz rec n (b + k + 1) (deep + 1) e0 rd1
            let c ← pJ (tN 0 0 [] (b + k) [])
            let x ← pJ (tN 16 0 [] (b + k) [tN 0 0 [] (b + k) [], q.1])
            .ok (x, q.2.1, q.2.2)) := pWx_104 (by rw [hl]; rfl)
      refine wrP108 (rec := rec) (K := 0) (n := n) hF (by omega) b e0 wl k deep hR h8.1 h8.2 h9.1 h9.2 hN (by omega) hnd hw hw.2.1 hwl hel hes hk0 (by omega) (by rw [pWl_getD (by omega)]; exact hl) (fun hd24 => ih (k + 1) (deep + 1) (d - 1) (by omega) (by omega) (by omega) (by omega) (by omega)) ?_ ?_ ?_ ?_ ?_
      · intro S3 nd3 hF3 e3 k3 p3 g3 b3 c3 d3 S5 a5 y5 at5 nd5 hF5 e5 k5 t5 p5 g5 c5 S22 hF22 e22 j22 t22 p22 g22 S37 hF37 e37 j37 t37 p37 g37
        exact h _ _ (xEc.good (S' := S37) hF37 (zKE.tr (zKE.tr (zKE.tr (zKE.tr (zKE.tr (zKE.tr (zKE.tr (zKE.tr (zKE.tr (zKE.tr (zKE.tr (zKE.tr (zKE.tr (zKE.tr (zKE.tr zKE.rf (zKE.w k3 (show gN S ≤ gN S from by omega) (fun _ h => h) (fun _ h => h))) (zKE_sI (Or.inl (by decide)))) (zKE.w k5 (show gN S ≤ gN S3 from by omega) (fun _ h => h) (fun _ h => h))) (zKE_new (show gN S ≤ gN S5 ∧ gN S5 < zLB from ⟨by omega, by have hLB : zLB = 4294967296 := rfl; omega⟩))) (zKE_sP (Or.inr (Or.inr ⟨by omega, by have hLB : zLB = 4294967296 := rfl; omega⟩)))) (zKE_sI (Or.inr (Or.inr ⟨by omega, by have hLB : zLB = 4294967296 := rfl; omega⟩)))) (zKE_sI (Or.inr (Or.inr ⟨by omega, by have hLB : zLB = 4294967296 := rfl; omega⟩)))) (xJd.ke j22 ⟨by omega, by have hLB : zLB = 4294967296 := rfl; omega⟩)) (zKE_new (show gN S ≤ gN S22 ∧ gN S22 < zLB from ⟨by omega, by have hLB : zLB = 4294967296 := rfl; omega⟩))) (zKE_sP (Or.inr (Or.inr ⟨by omega, by have hLB : zLB = 4294967296 := rfl; omega⟩)))) (zKE_sI (Or.inr (Or.inr ⟨by omega, by have hLB : zLB = 4294967296 := rfl; omega⟩)))) (zKE_sI (Or.inr (Or.inr ⟨by omega, by have hLB : zLB = 4294967296 := rfl; omega⟩)))) (zKE_sP (Or.inr (Or.inr ⟨by omega, by have hLB : zLB = 4294967296 := rfl; omega⟩)))) (zKE_sP (Or.inr (Or.inr ⟨by omega, by have hLB : zLB = 4294967296 := rfl; omega⟩)))) (xJd.ke j37 ⟨by omega, by have hLB : zLB = 4294967296 := rfl; omega⟩)) t37 p37 (by omega) (eU.trans ((pb_ok e3).trans ((pb_ok e5).trans ((pb_ok e22).trans ((pb_ok e37).trans (rfl)))))))
      · intro S3 nd3 hF3 e3 k3 p3 g3 b3 c3 d3 S5 a5 y5 at5 nd5 hF5 e5 k5 t5 p5 g5 c5 S22 hF22 e22 j22 t22 p22 g22 S38 q38 hF38 e38 k38 x38 g38
        exact h _ _ (xEc.err (S' := S38) hF38 (zKE.tr (zKE.tr (zKE.tr (zKE.tr (zKE.tr (zKE.tr (zKE.tr (zKE.tr (zKE.tr (zKE.tr (zKE.tr (zKE.tr (zKE.tr (zKE.tr (zKE.tr zKE.rf (zKE.w k3 (show gN S ≤ gN S from by omega) (fun _ h => h) (fun _ h => h))) (zKE_sI (Or.inl (by decide)))) (zKE.w k5 (show gN S ≤ gN S3 from by omega) (fun _ h => h) (fun _ h => h))) (zKE_new (show gN S ≤ gN S5 ∧ gN S5 < zLB from ⟨by omega, by have hLB : zLB = 4294967296 := rfl; omega⟩))) (zKE_sP (Or.inr (Or.inr ⟨by omega, by have hLB : zLB = 4294967296 := rfl; omega⟩)))) (zKE_sI (Or.inr (Or.inr ⟨by omega, by have hLB : zLB = 4294967296 := rfl; omega⟩)))) (zKE_sI (Or.inr (Or.inr ⟨by omega, by have hLB : zLB = 4294967296 := rfl; omega⟩)))) (xJd.ke j22 ⟨by omega, by have hLB : zLB = 4294967296 := rfl; omega⟩)) (zKE_new (show gN S ≤ gN S22 ∧ gN S22 < zLB from ⟨by omega, by have hLB : zLB = 4294967296 := rfl; omega⟩))) (zKE_sP (Or.inr (Or.inr ⟨by omega, by have hLB : zLB = 4294967296 := rfl; omega⟩)))) (zKE_sI (Or.inr (Or.inr ⟨by omega, by have hLB : zLB = 4294967296 := rfl; omega⟩)))) (zKE_sI (Or.inr (Or.inr ⟨by omega, by have hLB : zLB = 4294967296 := rfl; omega⟩)))) (zKE_sP (Or.inr (Or.inr ⟨by omega, by have hLB : zLB = 4294967296 := rfl; omega⟩)))) (zKE_sP (Or.inr (Or.inr ⟨by omega, by have hLB : zLB = 4294967296 := rfl; omega⟩)))) (xFn.ke k38 (show gN S ≤ gN S22 + 1 from by omega) ⟨by omega, by have hLB : zLB = 4294967296 := rfl; omega⟩)) x38 (by omega) (eU.trans ((pb_ok e3).trans ((pb_ok e5).trans ((pb_ok e22).trans (pb_er e38))))))
      · intro S3 nd3 hF3 e3 k3 p3 g3 b3 c3 d3 S5 a5 y5 at5 nd5 hF5 e5 k5 t5 p5 g5 c5 S23 q23 hF23 e23 k23 x23 g23
        exact h _ _ (xEc.err (S' := S23) hF23 (zKE.tr (zKE.tr (zKE.tr (zKE.tr (zKE.tr (zKE.tr (zKE.tr (zKE.tr zKE.rf (zKE.w k3 (show gN S ≤ gN S from by omega) (fun _ h => h) (fun _ h => h))) (zKE_sI (Or.inl (by decide)))) (zKE.w k5 (show gN S ≤ gN S3 from by omega) (fun _ h => h) (fun _ h => h))) (zKE_new (show gN S ≤ gN S5 ∧ gN S5 < zLB from ⟨by omega, by have hLB : zLB = 4294967296 := rfl; omega⟩))) (zKE_sP (Or.inr (Or.inr ⟨by omega, by have hLB : zLB = 4294967296 := rfl; omega⟩)))) (zKE_sI (Or.inr (Or.inr ⟨by omega, by have hLB : zLB = 4294967296 := rfl; omega⟩)))) (zKE_sI (Or.inr (Or.inr ⟨by omega, by have hLB : zLB = 4294967296 := rfl; omega⟩)))) (xFn.ke k23 (show gN S ≤ gN S5 + 1 from by omega) ⟨by omega, by have hLB : zLB = 4294967296 := rfl; omega⟩)) x23 (by omega) (eU.trans ((pb_ok e3).trans ((pb_ok e5).trans (pb_er e23)))))
      · intro S3 nd3 hF3 e3 k3 p3 g3 b3 c3 d3 S6 q6 kk6 z6 hF6 e6 k6 x6 g6
        exact h _ _ (xEc.err (S' := S6) hF6 (zKE.tr (zKE.tr (zKE.tr zKE.rf (zKE.w k3 (show gN S ≤ gN S from by omega) (fun _ h => h) (fun _ h => h))) (zKE_sI (Or.inl (by decide)))) (zKE.w k6 (show gN S ≤ gN S3 from by omega) (fun _ h => h) (fun _ h => h))) x6 (by omega) (eU.trans ((pb_ok e3).trans (pb_er e6))))
      · intro S4 q4 hF4 e4 k4 x4 g4
        exact h _ _ (xEc.err (S' := S4) hF4 (zKE.tr zKE.rf (zKE.w k4 (show gN S ≤ gN S from by omega) (fun _ h => h) (fun _ h => h))) x4 (by omega) (eU.trans (pb_er e4)))
    · have eU : pWx tp sz rec (n + 1) (b + k) deep e0 nd = (do
            let rd1 ← pRead (b + k) deep nd true
            let q ← pWx tp sz rec n (b + k + 1) (deep + 1) e0 rd1
            let c ← pJ (tN 0 0 [] (b + k) [])
            let x ← pJ (tN 16 0 [] (b + k) [q.1, tN 0 0 [] (b + k) []])
            .ok (x, q.2.1, q.2.2)) := pWx_105 (by rw [hl]; rfl)
      refine wrP117 (rec := rec) (K := 0) (n := n) hF (by omega) b e0 wl k deep hR h8.1 h8.2 h9.1 h9.2 hN (by omega) hnd hw hw.2.1 hwl hel hes hk0 (by omega) (by rw [pWl_getD (by omega)]; exact hl) (fun hd24 => ih (k + 1) (deep + 1) (d - 1) (by omega) (by omega) (by omega) (by omega) (by omega)) ?_ ?_ ?_ ?_ ?_
      · intro S3 nd3 hF3 e3 k3 p3 g3 b3 c3 d3 S5 a5 y5 at5 nd5 hF5 e5 k5 t5 p5 g5 c5 S22 hF22 e22 j22 t22 p22 g22 S37 hF37 e37 j37 t37 p37 g37
        exact h _ _ (xEc.good (S' := S37) hF37 (zKE.tr (zKE.tr (zKE.tr (zKE.tr (zKE.tr (zKE.tr (zKE.tr (zKE.tr (zKE.tr (zKE.tr (zKE.tr (zKE.tr (zKE.tr (zKE.tr (zKE.tr zKE.rf (zKE.w k3 (show gN S ≤ gN S from by omega) (fun _ h => h) (fun _ h => h))) (zKE_sI (Or.inl (by decide)))) (zKE.w k5 (show gN S ≤ gN S3 from by omega) (fun _ h => h) (fun _ h => h))) (zKE_new (show gN S ≤ gN S5 ∧ gN S5 < zLB from ⟨by omega, by have hLB : zLB = 4294967296 := rfl; omega⟩))) (zKE_sP (Or.inr (Or.inr ⟨by omega, by have hLB : zLB = 4294967296 := rfl; omega⟩)))) (zKE_sI (Or.inr (Or.inr ⟨by omega, by have hLB : zLB = 4294967296 := rfl; omega⟩)))) (zKE_sI (Or.inr (Or.inr ⟨by omega, by have hLB : zLB = 4294967296 := rfl; omega⟩)))) (xJd.ke j22 ⟨by omega, by have hLB : zLB = 4294967296 := rfl; omega⟩)) (zKE_new (show gN S ≤ gN S22 ∧ gN S22 < zLB from ⟨by omega, by have hLB : zLB = 4294967296 := rfl; omega⟩))) (zKE_sP (Or.inr (Or.inr ⟨by omega, by have hLB : zLB = 4294967296 := rfl; omega⟩)))) (zKE_sI (Or.inr (Or.inr ⟨by omega, by have hLB : zLB = 4294967296 := rfl; omega⟩)))) (zKE_sI (Or.inr (Or.inr ⟨by omega, by have hLB : zLB = 4294967296 := rfl; omega⟩)))) (zKE_sP (Or.inr (Or.inr ⟨by omega, by have hLB : zLB = 4294967296 := rfl; omega⟩)))) (zKE_sP (Or.inr (Or.inr ⟨by omega, by have hLB : zLB = 4294967296 := rfl; omega⟩)))) (xJd.ke j37 ⟨by omega, by have hLB : zLB = 4294967296 := rfl; omega⟩)) t37 p37 (by omega) (eU.trans ((pb_ok e3).trans ((pb_ok e5).trans ((pb_ok e22).trans ((pb_ok e37).trans (rfl)))))))
      · intro S3 nd3 hF3 e3 k3 p3 g3 b3 c3 d3 S5 a5 y5 at5 nd5 hF5 e5 k5 t5 p5 g5 c5 S22 hF22 e22 j22 t22 p22 g22 S38 q38 hF38 e38 k38 x38 g38
        exact h _ _ (xEc.err (S' := S38) hF38 (zKE.tr (zKE.tr (zKE.tr (zKE.tr (zKE.tr (zKE.tr (zKE.tr (zKE.tr (zKE.tr (zKE.tr (zKE.tr (zKE.tr (zKE.tr (zKE.tr (zKE.tr zKE.rf (zKE.w k3 (show gN S ≤ gN S from by omega) (fun _ h => h) (fun _ h => h))) (zKE_sI (Or.inl (by decide)))) (zKE.w k5 (show gN S ≤ gN S3 from by omega) (fun _ h => h) (fun _ h => h))) (zKE_new (show gN S ≤ gN S5 ∧ gN S5 < zLB from ⟨by omega, by have hLB : zLB = 4294967296 := rfl; omega⟩))) (zKE_sP (Or.inr (Or.inr ⟨by omega, by have hLB : zLB = 4294967296 := rfl; omega⟩)))) (zKE_sI (Or.inr (Or.inr ⟨by omega, by have hLB : zLB = 4294967296 := rfl; omega⟩)))) (zKE_sI (Or.inr (Or.inr ⟨by omega, by have hLB : zLB = 4294967296 := rfl; omega⟩)))) (xJd.ke j22 ⟨by omega, by have hLB : zLB = 4294967296 := rfl; omega⟩)) (zKE_new (show gN S ≤ gN S22 ∧ gN S22 < zLB from ⟨by omega, by have hLB : zLB = 4294967296 := rfl; omega⟩))) (zKE_sP (Or.inr (Or.inr ⟨by omega, by have hLB : zLB = 4294967296 := rfl; omega⟩)))) (zKE_sI (Or.inr (Or.inr ⟨by omega, by have hLB : zLB = 4294967296 := rfl; omega⟩)))) (zKE_sI (Or.inr (Or.inr ⟨by omega, by have hLB : zLB = 4294967296 := rfl; omega⟩)))) (zKE_sP (Or.inr (Or.inr ⟨by omega, by have hLB : zLB = 4294967296 := rfl; omega⟩)))) (zKE_sP (Or.inr (Or.inr ⟨by omega, by have hLB : zLB = 4294967296 := rfl; omega⟩)))) (xFn.ke k38 (show gN S ≤ gN S22 + 1 from by omega) ⟨by omega, by have hLB : zLB = 4294967296 := rfl; omega⟩)) x38 (by omega) (eU.trans ((pb_ok e3).trans ((pb_ok e5).trans ((pb_ok e22).trans (pb_er e38))))))
      · intro S3 nd3 hF3 e3 k3 p3 g3 b3 c3 d3 S5 a5 y5 at5 nd5 hF5 e5 k5 t5 p5 g5 c5 S23 q23 hF23 e23 k23 x23 g23
        exact h _ _ (xEc.err (S' := S23) hF23 (zKE.tr (zKE.tr (zKE.tr (zKE.tr (zKE.tr (zKE.tr (zKE.tr (zKE.tr zKE.rf (zKE.w k3 (show gN S ≤ gN S from by omega) (fun _ h => h) (fun _ h => h))) (zKE_sI (Or.inl (by decide)))) (zKE.w k5 (show gN S ≤ gN S3 from by omega) (fun _ h => h) (fun _ h => h))) (zKE_new (show gN S ≤ gN S5 ∧ gN S5 < zLB from ⟨by omega, by have hLB : zLB = 4294967296 := rfl; omega⟩))) (zKE_sP (Or.inr (Or.inr ⟨by omega, by have hLB : zLB = 4294967296 := rfl; omega⟩)))) (zKE_sI (Or.inr (Or.inr ⟨by omega, by have hLB : zLB = 4294967296 := rfl; omega⟩)))) (zKE_sI (Or.inr (Or.inr ⟨by omega, by have hLB : zLB = 4294967296 := rfl; omega⟩)))) (xFn.ke k23 (show gN S ≤ gN S5 + 1 from by omega) ⟨by omega, by have hLB : zLB = 4294967296 := rfl; omega⟩)) x23 (by omega) (eU.trans ((pb_ok e3).trans ((pb_ok e5).trans (pb_er e23)))))
      · intro S3 nd3 hF3 e3 k3 p3 g3 b3 c3 d3 S6 q6 kk6 z6 hF6 e6 k6 x6 g6
        exact h _ _ (xEc.err (S' := S6) hF6 (zKE.tr (zKE.tr (zKE.tr zKE.rf (zKE.w k3 (show gN S ≤ gN S from by omega) (fun _ h => h) (fun _ h => h))) (zKE_sI (Or.inl (by decide)))) (zKE.w k6 (show gN S ≤ gN S3 from by omega) (fun _ h => h) (fun _ h => h))) x6 (by omega) (eU.trans ((pb_ok e3).trans (pb_er e6))))
      · intro S4 q4 hF4 e4 k4 x4 g4
        exact h _ _ (xEc.err (S' := S4) hF4 (zKE.tr zKE.rf (zKE.w k4 (show gN S ≤ gN S from by omega) (fun _ h => h) (fun _ h => h))) x4 (by omega) (eU.trans (pb_er e4)))
/-- the wrappers of a fragment, and what they stand around -/
noncomputable def pXw (tp : Nat → Nat) (sz : Nat) (rec : Nat → Nat → Nat → pE (zNd × Nat × Nat)) (wl at0 deep nd : Nat) : pE (zNd × Nat × Nat) := do
  let _ ← pBad (pWl tp at0 (at0 + wl)) at0
  pWx tp sz rec wl at0 deep (at0 + wl) nd
theorem x_wrap0 {rec : Nat → Nat → Nat → pE (zNd × Nat × Nat)} (hmono : pMono rec) {w b e0 wl deep n : Nat} {S : zS} {r nd : Nat} (hwl : (pWl tp b e0).length = wl) (hel : e0 = b + wl) (hes : e0 < sz) (hbad : pBad (pWl tp b e0) b = .ok ()) (hRd : ∀ dp d', deep < dp → dp ≤ 25 → 10 * (26 - dp) + 80 ≤ d' → xRd tp sz d' dp rec) (hn : n + 1 = wl) (hdp : deep ≤ 25) (hdd : 10 * (26 - deep) + 76 ≤ d) (hF : zFin true S) (hR : xR tp sz S r b nd) (hw : xWd S w (pWl tp b e0)) (hnd : nd ≤ 80) (hN : gN S + 30 * (sz - b) ≤ 1700000)
    (h : ∀ o S', xEc tp sz r S (gN S + 30 * (sz - e0) + 2 * (e0 - b)) (gZ S + 150 * (sz - e0) + 60 * (e0 - b)) (pWx tp sz rec (n + 1) b deep e0 nd) o S' → post (o, S')) : zCall d 260 [.ref r, .ref w, .int 0, .int (Int32.ofNat deep)] S post := by
  have h8 := hR.2.2.2.1
  have h9 := hR.2.2.2.2.1
  obtain ⟨v, hv⟩ := pBad_mem hbad (tp b) (pWl_mem (by omega) (by omega))
  rcases pWr_case hv with hl | hl | hl | hl | hl | hl | hl | hl | hl | hl
  · have eU : pWx tp sz rec (n + 1) (b) deep e0 nd = (do
          let rd1 ← pRead (b) deep nd false
          let q ← pWx tp sz rec n (b + 1) (deep + 1) e0 rd1
          let x ← pJ (tN 19 0 [] (b) [q.1])
          .ok (x, q.2.1, q.2.2)) := pWx_s (by rw [hl]; rfl)
    refine wrZ97 (rec := rec) (K := 0) (n := n) hF (by omega) b e0 wl deep hR h8.1 h8.2 h9.1 h9.2 hN (by omega) hnd hw hw.2.1 hwl hel hes (by omega) (by rw [pWl_getD (by omega)]; exact hl) hbad (fun hd24 => x_wrapN (deep0 := deep) hmono hwl hel hes hbad hRd n 1 (deep + 1) (d - 1) (by omega) (by omega) (by omega) (by omega) (by omega)) ?_ ?_ ?_ ?_
    · intro S2 nd2 hF2 e2 k2 p2 g2 b2 c2 d2 S4 a4 y4 at4 nd4 hF4 e4 k4 t4 p4 g4 c4 S17 hF17 e17 j17 t17 p17 g17
      exact h _ _ (xEc.good (S' := S17) hF17 (zKE.tr (zKE.tr (zKE.tr (zKE.tr (zKE.tr (zKE.tr (zKE.tr (zKE.tr (zKE.tr zKE.rf (zKE.w k2 (show gN S ≤ gN S from by omega) (fun _ h => h) (fun _ h => h))) (zKE_sI (Or.inl (by decide)))) (zKE.w k4 (show gN S ≤ gN S2 from by omega) (fun _ h => h) (fun _ h => h))) (zKE_new (show gN S ≤ gN S4 ∧ gN S4 < zLB from ⟨by omega, by have hLB : zLB = 4294967296 := rfl; omega⟩))) (zKE_sP (Or.inr (Or.inr ⟨by omega, by have hLB : zLB = 4294967296 := rfl; omega⟩)))) (zKE_sI (Or.inr (Or.inr ⟨by omega, by have hLB : zLB = 4294967296 := rfl; omega⟩)))) (zKE_sI (Or.inr (Or.inr ⟨by omega, by have hLB : zLB = 4294967296 := rfl; omega⟩)))) (zKE_sP (Or.inr (Or.inr ⟨by omega, by have hLB : zLB = 4294967296 := rfl; omega⟩)))) (xJd.ke j17 ⟨by omega, by have hLB : zLB = 4294967296 := rfl; omega⟩)) t17 p17 (by omega) (eU.trans ((pb_ok e2).trans ((pb_ok e4).trans ((pb_ok e17).trans (rfl))))))
    · intro S2 nd2 hF2 e2 k2 p2 g2 b2 c2 d2 S4 a4 y4 at4 nd4 hF4 e4 k4 t4 p4 g4 c4 S18 q18 hF18 e18 k18 x18 g18
      exact h _ _ (xEc.err (S' := S18) hF18 (zKE.tr (zKE.tr (zKE.tr (zKE.tr (zKE.tr (zKE.tr (zKE.tr (zKE.tr (zKE.tr zKE.rf (zKE.w k2 (show gN S ≤ gN S from by omega) (fun _ h => h) (fun _ h => h))) (zKE_sI (Or.inl (by decide)))) (zKE.w k4 (show gN S ≤ gN S2 from by omega) (fun _ h => h) (fun _ h => h))) (zKE_new (show gN S ≤ gN S4 ∧ gN S4 < zLB from ⟨by omega, by have hLB : zLB = 4294967296 := rfl; omega⟩))) (zKE_sP (Or.inr (Or.inr ⟨by omega, by have hLB : zLB = 4294967296 := rfl; omega⟩)))) (zKE_sI (Or.inr (Or.inr ⟨by omega, by have hLB : zLB = 4294967296 := rfl; omega⟩)))) (zKE_sI (Or.inr (Or.inr ⟨by omega, by have hLB : zLB = 4294967296 := rfl; omega⟩)))) (zKE_sP (Or.inr (Or.inr ⟨by omega, by have hLB : zLB = 4294967296 := rfl; omega⟩)))) (xFn.ke k18 (show gN S ≤ gN S4 + 1 from by omega) ⟨by omega, by have hLB : zLB = 4294967296 := rfl; omega⟩)) x18 (by omega) (eU.trans ((pb_ok e2).trans ((pb_ok e4).trans (pb_er e18)))))
    · intro S2 nd2 hF2 e2 k2 p2 g2 b2 c2 d2 S5 q5 kk5 z5 hF5 e5 k5 x5 g5
      exact h _ _ (xEc.err (S' := S5) hF5 (zKE.tr (zKE.tr (zKE.tr zKE.rf (zKE.w k2 (show gN S ≤ gN S from by omega) (fun _ h => h) (fun _ h => h))) (zKE_sI (Or.inl (by decide)))) (zKE.w k5 (show gN S ≤ gN S2 from by omega) (fun _ h => h) (fun _ h => h))) x5 (by omega) (eU.trans ((pb_ok e2).trans (pb_er e5))))
    · intro S3 q3 hF3 e3 k3 x3 g3
      exact h _ _ (xEc.err (S' := S3) hF3 (zKE.tr zKE.rf (zKE.w k3 (show gN S ≤ gN S from by omega) (fun _ h => h) (fun _ h => h))) x3 (by omega) (eU.trans (pb_er e3)))
  · have eU : pWx tp sz rec (n + 1) (b) deep e0 nd = (do
          let rd1 ← pRead (b) deep nd false
          let q ← pWx tp sz rec n (b + 1) (deep + 1) e0 rd1
          let x ← pJ (tN 20 0 [] (b) [q.1])
          .ok (x, q.2.1, q.2.2)) := pWx_s (by rw [hl]; rfl)
    refine wrZ115 (rec := rec) (K := 0) (n := n) hF (by omega) b e0 wl deep hR h8.1 h8.2 h9.1 h9.2 hN (by omega) hnd hw hw.2.1 hwl hel hes (by omega) (by rw [pWl_getD (by omega)]; exact hl) hbad (fun hd24 => x_wrapN (deep0 := deep) hmono hwl hel hes hbad hRd n 1 (deep + 1) (d - 1) (by omega) (by omega) (by omega) (by omega) (by omega)) ?_ ?_ ?_ ?_
    · intro S2 nd2 hF2 e2 k2 p2 g2 b2 c2 d2 S4 a4 y4 at4 nd4 hF4 e4 k4 t4 p4 g4 c4 S17 hF17 e17 j17 t17 p17 g17
      exact h _ _ (xEc.good (S' := S17) hF17 (zKE.tr (zKE.tr (zKE.tr (zKE.tr (zKE.tr (zKE.tr (zKE.tr (zKE.tr (zKE.tr zKE.rf (zKE.w k2 (show gN S ≤ gN S from by omega) (fun _ h => h) (fun _ h => h))) (zKE_sI (Or.inl (by decide)))) (zKE.w k4 (show gN S ≤ gN S2 from by omega) (fun _ h => h) (fun _ h => h))) (zKE_new (show gN S ≤ gN S4 ∧ gN S4 < zLB from ⟨by omega, by have hLB : zLB = 4294967296 := rfl; omega⟩))) (zKE_sP (Or.inr (Or.inr ⟨by omega, by have hLB : zLB = 4294967296 := rfl; omega⟩)))) (zKE_sI (Or.inr (Or.inr ⟨by omega, by have hLB : zLB = 4294967296 := rfl; omega⟩)))) (zKE_sI (Or.inr (Or.inr ⟨by omega, by have hLB : zLB = 4294967296 := rfl; omega⟩)))) (zKE_sP (Or.inr (Or.inr ⟨by omega, by have hLB : zLB = 4294967296 := rfl; omega⟩)))) (xJd.ke j17 ⟨by omega, by have hLB : zLB = 4294967296 := rfl; omega⟩)) t17 p17 (by omega) (eU.trans ((pb_ok e2).trans ((pb_ok e4).trans ((pb_ok e17).trans (rfl))))))
    · intro S2 nd2 hF2 e2 k2 p2 g2 b2 c2 d2 S4 a4 y4 at4 nd4 hF4 e4 k4 t4 p4 g4 c4 S18 q18 hF18 e18 k18 x18 g18
      exact h _ _ (xEc.err (S' := S18) hF18 (zKE.tr (zKE.tr (zKE.tr (zKE.tr (zKE.tr (zKE.tr (zKE.tr (zKE.tr (zKE.tr zKE.rf (zKE.w k2 (show gN S ≤ gN S from by omega) (fun _ h => h) (fun _ h => h))) (zKE_sI (Or.inl (by decide)))) (zKE.w k4 (show gN S ≤ gN S2 from by omega) (fun _ h => h) (fun _ h => h))) (zKE_new (show gN S ≤ gN S4 ∧ gN S4 < zLB from ⟨by omega, by have hLB : zLB = 4294967296 := rfl; omega⟩))) (zKE_sP (Or.inr (Or.inr ⟨by omega, by have hLB : zLB = 4294967296 := rfl; omega⟩)))) (zKE_sI (Or.inr (Or.inr ⟨by omega, by have hLB : zLB = 4294967296 := rfl; omega⟩)))) (zKE_sI (Or.inr (Or.inr ⟨by omega, by have hLB : zLB = 4294967296 := rfl; omega⟩)))) (zKE_sP (Or.inr (Or.inr ⟨by omega, by have hLB : zLB = 4294967296 := rfl; omega⟩)))) (xFn.ke k18 (show gN S ≤ gN S4 + 1 from by omega) ⟨by omega, by have hLB : zLB = 4294967296 := rfl; omega⟩)) x18 (by omega) (eU.trans ((pb_ok e2).trans ((pb_ok e4).trans (pb_er e18)))))
    · intro S2 nd2 hF2 e2 k2 p2 g2 b2 c2 d2 S5 q5 kk5 z5 hF5 e5 k5 x5 g5
      exact h _ _ (xEc.err (S' := S5) hF5 (zKE.tr (zKE.tr (zKE.tr zKE.rf (zKE.w k2 (show gN S ≤ gN S from by omega) (fun _ h => h) (fun _ h => h))) (zKE_sI (Or.inl (by decide)))) (zKE.w k5 (show gN S ≤ gN S2 from by omega) (fun _ h => h) (fun _ h => h))) x5 (by omega) (eU.trans ((pb_ok e2).trans (pb_er e5))))
    · intro S3 q3 hF3 e3 k3 x3 g3
      exact h _ _ (xEc.err (S' := S3) hF3 (zKE.tr zKE.rf (zKE.w k3 (show gN S ≤ gN S from by omega) (fun _ h => h) (fun _ h => h))) x3 (by omega) (eU.trans (pb_er e3)))
  · have eU : pWx tp sz rec (n + 1) (b) deep e0 nd = (do
          let rd1 ← pRead (b) deep nd false
          let q ← pWx tp sz rec n (b + 1) (deep + 1) e0 rd1
          let x ← pJ (tN 21 0 [] (b) [q.1])
          .ok (x, q.2.1, q.2.2)) := pWx_s (by rw [hl]; rfl)
    refine wrZ99 (rec := rec) (K := 0) (n := n) hF (by omega) b e0 wl deep hR h8.1 h8.2 h9.1 h9.2 hN (by omega) hnd hw hw.2.1 hwl hel hes (by omega) (by rw [pWl_getD (by omega)]; exact hl) hbad (fun hd24 => x_wrapN (deep0 := deep) hmono hwl hel hes hbad hRd n 1 (deep + 1) (d - 1) (by omega) (by omega) (by omega) (by omega) (by omega)) ?_ ?_ ?_ ?_
    · intro S2 nd2 hF2 e2 k2 p2 g2 b2 c2 d2 S4 a4 y4 at4 nd4 hF4 e4 k4 t4 p4 g4 c4 S17 hF17 e17 j17 t17 p17 g17
      exact h _ _ (xEc.good (S' := S17) hF17 (zKE.tr (zKE.tr (zKE.tr (zKE.tr (zKE.tr (zKE.tr (zKE.tr (zKE.tr (zKE.tr zKE.rf (zKE.w k2 (show gN S ≤ gN S from by omega) (fun _ h => h) (fun _ h => h))) (zKE_sI (Or.inl (by decide)))) (zKE.w k4 (show gN S ≤ gN S2 from by omega) (fun _ h => h) (fun _ h => h))) (zKE_new (show gN S ≤ gN S4 ∧ gN S4 < zLB from ⟨by omega, by have hLB : zLB = 4294967296 := rfl; omega⟩))) (zKE_sP (Or.inr (Or.inr ⟨by omega, by have hLB : zLB = 4294967296 := rfl; omega⟩)))) (zKE_sI (Or.inr (Or.inr ⟨by omega, by have hLB : zLB = 4294967296 := rfl; omega⟩)))) (zKE_sI (Or.inr (Or.inr ⟨by omega, by have hLB : zLB = 4294967296 := rfl; omega⟩)))) (zKE_sP (Or.inr (Or.inr ⟨by omega, by have hLB : zLB = 4294967296 := rfl; omega⟩)))) (xJd.ke j17 ⟨by omega, by have hLB : zLB = 4294967296 := rfl; omega⟩)) t17 p17 (by omega) (eU.trans ((pb_ok e2).trans ((pb_ok e4).trans ((pb_ok e17).trans (rfl))))))
    · intro S2 nd2 hF2 e2 k2 p2 g2 b2 c2 d2 S4 a4 y4 at4 nd4 hF4 e4 k4 t4 p4 g4 c4 S18 q18 hF18 e18 k18 x18 g18
      exact h _ _ (xEc.err (S' := S18) hF18 (zKE.tr (zKE.tr (zKE.tr (zKE.tr (zKE.tr (zKE.tr (zKE.tr (zKE.tr (zKE.tr zKE.rf (zKE.w k2 (show gN S ≤ gN S from by omega) (fun _ h => h) (fun _ h => h))) (zKE_sI (Or.inl (by decide)))) (zKE.w k4 (show gN S ≤ gN S2 from by omega) (fun _ h => h) (fun _ h => h))) (zKE_new (show gN S ≤ gN S4 ∧ gN S4 < zLB from ⟨by omega, by have hLB : zLB = 4294967296 := rfl; omega⟩))) (zKE_sP (Or.inr (Or.inr ⟨by omega, by have hLB : zLB = 4294967296 := rfl; omega⟩)))) (zKE_sI (Or.inr (Or.inr ⟨by omega, by have hLB : zLB = 4294967296 := rfl; omega⟩)))) (zKE_sI (Or.inr (Or.inr ⟨by omega, by have hLB : zLB = 4294967296 := rfl; omega⟩)))) (zKE_sP (Or.inr (Or.inr ⟨by omega, by have hLB : zLB = 4294967296 := rfl; omega⟩)))) (xFn.ke k18 (show gN S ≤ gN S4 + 1 from by omega) ⟨by omega, by have hLB : zLB = 4294967296 := rfl; omega⟩)) x18 (by omega) (eU.trans ((pb_ok e2).trans ((pb_ok e4).trans (pb_er e18)))))
    · intro S2 nd2 hF2 e2 k2 p2 g2 b2 c2 d2 S5 q5 kk5 z5 hF5 e5 k5 x5 g5
      exact h _ _ (xEc.err (S' := S5) hF5 (zKE.tr (zKE.tr (zKE.tr zKE.rf (zKE.w k2 (show gN S ≤ gN S from by omega) (fun _ h => h) (fun _ h => h))) (zKE_sI (Or.inl (by decide)))) (zKE.w k5 (show gN S ≤ gN S2 from by omega) (fun _ h => h) (fun _ h => h))) x5 (by omega) (eU.trans ((pb_ok e2).trans (pb_er e5))))
    · intro S3 q3 hF3 e3 k3 x3 g3
      exact h _ _ (xEc.err (S' := S3) hF3 (zKE.tr zKE.rf (zKE.w k3 (show gN S ≤ gN S from by omega) (fun _ h => h) (fun _ h => h))) x3 (by omega) (eU.trans (pb_er e3)))
  · have eU : pWx tp sz rec (n + 1) (b) deep e0 nd = (do
          let rd1 ← pRead (b) deep nd false
          let q ← pWx tp sz rec n (b + 1) (deep + 1) e0 rd1
          let x ← pJ (tN 22 0 [] (b) [q.1])
          .ok (x, q.2.1, q.2.2)) := pWx_s (by rw [hl]; rfl)
    refine wrZ100 (rec := rec) (K := 0) (n := n) hF (by omega) b e0 wl deep hR h8.1 h8.2 h9.1 h9.2 hN (by omega) hnd hw hw.2.1 hwl hel hes (by omega) (by rw [pWl_getD (by omega)]; exact hl) hbad (fun hd24 => x_wrapN (deep0 := deep) hmono hwl hel hes hbad hRd n 1 (deep + 1) (d - 1) (by omega) (by omega) (by omega) (by omega) (by omega)) ?_ ?_ ?_ ?_
    · intro S2 nd2 hF2 e2 k2 p2 g2 b2 c2 d2 S4 a4 y4 at4 nd4 hF4 e4 k4 t4 p4 g4 c4 S17 hF17 e17 j17 t17 p17 g17
      exact h _ _ (xEc.good (S' := S17) hF17 (zKE.tr (zKE.tr (zKE.tr (zKE.tr (zKE.tr (zKE.tr (zKE.tr (zKE.tr (zKE.tr zKE.rf (zKE.w k2 (show gN S ≤ gN S from by omega) (fun _ h => h) (fun _ h => h))) (zKE_sI (Or.inl (by decide)))) (zKE.w k4 (show gN S ≤ gN S2 from by omega) (fun _ h => h) (fun _ h => h))) (zKE_new (show gN S ≤ gN S4 ∧ gN S4 < zLB from ⟨by omega, by have hLB : zLB = 4294967296 := rfl; omega⟩))) (zKE_sP (Or.inr (Or.inr ⟨by omega, by have hLB : zLB = 4294967296 := rfl; omega⟩)))) (zKE_sI (Or.inr (Or.inr ⟨by omega, by have hLB : zLB = 4294967296 := rfl; omega⟩)))) (zKE_sI (Or.inr (Or.inr ⟨by omega, by have hLB : zLB = 4294967296 := rfl; omega⟩)))) (zKE_sP (Or.inr (Or.inr ⟨by omega, by have hLB : zLB = 4294967296 := rfl; omega⟩)))) (xJd.ke j17 ⟨by omega, by have hLB : zLB = 4294967296 := rfl; omega⟩)) t17 p17 (by omega) (eU.trans ((pb_ok e2).trans ((pb_ok e4).trans ((pb_ok e17).trans (rfl))))))
    · intro S2 nd2 hF2 e2 k2 p2 g2 b2 c2 d2 S4 a4 y4 at4 nd4 hF4 e4 k4 t4 p4 g4 c4 S18 q18 hF18 e18 k18 x18 g18
      exact h _ _ (xEc.err (S' := S18) hF18 (zKE.tr (zKE.tr (zKE.tr (zKE.tr (zKE.tr (zKE.tr (zKE.tr (zKE.tr (zKE.tr zKE.rf (zKE.w k2 (show gN S ≤ gN S from by omega) (fun _ h => h) (fun _ h => h))) (zKE_sI (Or.inl (by decide)))) (zKE.w k4 (show gN S ≤ gN S2 from by omega) (fun _ h => h) (fun _ h => h))) (zKE_new (show gN S ≤ gN S4 ∧ gN S4 < zLB from ⟨by omega, by have hLB : zLB = 4294967296 := rfl; omega⟩))) (zKE_sP (Or.inr (Or.inr ⟨by omega, by have hLB : zLB = 4294967296 := rfl; omega⟩)))) (zKE_sI (Or.inr (Or.inr ⟨by omega, by have hLB : zLB = 4294967296 := rfl; omega⟩)))) (zKE_sI (Or.inr (Or.inr ⟨by omega, by have hLB : zLB = 4294967296 := rfl; omega⟩)))) (zKE_sP (Or.inr (Or.inr ⟨by omega, by have hLB : zLB = 4294967296 := rfl; omega⟩)))) (xFn.ke k18 (show gN S ≤ gN S4 + 1 from by omega) ⟨by omega, by have hLB : zLB = 4294967296 := rfl; omega⟩)) x18 (by omega) (eU.trans ((pb_ok e2).trans ((pb_ok e4).trans (pb_er e18)))))
    · intro S2 nd2 hF2 e2 k2 p2 g2 b2 c2 d2 S5 q5 kk5 z5 hF5 e5 k5 x5 g5
      exact h _ _ (xEc.err (S' := S5) hF5 (zKE.tr (zKE.tr (zKE.tr zKE.rf (zKE.w k2 (show gN S ≤ gN S from by omega) (fun _ h => h) (fun _ h => h))) (zKE_sI (Or.inl (by decide)))) (zKE.w k5 (show gN S ≤ gN S2 from by omega) (fun _ h => h) (fun _ h => h))) x5 (by omega) (eU.trans ((pb_ok e2).trans (pb_er e5))))
    · intro S3 q3 hF3 e3 k3 x3 g3
      exact h _ _ (xEc.err (S' := S3) hF3 (zKE.tr zKE.rf (zKE.w k3 (show gN S ≤ gN S from by omega) (fun _ h => h) (fun _ h => h))) x3 (by omega) (eU.trans (pb_er e3)))
  · have eU : pWx tp sz rec (n + 1) (b) deep e0 nd = (do
          let rd1 ← pRead (b) deep nd false
          let q ← pWx tp sz rec n (b + 1) (deep + 1) e0 rd1
          let x ← pJ (tN 23 0 [] (b) [q.1])
          .ok (x, q.2.1, q.2.2)) := pWx_s (by rw [hl]; rfl)
    refine wrZ118 (rec := rec) (K := 0) (n := n) hF (by omega) b e0 wl deep hR h8.1 h8.2 h9.1 h9.2 hN (by omega) hnd hw hw.2.1 hwl hel hes (by omega) (by rw [pWl_getD (by omega)]; exact hl) hbad (fun hd24 => x_wrapN (deep0 := deep) hmono hwl hel hes hbad hRd n 1 (deep + 1) (d - 1) (by omega) (by omega) (by omega) (by omega) (by omega)) ?_ ?_ ?_ ?_
    · intro S2 nd2 hF2 e2 k2 p2 g2 b2 c2 d2 S4 a4 y4 at4 nd4 hF4 e4 k4 t4 p4 g4 c4 S17 hF17 e17 j17 t17 p17 g17
      exact h _ _ (xEc.good (S' := S17) hF17 (zKE.tr (zKE.tr (zKE.tr (zKE.tr (zKE.tr (zKE.tr (zKE.tr (zKE.tr (zKE.tr zKE.rf (zKE.w k2 (show gN S ≤ gN S from by omega) (fun _ h => h) (fun _ h => h))) (zKE_sI (Or.inl (by decide)))) (zKE.w k4 (show gN S ≤ gN S2 from by omega) (fun _ h => h) (fun _ h => h))) (zKE_new (show gN S ≤ gN S4 ∧ gN S4 < zLB from ⟨by omega, by have hLB : zLB = 4294967296 := rfl; omega⟩))) (zKE_sP (Or.inr (Or.inr ⟨by omega, by have hLB : zLB = 4294967296 := rfl; omega⟩)))) (zKE_sI (Or.inr (Or.inr ⟨by omega, by have hLB : zLB = 4294967296 := rfl; omega⟩)))) (zKE_sI (Or.inr (Or.inr ⟨by omega, by have hLB : zLB = 4294967296 := rfl; omega⟩)))) (zKE_sP (Or.inr (Or.inr ⟨by omega, by have hLB : zLB = 4294967296 := rfl; omega⟩)))) (xJd.ke j17 ⟨by omega, by have hLB : zLB = 4294967296 := rfl; omega⟩)) t17 p17 (by omega) (eU.trans ((pb_ok e2).trans ((pb_ok e4).trans ((pb_ok e17).trans (rfl))))))
    · intro S2 nd2 hF2 e2 k2 p2 g2 b2 c2 d2 S4 a4 y4 at4 nd4 hF4 e4 k4 t4 p4 g4 c4 S18 q18 hF18 e18 k18 x18 g18
      exact h _ _ (xEc.err (S' := S18) hF18 (zKE.tr (zKE.tr (zKE.tr (zKE.tr (zKE.tr (zKE.tr (zKE.tr (zKE.tr (zKE.tr zKE.rf (zKE.w k2 (show gN S ≤ gN S from by omega) (fun _ h => h) (fun _ h => h))) (zKE_sI (Or.inl (by decide)))) (zKE.w k4 (show gN S ≤ gN S2 from by omega) (fun _ h => h) (fun _ h => h))) (zKE_new (show gN S ≤ gN S4 ∧ gN S4 < zLB from ⟨by omega, by have hLB : zLB = 4294967296 := rfl; omega⟩))) (zKE_sP (Or.inr (Or.inr ⟨by omega, by have hLB : zLB = 4294967296 := rfl; omega⟩)))) (zKE_sI (Or.inr (Or.inr ⟨by omega, by have hLB : zLB = 4294967296 := rfl; omega⟩)))) (zKE_sI (Or.inr (Or.inr ⟨by omega, by have hLB : zLB = 4294967296 := rfl; omega⟩)))) (zKE_sP (Or.inr (Or.inr ⟨by omega, by have hLB : zLB = 4294967296 := rfl; omega⟩)))) (xFn.ke k18 (show gN S ≤ gN S4 + 1 from by omega) ⟨by omega, by have hLB : zLB = 4294967296 := rfl; omega⟩)) x18 (by omega) (eU.trans ((pb_ok e2).trans ((pb_ok e4).trans (pb_er e18)))))
    · intro S2 nd2 hF2 e2 k2 p2 g2 b2 c2 d2 S5 q5 kk5 z5 hF5 e5 k5 x5 g5
      exact h _ _ (xEc.err (S' := S5) hF5 (zKE.tr (zKE.tr (zKE.tr zKE.rf (zKE.w k2 (show gN S ≤ gN S from by omega) (fun _ h => h) (fun _ h => h))) (zKE_sI (Or.inl (by decide)))) (zKE.w k5 (show gN S ≤ gN S2 from by omega) (fun _ h => h) (fun _ h => h))) x5 (by omega) (eU.trans ((pb_ok e2).trans (pb_er e5))))
    · intro S3 q3 hF3 e3 k3 x3 g3
      exact h _ _ (xEc.err (S' := S3) hF3 (zKE.tr zKE.rf (zKE.w k3 (show gN S ≤ gN S from by omega) (fun _ h => h) (fun _ h => h))) x3 (by omega) (eU.trans (pb_er e3)))
  · have eU : pWx tp sz rec (n + 1) (b) deep e0 nd = (do
          let rd1 ← pRead (b) deep nd false
          let q ← pWx tp sz rec n (b + 1) (deep + 1) e0 rd1
          let x ← pJ (tN 24 0 [] (b) [q.1])
          .ok (x, q.2.1, q.2.2)) := pWx_s (by rw [hl]; rfl)
    refine wrZ106 (rec := rec) (K := 0) (n := n) hF (by omega) b e0 wl deep hR h8.1 h8.2 h9.1 h9.2 hN (by omega) hnd hw hw.2.1 hwl hel hes (by omega) (by rw [pWl_getD (by omega)]; exact hl) hbad (fun hd24 => x_wrapN (deep0 := deep) hmono hwl hel hes hbad hRd n 1 (deep + 1) (d - 1) (by omega) (by omega) (by omega) (by omega) (by omega)) ?_ ?_ ?_ ?_
    · intro S2 nd2 hF2 e2 k2 p2 g2 b2 c2 d2 S4 a4 y4 at4 nd4 hF4 e4 k4 t4 p4 g4 c4 S17 hF17 e17 j17 t17 p17 g17
      exact h _ _ (xEc.good (S' := S17) hF17 (zKE.tr (zKE.tr (zKE.tr (zKE.tr (zKE.tr (zKE.tr (zKE.tr (zKE.tr (zKE.tr zKE.rf (zKE.w k2 (show gN S ≤ gN S from by omega) (fun _ h => h) (fun _ h => h))) (zKE_sI (Or.inl (by decide)))) (zKE.w k4 (show gN S ≤ gN S2 from by omega) (fun _ h => h) (fun _ h => h))) (zKE_new (show gN S ≤ gN S4 ∧ gN S4 < zLB from ⟨by omega, by have hLB : zLB = 4294967296 := rfl; omega⟩))) (zKE_sP (Or.inr (Or.inr ⟨by omega, by have hLB : zLB = 4294967296 := rfl; omega⟩)))) (zKE_sI (Or.inr (Or.inr ⟨by omega, by have hLB : zLB = 4294967296 := rfl; omega⟩)))) (zKE_sI (Or.inr (Or.inr ⟨by omega, by have hLB : zLB = 4294967296 := rfl; omega⟩)))) (zKE_sP (Or.inr (Or.inr ⟨by omega, by have hLB : zLB = 4294967296 := rfl; omega⟩)))) (xJd.ke j17 ⟨by omega, by have hLB : zLB = 4294967296 := rfl; omega⟩)) t17 p17 (by omega) (eU.trans ((pb_ok e2).trans ((pb_ok e4).trans ((pb_ok e17).trans (rfl))))))
    · intro S2 nd2 hF2 e2 k2 p2 g2 b2 c2 d2 S4 a4 y4 at4 nd4 hF4 e4 k4 t4 p4 g4 c4 S18 q18 hF18 e18 k18 x18 g18
      exact h _ _ (xEc.err (S' := S18) hF18 (zKE.tr (zKE.tr (zKE.tr (zKE.tr (zKE.tr (zKE.tr (zKE.tr (zKE.tr (zKE.tr zKE.rf (zKE.w k2 (show gN S ≤ gN S from by omega) (fun _ h => h) (fun _ h => h))) (zKE_sI (Or.inl (by decide)))) (zKE.w k4 (show gN S ≤ gN S2 from by omega) (fun _ h => h) (fun _ h => h))) (zKE_new (show gN S ≤ gN S4 ∧ gN S4 < zLB from ⟨by omega, by have hLB : zLB = 4294967296 := rfl; omega⟩))) (zKE_sP (Or.inr (Or.inr ⟨by omega, by have hLB : zLB = 4294967296 := rfl; omega⟩)))) (zKE_sI (Or.inr (Or.inr ⟨by omega, by have hLB : zLB = 4294967296 := rfl; omega⟩)))) (zKE_sI (Or.inr (Or.inr ⟨by omega, by have hLB : zLB = 4294967296 := rfl; omega⟩)))) (zKE_sP (Or.inr (Or.inr ⟨by omega, by have hLB : zLB = 4294967296 := rfl; omega⟩)))) (xFn.ke k18 (show gN S ≤ gN S4 + 1 from by omega) ⟨by omega, by have hLB : zLB = 4294967296 := rfl; omega⟩)) x18 (by omega) (eU.trans ((pb_ok e2).trans ((pb_ok e4).trans (pb_er e18)))))
    · intro S2 nd2 hF2 e2 k2 p2 g2 b2 c2 d2 S5 q5 kk5 z5 hF5 e5 k5 x5 g5
      exact h _ _ (xEc.err (S' := S5) hF5 (zKE.tr (zKE.tr (zKE.tr zKE.rf (zKE.w k2 (show gN S ≤ gN S from by omega) (fun _ h => h) (fun _ h => h))) (zKE_sI (Or.inl (by decide)))) (zKE.w k5 (show gN S ≤ gN S2 from by omega) (fun _ h => h) (fun _ h => h))) x5 (by omega) (eU.trans ((pb_ok e2).trans (pb_er e5))))
    · intro S3 q3 hF3 e3 k3 x3 g3
      exact h _ _ (xEc.err (S' := S3) hF3 (zKE.tr zKE.rf (zKE.w k3 (show gN S ≤ gN S from by omega) (fun _ h => h) (fun _ h => h))) x3 (by omega) (eU.trans (pb_er e3)))
  · have eU : pWx tp sz rec (n + 1) (b) deep e0 nd = (do
          let rd1 ← pRead (b) deep nd false
          let q ← pWx tp sz rec n (b + 1) (deep + 1) e0 rd1
          let x ← pJ (tN 25 0 [] (b) [q.1])
          .ok (x, q.2.1, q.2.2)) := pWx_s (by rw [hl]; rfl)
    refine wrZ110 (rec := rec) (K := 0) (n := n) hF (by omega) b e0 wl deep hR h8.1 h8.2 h9.1 h9.2 hN (by omega) hnd hw hw.2.1 hwl hel hes (by omega) (by rw [pWl_getD (by omega)]; exact hl) hbad (fun hd24 => x_wrapN (deep0 := deep) hmono hwl hel hes hbad hRd n 1 (deep + 1) (d - 1) (by omega) (by omega) (by omega) (by omega) (by omega)) ?_ ?_ ?_ ?_
    · intro S2 nd2 hF2 e2 k2 p2 g2 b2 c2 d2 S4 a4 y4 at4 nd4 hF4 e4 k4 t4 p4 g4 c4 S17 hF17 e17 j17 t17 p17 g17
      exact h _ _ (xEc.good (S' := S17) hF17 (zKE.tr (zKE.tr (zKE.tr (zKE.tr (zKE.tr (zKE.tr (zKE.tr (zKE.tr (zKE.tr zKE.rf (zKE.w k2 (show gN S ≤ gN S from by omega) (fun _ h => h) (fun _ h => h))) (zKE_sI (Or.inl (by decide)))) (zKE.w k4 (show gN S ≤ gN S2 from by omega) (fun _ h => h) (fun _ h => h))) (zKE_new (show gN S ≤ gN S4 ∧ gN S4 < zLB from ⟨by omega, by have hLB : zLB = 4294967296 := rfl; omega⟩))) (zKE_sP (Or.inr (Or.inr ⟨by omega, by have hLB : zLB = 4294967296 := rfl; omega⟩)))) (zKE_sI (Or.inr (Or.inr ⟨by omega, by have hLB : zLB = 4294967296 := rfl; omega⟩)))) (zKE_sI (Or.inr (Or.inr ⟨by omega, by have hLB : zLB = 4294967296 := rfl; omega⟩)))) (zKE_sP (Or.inr (Or.inr ⟨by omega, by have hLB : zLB = 4294967296 := rfl; omega⟩)))) (xJd.ke j17 ⟨by omega, by have hLB : zLB = 4294967296 := rfl; omega⟩)) t17 p17 (by omega) (eU.trans ((pb_ok e2).trans ((pb_ok e4).trans ((pb_ok e17).trans (rfl))))))
    · intro S2 nd2 hF2 e2 k2 p2 g2 b2 c2 d2 S4 a4 y4 at4 nd4 hF4 e4 k4 t4 p4 g4 c4 S18 q18 hF18 e18 k18 x18 g18
      exact h _ _ (xEc.err (S' := S18) hF18 (zKE.tr (zKE.tr (zKE.tr (zKE.tr (zKE.tr (zKE.tr (zKE.tr (zKE.tr (zKE.tr zKE.rf (zKE.w k2 (show gN S ≤ gN S from by omega) (fun _ h => h) (fun _ h => h))) (zKE_sI (Or.inl (by decide)))) (zKE.w k4 (show gN S ≤ gN S2 from by omega) (fun _ h => h) (fun _ h => h))) (zKE_new (show gN S ≤ gN S4 ∧ gN S4 < zLB from ⟨by omega, by have hLB : zLB = 4294967296 := rfl; omega⟩))) (zKE_sP (Or.inr (Or.inr ⟨by omega, by have hLB : zLB = 4294967296 := rfl; omega⟩)))) (zKE_sI (Or.inr (Or.inr ⟨by omega, by have hLB : zLB = 4294967296 := rfl; omega⟩)))) (zKE_sI (Or.inr (Or.inr ⟨by omega, by have hLB : zLB = 4294967296 := rfl; omega⟩)))) (zKE_sP (Or.inr (Or.inr ⟨by omega, by have hLB : zLB = 4294967296 := rfl; omega⟩)))) (xFn.ke k18 (show gN S ≤ gN S4 + 1 from by omega) ⟨by omega, by have hLB : zLB = 4294967296 := rfl; omega⟩)) x18 (by omega) (eU.trans ((pb_ok e2).trans ((pb_ok e4).trans (pb_er e18)))))
    · intro S2 nd2 hF2 e2 k2 p2 g2 b2 c2 d2 S5 q5 kk5 z5 hF5 e5 k5 x5 g5
      exact h _ _ (xEc.err (S' := S5) hF5 (zKE.tr (zKE.tr (zKE.tr zKE.rf (zKE.w k2 (show gN S ≤ gN S from by omega) (fun _ h => h) (fun _ h => h))) (zKE_sI (Or.inl (by decide)))) (zKE.w k5 (show gN S ≤ gN S2 from by omega) (fun _ h => h) (fun _ h => h))) x5 (by omega) (eU.trans ((pb_ok e2).trans (pb_er e5))))
    · intro S3 q3 hF3 e3 k3 x3 g3
      exact h _ _ (xEc.err (S' := S3) hF3 (zKE.tr zKE.rf (zKE.w k3 (show gN S ≤ gN S from by omega) (fun _ h => h) (fun _ h => h))) x3 (by omega) (eU.trans (pb_er e3)))
  · have eU : pWx tp sz rec (n + 1) (b) deep e0 nd = (do
          let rd1 ← pRead (b) deep nd true
          let q ← pWx tp sz rec n (b + 1) (deep + 1) e0 rd1
          let c ← pJ (tN 1 0 [] (b) [])
          let x ← pJ (tN 11 0 [] (b) [q.1, tN 1 0 [] (b) []])
          .ok (x, q.2.1, q.2.2)) := pWx_103 (by rw [hl]; rfl)
    refine wrZ116 (rec := rec) (K := 0) (n := n) hF (by omega) b e0 wl deep hR h8.1 h8.2 h9.1 h9.2 hN (by omega) hnd hw hw.2.1 hwl hel hes (by omega) (by rw [pWl_getD (by omega)]; exact hl) hbad (fun hd24 => x_wrapN (deep0 := deep) hmono hwl hel hes hbad hRd n 1 (deep + 1) (d - 1) (by omega) (by omega) (by omega) (by omega) (by omega)) ?_ ?_ ?_ ?_ ?_
    · intro S2 nd2 hF2 e2 k2 p2 g2 b2 c2 d2 S4 a4 y4 at4 nd4 hF4 e4 k4 t4 p4 g4 c4 S21 hF21 e21 j21 t21 p21 g21 S36 hF36 e36 j36 t36 p36 g36
      exact h _ _ (xEc.good (S' := S36) hF36 (zKE.tr (zKE.tr (zKE.tr (zKE.tr (zKE.tr (zKE.tr (zKE.tr (zKE.tr (zKE.tr (zKE.tr (zKE.tr (zKE.tr (zKE.tr (zKE.tr (zKE.tr zKE.rf (zKE.w k2 (show gN S ≤ gN S from by omega) (fun _ h => h) (fun _ h => h))) (zKE_sI (Or.inl (by decide)))) (zKE.w k4 (show gN S ≤ gN S2 from by omega) (fun _ h => h) (fun _ h => h))) (zKE_new (show gN S ≤ gN S4 ∧ gN S4 < zLB from ⟨by omega, by have hLB : zLB = 4294967296 := rfl; omega⟩))) (zKE_sP (Or.inr (Or.inr ⟨by omega, by have hLB : zLB = 4294967296 := rfl; omega⟩)))) (zKE_sI (Or.inr (Or.inr ⟨by omega, by have hLB : zLB = 4294967296 := rfl; omega⟩)))) (zKE_sI (Or.inr (Or.inr ⟨by omega, by have hLB : zLB = 4294967296 := rfl; omega⟩)))) (xJd.ke j21 ⟨by omega, by have hLB : zLB = 4294967296 := rfl; omega⟩)) (zKE_new (show gN S ≤ gN S21 ∧ gN S21 < zLB from ⟨by omega, by have hLB : zLB = 4294967296 := rfl; omega⟩))) (zKE_sP (Or.inr (Or.inr ⟨by omega, by have hLB : zLB = 4294967296 := rfl; omega⟩)))) (zKE_sI (Or.inr (Or.inr ⟨by omega, by have hLB : zLB = 4294967296 := rfl; omega⟩)))) (zKE_sI (Or.inr (Or.inr ⟨by omega, by have hLB : zLB = 4294967296 := rfl; omega⟩)))) (zKE_sP (Or.inr (Or.inr ⟨by omega, by have hLB : zLB = 4294967296 := rfl; omega⟩)))) (zKE_sP (Or.inr (Or.inr ⟨by omega, by have hLB : zLB = 4294967296 := rfl; omega⟩)))) (xJd.ke j36 ⟨by omega, by have hLB : zLB = 4294967296 := rfl; omega⟩)) t36 p36 (by omega) (eU.trans ((pb_ok e2).trans ((pb_ok e4).trans ((pb_ok e21).trans ((pb_ok e36).trans (rfl)))))))
    · intro S2 nd2 hF2 e2 k2 p2 g2 b2 c2 d2 S4 a4 y4 at4 nd4 hF4 e4 k4 t4 p4 g4 c4 S21 hF21 e21 j21 t21 p21 g21 S37 q37 hF37 e37 k37 x37 g37
      exact h _ _ (xEc.err (S' := S37) hF37 (zKE.tr (zKE.tr (zKE.tr (zKE.tr (zKE.tr (zKE.tr (zKE.tr (zKE.tr (zKE.tr (zKE.tr (zKE.tr (zKE.tr (zKE.tr (zKE.tr (zKE.tr zKE.rf (zKE.w k2 (show gN S ≤ gN S from by omega) (fun _ h => h) (fun _ h => h))) (zKE_sI (Or.inl (by decide)))) (zKE.w k4 (show gN S ≤ gN S2 from by omega) (fun _ h => h) (fun _ h => h))) (zKE_new (show gN S ≤ gN S4 ∧ gN S4 < zLB from ⟨by omega, by have hLB : zLB = 4294967296 := rfl; omega⟩))) (zKE_sP (Or.inr (Or.inr ⟨by omega, by have hLB : zLB = 4294967296 := rfl; omega⟩)))) (zKE_sI (Or.inr (Or.inr ⟨by omega, by have hLB : zLB = 4294967296 := rfl; omega⟩)))) (zKE_sI (Or.inr (Or.inr ⟨by omega, by have hLB : zLB = 4294967296 := rfl; omega⟩)))) (xJd.ke j21 ⟨by omega, by have hLB : zLB = 4294967296 := rfl; omega⟩)) (zKE_new (show gN S ≤ gN S21 ∧ gN S21 < zLB from ⟨by omega, by have hLB : zLB = 4294967296 := rfl; omega⟩))) (zKE_sP (Or.inr (Or.inr ⟨by omega, by have hLB : zLB = 4294967296 := rfl; omega⟩)))) (zKE_sI (Or.inr (Or.inr ⟨by omega, by have hLB : zLB = 4294967296 := rfl; omega⟩)))) (zKE_sI (Or.inr (Or.inr ⟨by omega, by have hLB : zLB = 4294967296 := rfl; omega⟩)))) (zKE_sP (Or.inr (Or.inr ⟨by omega, by have hLB : zLB = 4294967296 := rfl; omega⟩)))) (zKE_sP (Or.inr (Or.inr ⟨by omega, by have hLB : zLB = 4294967296 := rfl; omega⟩)))) (xFn.ke k37 (show gN S ≤ gN S21 + 1 from by omega) ⟨by omega, by have hLB : zLB = 4294967296 := rfl; omega⟩)) x37 (by omega) (eU.trans ((pb_ok e2).trans ((pb_ok e4).trans ((pb_ok e21).trans (pb_er e37))))))
    · intro S2 nd2 hF2 e2 k2 p2 g2 b2 c2 d2 S4 a4 y4 at4 nd4 hF4 e4 k4 t4 p4 g4 c4 S22 q22 hF22 e22 k22 x22 g22
      exact h _ _ (xEc.err (S' := S22) hF22 (zKE.tr (zKE.tr (zKE.tr (zKE.tr (zKE.tr (zKE.tr (zKE.tr (zKE.tr zKE.rf (zKE.w k2 (show gN S ≤ gN S from by omega) (fun _ h => h) (fun _ h => h))) (zKE_sI (Or.inl (by decide)))) (zKE.w k4 (show gN S ≤ gN S2 from by omega) (fun _ h => h) (fun _ h => h))) (zKE_new (show gN S ≤ gN S4 ∧ gN S4 < zLB from ⟨by omega, by have hLB : zLB = 4294967296 := rfl; omega⟩))) (zKE_sP (Or.inr (Or.inr ⟨by omega, by have hLB : zLB = 4294967296 := rfl; omega⟩)))) (zKE_sI (Or.inr (Or.inr ⟨by omega, by have hLB : zLB = 4294967296 := rfl; omega⟩)))) (zKE_sI (Or.inr (Or.inr ⟨by omega, by have hLB : zLB = 4294967296 := rfl; omega⟩)))) (xFn.ke k22 (show gN S ≤ gN S4 + 1 from by omega) ⟨by omega, by have hLB : zLB = 4294967296 := rfl; omega⟩)) x22 (by omega) (eU.trans ((pb_ok e2).trans ((pb_ok e4).trans (pb_er e22)))))
    · intro S2 nd2 hF2 e2 k2 p2 g2 b2 c2 d2 S5 q5 kk5 z5 hF5 e5 k5 x5 g5
      exact h _ _ (xEc.err (S' := S5) hF5 (zKE.tr (zKE.tr (zKE.tr zKE.rf (zKE.w k2 (show gN S ≤ gN S from by omega) (fun _ h => h) (fun _ h => h))) (zKE_sI (Or.inl (by decide)))) (zKE.w k5 (show gN S ≤ gN S2 from by omega) (fun _ h => h) (fun _ h => h))) x5 (by omega) (eU.trans ((pb_ok e2).trans (pb_er e5))))
    · intro S3 q3 hF3 e3 k3 x3 g3
      exact h _ _ (xEc.err (S' := S3) hF3 (zKE.tr zKE.rf (zKE.w k3 (show gN S ≤ gN S from by omega) (fun _ h => h) (fun _ h => h))) x3 (by omega) (eU.trans (pb_er e3)))
  · have eU : pWx tp sz rec (n + 1) (b) deep e0 nd = (do
          let rd1 ← pRead (b) deep nd true
          let q ← pWx tp sz rec n (b + 1) (deep + 1) e0 rd1
          let c ← pJ (tN 0 0 [] (b) [])
          let x ← pJ (tN 16 0 [] (b) [tN 0 0 [] (b) [], q.1])
          .ok (x, q.2.1, q.2.2)) := pWx_104 (by rw [hl]; rfl)
    refine wrZ108 (rec := rec) (K := 0) (n := n) hF (by omega) b e0 wl deep hR h8.1 h8.2 h9.1 h9.2 hN (by omega) hnd hw hw.2.1 hwl hel hes (by omega) (by rw [pWl_getD (by omega)]; exact hl) hbad (fun hd24 => x_wrapN (deep0 := deep) hmono hwl hel hes hbad hRd n 1 (deep + 1) (d - 1) (by omega) (by omega) (by omega) (by omega) (by omega)) ?_ ?_ ?_ ?_ ?_
    · intro S2 nd2 hF2 e2 k2 p2 g2 b2 c2 d2 S4 a4 y4 at4 nd4 hF4 e4 k4 t4 p4 g4 c4 S21 hF21 e21 j21 t21 p21 g21 S36 hF36 e36 j36 t36 p36 g36
      exact h _ _ (xEc.good (S' := S36) hF36 (zKE.tr (zKE.tr (zKE.tr (zKE.tr (zKE.tr (zKE.tr (zKE.tr (zKE.tr (zKE.tr (zKE.tr (zKE.tr (zKE.tr (zKE.tr (zKE.tr (zKE.tr zKE.rf (zKE.w k2 (show gN S ≤ gN S from by omega) (fun _ h => h) (fun _ h => h))) (zKE_sI (Or.inl (by decide)))) (zKE.w k4 (show gN S ≤ gN S2 from by omega) (fun _ h => h) (fun _ h => h))) (zKE_new (show gN S ≤ gN S4 ∧ gN S4 < zLB from ⟨by omega, by have hLB : zLB = 4294967296 := rfl; omega⟩))) (zKE_sP (Or.inr (Or.inr ⟨by omega, by have hLB : zLB = 4294967296 := rfl; omega⟩)))) (zKE_sI (Or.inr (Or.inr ⟨by omega, by have hLB : zLB = 4294967296 := rfl; omega⟩)))) (zKE_sI (Or.inr (Or.inr ⟨by omega, by have hLB : zLB = 4294967296 := rfl; omega⟩)))) (xJd.ke j21 ⟨by omega, by have hLB : zLB = 4294967296 := rfl; omega⟩)) (zKE_new (show gN S ≤ gN S21 ∧ gN S21 < zLB from ⟨by omega, by have hLB : zLB = 4294967296 := rfl; omega⟩))) (zKE_sP (Or.inr (Or.inr ⟨by omega, by have hLB : zLB = 4294967296 := rfl; omega⟩)))) (zKE_sI (Or.inr (Or.inr ⟨by omega, by have hLB : zLB = 4294967296 := rfl; omega⟩)))) (zKE_sI (Or.inr (Or.inr ⟨by omega, by have hLB : zLB = 4294967296 := rfl; omega⟩)))) (zKE_sP (Or.inr (Or.inr ⟨by omega, by have hLB : zLB = 4294967296 := rfl; omega⟩)))) (zKE_sP (Or.inr (Or.inr ⟨by omega, by have hLB : zLB = 4294967296 := rfl; omega⟩)))) (xJd.ke j36 ⟨by omega, by have hLB : zLB = 4294967296 := rfl; omega⟩)) t36 p36 (by omega) (eU.trans ((pb_ok e2).trans ((pb_ok e4).trans ((pb_ok e21).trans ((pb_ok e36).trans (rfl)))))))
    · intro S2 nd2 hF2 e2 k2 p2 g2 b2 c2 d2 S4 a4 y4 at4 nd4 hF4 e4 k4 t4 p4 g4 c4 S21 hF21 e21 j21 t21 p21 g21 S37 q37 hF37 e37 k37 x37 g37
      exact h _ _ (xEc.err (S' := S37) hF37 (zKE.tr (zKE.tr (zKE.tr (zKE.tr (zKE.tr (zKE.tr (zKE.tr (zKE.tr (zKE.tr (zKE.tr (zKE.tr (zKE.tr (zKE.tr (zKE.tr (zKE.tr zKE.rf (zKE.w k2 (show gN S ≤ gN S from by omega) (fun _ h => h) (fun _ h => h))) (zKE_sI (Or.inl (by decide)))) (zKE.w k4 (show gN S ≤ gN S2 from by omega) (fun _ h => h) (fun _ h => h))) (zKE_new (show gN S ≤ gN S4 ∧ gN S4 < zLB from ⟨by omega, by have hLB : zLB = 4294967296 := rfl; omega⟩))) (zKE_sP (Or.inr (Or.inr ⟨by omega, by have hLB : zLB = 4294967296 := rfl; omega⟩)))) (zKE_sI (Or.inr (Or.inr ⟨by omega, by have hLB : zLB = 4294967296 := rfl; omega⟩)))) (zKE_sI (Or.inr (Or.inr ⟨by omega, by have hLB : zLB = 4294967296 := rfl; omega⟩)))) (xJd.ke j21 ⟨by omega, by have hLB : zLB = 4294967296 := rfl; omega⟩)) (zKE_new (show gN S ≤ gN S21 ∧ gN S21 < zLB from ⟨by omega, by have hLB : zLB = 4294967296 := rfl; omega⟩))) (zKE_sP (Or.inr (Or.inr ⟨by omega, by have hLB : zLB = 4294967296 := rfl; omega⟩)))) (zKE_sI (Or.inr (Or.inr ⟨by omega, by have hLB : zLB = 4294967296 := rfl; omega⟩)))) (zKE_sI (Or.inr (Or.inr ⟨by omega, by have hLB : zLB = 4294967296 := rfl; omega⟩)))) (zKE_sP (Or.inr (Or.inr ⟨by omega, by have hLB : zLB = 4294967296 := rfl; omega⟩)))) (zKE_sP (Or.inr (Or.inr ⟨by omega, by have hLB : zLB = 4294967296 := rfl; omega⟩)))) (xFn.ke k37 (show gN S ≤ gN S21 + 1 from by omega) ⟨by omega, by have hLB : zLB = 4294967296 := rfl; omega⟩)) x37 (by omega) (eU.trans ((pb_ok e2).trans ((pb_ok e4).trans ((pb_ok e21).trans (pb_er e37))))))
    · intro S2 nd2 hF2 e2 k2 p2 g2 b2 c2 d2 S4 a4 y4 at4 nd4 hF4 e4 k4 t4 p4 g4 c4 S22 q22 hF22 e22 k22 x22 g22
      exact h _ _ (xEc.err (S' := S22) hF22 (zKE.tr (zKE.tr (zKE.tr (zKE.tr (zKE.tr (zKE.tr (zKE.tr (zKE.tr zKE.rf (zKE.w k2 (show gN S ≤ gN S from by omega) (fun _ h => h) (fun _ h => h))) (zKE_sI (Or.inl (by decide)))) (zKE.w k4 (show gN S ≤ gN S2 from by omega) (fun _ h => h) (fun _ h => h))) (zKE_new (show gN S ≤ gN S4 ∧ gN S4 < zLB from ⟨by omega, by have hLB : zLB = 4294967296 := rfl; omega⟩))) (zKE_sP (Or.inr (Or.inr ⟨by omega, by have hLB : zLB = 4294967296 := rfl; omega⟩)))) (zKE_sI (Or.inr (Or.inr ⟨by omega, by have hLB : zLB = 4294967296 := rfl; omega⟩)))) (zKE_sI (Or.inr (Or.inr ⟨by omega, by have hLB : zLB = 4294967296 := rfl; omega⟩)))) (xFn.ke k22 (show gN S ≤ gN S4 + 1 from by omega) ⟨by omega, by have hLB : zLB = 4294967296 := rfl; omega⟩)) x22 (by omega) (eU.trans ((pb_ok e2).trans ((pb_ok e4).trans (pb_er e22)))))
    · intro S2 nd2 hF2 e2 k2 p2 g2 b2 c2 d2 S5 q5 kk5 z5 hF5 e5 k5 x5 g5
      exact h _ _ (xEc.err (S' := S5) hF5 (zKE.tr (zKE.tr (zKE.tr zKE.rf (zKE.w k2 (show gN S ≤ gN S from by omega) (fun _ h => h) (fun _ h => h))) (zKE_sI (Or.inl (by decide)))) (zKE.w k5 (show gN S ≤ gN S2 from by omega) (fun _ h => h) (fun _ h => h))) x5 (by omega) (eU.trans ((pb_ok e2).trans (pb_er e5))))
    · intro S3 q3 hF3 e3 k3 x3 g3
      exact h _ _ (xEc.err (S' := S3) hF3 (zKE.tr zKE.rf (zKE.w k3 (show gN S ≤ gN S from by omega) (fun _ h => h) (fun _ h => h))) x3 (by omega) (eU.trans (pb_er e3)))
  · have eU : pWx tp sz rec (n + 1) (b) deep e0 nd = (do
          let rd1 ← pRead (b) deep nd true
          let q ← pWx tp sz rec n (b + 1) (deep + 1) e0 rd1
          let c ← pJ (tN 0 0 [] (b) [])
          let x ← pJ (tN 16 0 [] (b) [q.1, tN 0 0 [] (b) []])
          .ok (x, q.2.1, q.2.2)) := pWx_105 (by rw [hl]; rfl)
    refine wrZ117 (rec := rec) (K := 0) (n := n) hF (by omega) b e0 wl deep hR h8.1 h8.2 h9.1 h9.2 hN (by omega) hnd hw hw.2.1 hwl hel hes (by omega) (by rw [pWl_getD (by omega)]; exact hl) hbad (fun hd24 => x_wrapN (deep0 := deep) hmono hwl hel hes hbad hRd n 1 (deep + 1) (d - 1) (by omega) (by omega) (by omega) (by omega) (by omega)) ?_ ?_ ?_ ?_ ?_
    · intro S2 nd2 hF2 e2 k2 p2 g2 b2 c2 d2 S4 a4 y4 at4 nd4 hF4 e4 k4 t4 p4 g4 c4 S21 hF21 e21 j21 t21 p21 g21 S36 hF36 e36 j36 t36 p36 g36
      exact h _ _ (xEc.good (S' := S36) hF36 (zKE.tr (zKE.tr (zKE.tr (zKE.tr (zKE.tr (zKE.tr (zKE.tr (zKE.tr (zKE.tr (zKE.tr (zKE.tr (zKE.tr (zKE.tr (zKE.tr (zKE.tr zKE.rf (zKE.w k2 (show gN S ≤ gN S from by omega) (fun _ h => h) (fun _ h => h))) (zKE_sI (Or.inl (by decide)))) (zKE.w k4 (show gN S ≤ gN S2 from by omega) (fun _ h => h) (fun _ h => h))) (zKE_new (show gN S ≤ gN S4 ∧ gN S4 < zLB from ⟨by omega, by have hLB : zLB = 4294967296 := rfl; omega⟩))) (zKE_sP (Or.inr (Or.inr ⟨by omega, by have hLB : zLB = 4294967296 := rfl; omega⟩)))) (zKE_sI (Or.inr (Or.inr ⟨by omega, by have hLB : zLB = 4294967296 := rfl; omega⟩)))) (zKE_sI (Or.inr (Or.inr ⟨by omega, by have hLB : zLB = 4294967296 := rfl; omega⟩)))) (xJd.ke j21 ⟨by omega, by have hLB : zLB = 4294967296 := rfl; omega⟩)) (zKE_new (show gN S ≤ gN S21 ∧ gN S21 < zLB from ⟨by omega, by have hLB : zLB = 4294967296 := rfl; omega⟩))) (zKE_sP (Or.inr (Or.inr ⟨by omega, by have hLB : zLB = 4294967296 := rfl; omega⟩)))) (zKE_sI (Or.inr (Or.inr ⟨by omega, by have hLB : zLB = 4294967296 := rfl; omega⟩)))) (zKE_sI (Or.inr (Or.inr ⟨by omega, by have hLB : zLB = 4294967296 := rfl; omega⟩)))) (zKE_sP (Or.inr (Or.inr ⟨by omega, by have hLB : zLB = 4294967296 := rfl; omega⟩)))) (zKE_sP (Or.inr (Or.inr ⟨by omega, by have hLB : zLB = 4294967296 := rfl; omega⟩)))) (xJd.ke j36 ⟨by omega, by have hLB : zLB = 4294967296 := rfl; omega⟩)) t36 p36 (by omega) (eU.trans ((pb_ok e2).trans ((pb_ok e4).trans ((pb_ok e21).trans ((pb_ok e36).trans (rfl)))))))
    · intro S2 nd2 hF2 e2 k2 p2 g2 b2 c2 d2 S4 a4 y4 at4 nd4 hF4 e4 k4 t4 p4 g4 c4 S21 hF21 e21 j21 t21 p21 g21 S37 q37 hF37 e37 k37 x37 g37
      exact h _ _ (xEc.err (S' := S37) hF37 (zKE.tr (zKE.tr (zKE.tr (zKE.tr (zKE.tr (zKE.tr (zKE.tr (zKE.tr (zKE.tr (zKE.tr (zKE.tr (zKE.tr (zKE.tr (zKE.tr (zKE.tr zKE.rf (zKE.w k2 (show gN S ≤ gN S from by omega) (fun _ h => h) (fun _ h => h))) (zKE_sI (Or.inl (by decide)))) (zKE.w k4 (show gN S ≤ gN S2 from by omega) (fun _ h => h) (fun _ h => h))) (zKE_new (show gN S ≤ gN S4 ∧ gN S4 < zLB from ⟨by omega, by have hLB : zLB = 4294967296 := rfl; omega⟩))) (zKE_sP (Or.inr (Or.inr ⟨by omega, by have hLB : zLB = 4294967296 := rfl; omega⟩)))) (zKE_sI (Or.inr (Or.inr ⟨by omega, by have hLB : zLB = 4294967296 := rfl; omega⟩)))) (zKE_sI (Or.inr (Or.inr ⟨by omega, by have hLB : zLB = 4294967296 := rfl; omega⟩)))) (xJd.ke j21 ⟨by omega, by have hLB : zLB = 4294967296 := rfl; omega⟩)) (zKE_new (show gN S ≤ gN S21 ∧ gN S21 < zLB from ⟨by omega, by have hLB : zLB = 4294967296 := rfl; omega⟩))) (zKE_sP (Or.inr (Or.inr ⟨by omega, by have hLB : zLB = 4294967296 := rfl; omega⟩)))) (zKE_sI (Or.inr (Or.inr ⟨by omega, by have hLB : zLB = 4294967296 := rfl; omega⟩)))) (zKE_sI (Or.inr (Or.inr ⟨by omega, by have hLB : zLB = 4294967296 := rfl; omega⟩)))) (zKE_sP (Or.inr (Or.inr ⟨by omega, by have hLB : zLB = 4294967296 := rfl; omega⟩)))) (zKE_sP (Or.inr (Or.inr ⟨by omega, by have hLB : zLB = 4294967296 := rfl; omega⟩)))) (xFn.ke k37 (show gN S ≤ gN S21 + 1 from by omega) ⟨by omega, by have hLB : zLB = 4294967296 := rfl; omega⟩)) x37 (by omega) (eU.trans ((pb_ok e2).trans ((pb_ok e4).trans ((pb_ok e21).trans (pb_er e37))))))
    · intro S2 nd2 hF2 e2 k2 p2 g2 b2 c2 d2 S4 a4 y4 at4 nd4 hF4 e4 k4 t4 p4 g4 c4 S22 q22 hF22 e22 k22 x22 g22
      exact h _ _ (xEc.err (S' := S22) hF22 (zKE.tr (zKE.tr (zKE.tr (zKE.tr (zKE.tr (zKE.tr (zKE.tr (zKE.tr zKE.rf (zKE.w k2 (show gN S ≤ gN S from by omega) (fun _ h => h) (fun _ h => h))) (zKE_sI (Or.inl (by decide)))) (zKE.w k4 (show gN S ≤ gN S2 from by omega) (fun _ h => h) (fun _ h => h))) (zKE_new (show gN S ≤ gN S4 ∧ gN S4 < zLB from ⟨by omega, by have hLB : zLB = 4294967296 := rfl; omega⟩))) (zKE_sP (Or.inr (Or.inr ⟨by omega, by have hLB : zLB = 4294967296 := rfl; omega⟩)))) (zKE_sI (Or.inr (Or.inr ⟨by omega, by have hLB : zLB = 4294967296 := rfl; omega⟩)))) (zKE_sI (Or.inr (Or.inr ⟨by omega, by have hLB : zLB = 4294967296 := rfl; omega⟩)))) (xFn.ke k22 (show gN S ≤ gN S4 + 1 from by omega) ⟨by omega, by have hLB : zLB = 4294967296 := rfl; omega⟩)) x22 (by omega) (eU.trans ((pb_ok e2).trans ((pb_ok e4).trans (pb_er e22)))))
    · intro S2 nd2 hF2 e2 k2 p2 g2 b2 c2 d2 S5 q5 kk5 z5 hF5 e5 k5 x5 g5
      exact h _ _ (xEc.err (S' := S5) hF5 (zKE.tr (zKE.tr (zKE.tr zKE.rf (zKE.w k2 (show gN S ≤ gN S from by omega) (fun _ h => h) (fun _ h => h))) (zKE_sI (Or.inl (by decide)))) (zKE.w k5 (show gN S ≤ gN S2 from by omega) (fun _ h => h) (fun _ h => h))) x5 (by omega) (eU.trans ((pb_ok e2).trans (pb_er e5))))
    · intro S3 q3 hF3 e3 k3 x3 g3
      exact h _ _ (xEc.err (S' := S3) hF3 (zKE.tr zKE.rf (zKE.w k3 (show gN S ≤ gN S from by omega) (fun _ h => h) (fun _ h => h))) x3 (by omega) (eU.trans (pb_er e3)))
theorem x_wrapped {S : zS} (hF : zFin true S) {deep : Nat} (hd : 10 * (26 - deep) + 76 ≤ d) {r b nd w wl : Nat} {rec : Nat → Nat → Nat → pE (zNd × Nat × Nat)} (hmono : pMono rec) (hR : xR tp sz S r b nd) (hnd : nd ≤ 80) (hN : gN S + 30 * (sz - b) ≤ 1700000) (hdp : deep ≤ 25) (hw : zDs S w (pWl tp b (b + wl))) (h1 : 1 ≤ wl) (hes : b + wl < sz) (hRd : ∀ dp d', deep < dp → dp ≤ 25 → 10 * (26 - dp) + 80 ≤ d' → xRd tp sz d' dp rec)
    (h : ∀ o S', xEc tp sz r S (gN S + 30 * (sz - (b + wl)) + 2 * wl) (gZ S + 150 * (sz - (b + wl)) + 60 * wl) (pXw tp sz rec wl b deep nd) o S' → post (o, S')) : zCall d 260 [.ref r, .ref w, .int 0, .int (Int32.ofNat deep)] S post := by
  have h8 := hR.2.2.2.1
  have h9 := hR.2.2.2.2.1
  have hwl : (pWl tp b (b + wl)).length = wl := by rw [pWl_len]; omega
  have hW := hw.wd
  cases hbad : pBad (pWl tp b (b + wl)) b with
  | ok u =>
    obtain ⟨n, hn⟩ : ∃ n, n + 1 = wl := ⟨wl - 1, by omega⟩
    refine x_wrap0 (n := n) hmono hwl rfl hes hbad hRd hn hdp hd hF hR hW hnd hN (fun o S' hh => h o S' ?_)
    have eX : pXw tp sz rec wl b deep nd = pWx tp sz rec (n + 1) b deep (b + wl) nd := by
      unfold pXw
      rw [hn]
      exact pb_ok hbad
    rw [eX]
    rw [show b + wl - b = wl from by omega] at hh
    exact hh
  | error z =>
    have h128 : tp b < 128 := by
      obtain ⟨v, q1, q2, q3, q4, q5, q6, q7, q8⟩ := hW.1
      exact q7 _ (pWl_mem (by omega) (by omega))
    have hz : z.1 = 1 := pBad_er hbad
    obtain ⟨z1, z2⟩ := z
    have hz : z1 = 1 := hz
    subst hz
    refine wrF hF (by omega) b (b + wl) wl (tp b) z2 deep hR h8.1 h8.2 h9.1 h9.2 hN (by omega) hnd hW hW.2.1 hwl rfl hes (by omega) (by rw [pWl_getD (by omega)]; rfl) h128 hbad (fun S9 q9 f9 k9 x9 g9 => ?_)
    exact h _ _ (xEc.err (S' := S9) f9 k9 x9 (by omega) (pb_er hbad))
end X26

