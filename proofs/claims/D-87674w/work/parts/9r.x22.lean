set_option maxRecDepth 100000
/-! ===== the house reads a word and what it begins: whole ===== -/
section X22
variable {d : Nat} {post : Outcome × zS → Prop} {tp : Nat → Nat} {sz : Nat}
theorem x_pk100 {rec : Nat → Nat → Nat → pE (zNd × Nat × Nat)} {at0 deep nd e : Nat} : pNm tp sz rec 100 at0 e deep nd = (do
      let rd1 ← pRead at0 deep nd true
      let w ← pW tp sz rec 2 at0 deep e rd1
      let x ← pJ (tN 21 0 [] at0 [w.1])
      .ok (x, w.2.1, w.2.2)) := by
  show (pRead at0 deep nd true >>= fun rd1 => (pWant tp sz 40 e >>= fun a => (pLet tp sz 65 80 a >>= fun q => pWant tp sz 41 q.2 >>= fun at1 => pJ (tN 2 q.1 [] at0 []) >>= fun x => pJ (tN 21 0 [] at0 [x]) >>= fun y => Except.ok (y, at1, rd1)))) = (pRead at0 deep nd true >>= fun rd1 => (pWant tp sz 40 e >>= fun a => (pLet tp sz 65 80 a >>= fun q => pWant tp sz 41 q.2 >>= fun at1 => pJ (tN 2 q.1 [] at0 []) >>= fun x => (Except.ok x >>= fun y => Except.ok (y, at1, rd1)))) >>= fun w => pJ (tN 21 0 [] at0 [w.1]) >>= fun x => Except.ok (x, w.2.1, w.2.2))
  cases pRead at0 deep nd true with
  | error z => rfl
  | ok rd1 =>
    show (pWant tp sz 40 e >>= fun a => (pLet tp sz 65 80 a >>= fun q => pWant tp sz 41 q.2 >>= fun at1 => pJ (tN 2 q.1 [] at0 []) >>= fun x => pJ (tN 21 0 [] at0 [x]) >>= fun y => Except.ok (y, at1, rd1))) = ((pWant tp sz 40 e >>= fun a => (pLet tp sz 65 80 a >>= fun q => pWant tp sz 41 q.2 >>= fun at1 => pJ (tN 2 q.1 [] at0 []) >>= fun x => (Except.ok x >>= fun y => Except.ok (y, at1, rd1)))) >>= fun w => pJ (tN 21 0 [] at0 [w.1]) >>= fun x => Except.ok (x, w.2.1, w.2.2))
    cases pWant tp sz 40 e with
    | error z => rfl
    | ok a =>
      show (pLet tp sz 65 80 a >>= fun q => pWant tp sz 41 q.2 >>= fun at1 => pJ (tN 2 q.1 [] at0 []) >>= fun x => pJ (tN 21 0 [] at0 [x]) >>= fun y => Except.ok (y, at1, rd1)) = ((pLet tp sz 65 80 a >>= fun q => pWant tp sz 41 q.2 >>= fun at1 => pJ (tN 2 q.1 [] at0 []) >>= fun x => (Except.ok x >>= fun y => Except.ok (y, at1, rd1))) >>= fun w => pJ (tN 21 0 [] at0 [w.1]) >>= fun x => Except.ok (x, w.2.1, w.2.2))
      cases pLet tp sz 65 80 a with
      | error z => rfl
      | ok q =>
        show (pWant tp sz 41 q.2 >>= fun at1 => pJ (tN 2 q.1 [] at0 []) >>= fun x => pJ (tN 21 0 [] at0 [x]) >>= fun y => Except.ok (y, at1, rd1)) = ((pWant tp sz 41 q.2 >>= fun at1 => pJ (tN 2 q.1 [] at0 []) >>= fun x => (Except.ok x >>= fun y => Except.ok (y, at1, rd1))) >>= fun w => pJ (tN 21 0 [] at0 [w.1]) >>= fun x => Except.ok (x, w.2.1, w.2.2))
        cases pWant tp sz 41 q.2 with
        | error z => rfl
        | ok at1 =>
          show (pJ (tN 2 q.1 [] at0 []) >>= fun x => pJ (tN 21 0 [] at0 [x]) >>= fun y => Except.ok (y, at1, rd1)) = ((pJ (tN 2 q.1 [] at0 []) >>= fun x => (Except.ok x >>= fun y => Except.ok (y, at1, rd1))) >>= fun w => pJ (tN 21 0 [] at0 [w.1]) >>= fun x => Except.ok (x, w.2.1, w.2.2))
          cases pJ (tN 2 q.1 [] at0 []) <;> rfl
theorem x_pk101 {rec : Nat → Nat → Nat → pE (zNd × Nat × Nat)} {at0 deep nd e : Nat} : pNm tp sz rec 101 at0 e deep nd = (do
      let rd1 ← pRead at0 deep nd true
      let w ← pW tp sz rec 3 at0 deep e rd1
      let x ← pJ (tN 21 0 [] at0 [w.1])
      .ok (x, w.2.1, w.2.2)) := by
  show (pRead at0 deep nd true >>= fun rd1 => (pWant tp sz 40 e >>= fun a => (pLet tp sz 65 80 a >>= fun q => pWant tp sz 41 q.2 >>= fun at1 => pJ (tN 3 q.1 [] at0 []) >>= fun x => pJ (tN 21 0 [] at0 [x]) >>= fun y => Except.ok (y, at1, rd1)))) = (pRead at0 deep nd true >>= fun rd1 => (pWant tp sz 40 e >>= fun a => (pLet tp sz 65 80 a >>= fun q => pWant tp sz 41 q.2 >>= fun at1 => pJ (tN 3 q.1 [] at0 []) >>= fun x => (Except.ok x >>= fun y => Except.ok (y, at1, rd1)))) >>= fun w => pJ (tN 21 0 [] at0 [w.1]) >>= fun x => Except.ok (x, w.2.1, w.2.2))
  cases pRead at0 deep nd true with
  | error z => rfl
  | ok rd1 =>
    show (pWant tp sz 40 e >>= fun a => (pLet tp sz 65 80 a >>= fun q => pWant tp sz 41 q.2 >>= fun at1 => pJ (tN 3 q.1 [] at0 []) >>= fun x => pJ (tN 21 0 [] at0 [x]) >>= fun y => Except.ok (y, at1, rd1))) = ((pWant tp sz 40 e >>= fun a => (pLet tp sz 65 80 a >>= fun q => pWant tp sz 41 q.2 >>= fun at1 => pJ (tN 3 q.1 [] at0 []) >>= fun x => (Except.ok x >>= fun y => Except.ok (y, at1, rd1)))) >>= fun w => pJ (tN 21 0 [] at0 [w.1]) >>= fun x => Except.ok (x, w.2.1, w.2.2))
    cases pWant tp sz 40 e with
    | error z => rfl
    | ok a =>
      show (pLet tp sz 65 80 a >>= fun q => pWant tp sz 41 q.2 >>= fun at1 => pJ (tN 3 q.1 [] at0 []) >>= fun x => pJ (tN 21 0 [] at0 [x]) >>= fun y => Except.ok (y, at1, rd1)) = ((pLet tp sz 65 80 a >>= fun q => pWant tp sz 41 q.2 >>= fun at1 => pJ (tN 3 q.1 [] at0 []) >>= fun x => (Except.ok x >>= fun y => Except.ok (y, at1, rd1))) >>= fun w => pJ (tN 21 0 [] at0 [w.1]) >>= fun x => Except.ok (x, w.2.1, w.2.2))
      cases pLet tp sz 65 80 a with
      | error z => rfl
      | ok q =>
        show (pWant tp sz 41 q.2 >>= fun at1 => pJ (tN 3 q.1 [] at0 []) >>= fun x => pJ (tN 21 0 [] at0 [x]) >>= fun y => Except.ok (y, at1, rd1)) = ((pWant tp sz 41 q.2 >>= fun at1 => pJ (tN 3 q.1 [] at0 []) >>= fun x => (Except.ok x >>= fun y => Except.ok (y, at1, rd1))) >>= fun w => pJ (tN 21 0 [] at0 [w.1]) >>= fun x => Except.ok (x, w.2.1, w.2.2))
        cases pWant tp sz 41 q.2 with
        | error z => rfl
        | ok at1 =>
          show (pJ (tN 3 q.1 [] at0 []) >>= fun x => pJ (tN 21 0 [] at0 [x]) >>= fun y => Except.ok (y, at1, rd1)) = ((pJ (tN 3 q.1 [] at0 []) >>= fun x => (Except.ok x >>= fun y => Except.ok (y, at1, rd1))) >>= fun w => pJ (tN 21 0 [] at0 [w.1]) >>= fun x => Except.ok (x, w.2.1, w.2.2))
          cases pJ (tN 3 q.1 [] at0 []) <;> rfl
theorem x_pl15 {S : zS} (hF : zFin true S) (hK2 : 13 ≤ d) {r at0 nd w deep K : Nat} {rec : Nat → Nat → Nat → pE (zNd × Nat × Nat)} (hK : K + 4 ≤ d) (hmono : pMono rec) (hR : xR tp sz S r at0 nd) (hnd : nd ≤ 80) (hN0 : gN S + 30 * (sz - at0) ≤ 1700000) (hdp : deep < 1000) (hRd : ∀ dp d', deep ≤ 24 → dp = deep + 1 → K ≤ d' → xRd tp sz d' dp rec) (hw : zDs S w (ztn 15)) (hwl : at0 + 1 ≤ sz)
    (h : ∀ o S', xEc tp sz r S (gN S + 30 * (sz - (at0 + 1)) + 2) (gZ S + 150 * (sz - (at0 + 1)) + 60) (pNm tp sz rec 0 at0 (at0 + 1) deep nd) o S' → post (o, S')) : zCall d 261 [.ref r, .ref w, .int (Int32.ofNat deep)] S post := by
  have h8 := hR.2.2.2.1
  have h9 := hR.2.2.2.2.1
  have eU : pNm tp sz rec 0 at0 (at0 + 1) deep nd = (do
      let rd1 ← pRead at0 deep nd false
      let x ← pJ (tN 0 0 [] at0 [])
      .ok (x, at0 + 1, rd1)) := rfl
  refine plw15 (K := K) (rec := rec) hF (by omega) deep hR h8.1 h8.2 h9.1 h9.2 hN0 hdp hnd (by omega) (by omega) hmono hRd hw hw.wd.2.1 hwl ?_ ?_ ?_
  · intro S1 hF1 k1 w1 p1 g1 S2 nd2 hF2 e2 k2 p2 g2 b2 c2 d2 S19 hF19 e19 j19 t19 p19 g19
    exact h _ _ (xEc.good (S' := S19) hF19 (zKE.tr (zKE.tr (zKE.tr (zKE.tr (zKE.tr (zKE.tr (zKE.tr (zKE.tr zKE.rf (zKE.w (xFw.fr k1) (show gN S ≤ gN S from by omega) (fun _ h => h) (fun _ h => h))) (zKE.w k2 (show gN S ≤ gN S1 from by omega) (fun _ h => h) (fun _ h => h))) (zKE_sI (Or.inl (by decide)))) (zKE_new (show gN S ≤ gN S2 ∧ gN S2 < zLB from ⟨by omega, by have hLB : zLB = 4294967296 := rfl; omega⟩))) (zKE_sP (Or.inr (Or.inr ⟨by omega, by have hLB : zLB = 4294967296 := rfl; omega⟩)))) (zKE_sI (Or.inr (Or.inr ⟨by omega, by have hLB : zLB = 4294967296 := rfl; omega⟩)))) (zKE_sI (Or.inr (Or.inr ⟨by omega, by have hLB : zLB = 4294967296 := rfl; omega⟩)))) (xJd.ke j19 ⟨by omega, by have hLB : zLB = 4294967296 := rfl; omega⟩)) t17 p19 (by omega) (eU.trans ((pb_ok e2).trans ((pb_ok e19).trans (rfl)))))
  · intro S1 hF1 k1 w1 p1 g1 S2 nd2 hF2 e2 k2 p2 g2 b2 c2 d2 S20 q20 hF20 e20 k20 x20 g20
    exact h _ _ (xEc.err (S' := S20) hF20 (zKE.tr (zKE.tr (zKE.tr (zKE.tr (zKE.tr (zKE.tr (zKE.tr (zKE.tr zKE.rf (zKE.w (xFw.fr k1) (show gN S ≤ gN S from by omega) (fun _ h => h) (fun _ h => h))) (zKE.w k2 (show gN S ≤ gN S1 from by omega) (fun _ h => h) (fun _ h => h))) (zKE_sI (Or.inl (by decide)))) (zKE_new (show gN S ≤ gN S2 ∧ gN S2 < zLB from ⟨by omega, by have hLB : zLB = 4294967296 := rfl; omega⟩))) (zKE_sP (Or.inr (Or.inr ⟨by omega, by have hLB : zLB = 4294967296 := rfl; omega⟩)))) (zKE_sI (Or.inr (Or.inr ⟨by omega, by have hLB : zLB = 4294967296 := rfl; omega⟩)))) (zKE_sI (Or.inr (Or.inr ⟨by omega, by have hLB : zLB = 4294967296 := rfl; omega⟩)))) (xFn.ke k20 (show gN S ≤ gN S2 + 1 from by omega) ⟨by omega, by have hLB : zLB = 4294967296 := rfl; omega⟩)) x20 (by omega) (eU.trans ((pb_ok e2).trans (pb_er e20))))
  · intro S1 hF1 k1 w1 p1 g1 S3 q3 hF3 e3 k3 x3 g3
    exact h _ _ (xEc.err (S' := S3) hF3 (zKE.tr (zKE.tr zKE.rf (zKE.w (xFw.fr k1) (show gN S ≤ gN S from by omega) (fun _ h => h) (fun _ h => h))) (zKE.w k3 (show gN S ≤ gN S1 from by omega) (fun _ h => h) (fun _ h => h))) x3 (by omega) (eU.trans (pb_er e3)))
theorem x_pl16 {S : zS} (hF : zFin true S) (hK2 : 13 ≤ d) {r at0 nd w deep K : Nat} {rec : Nat → Nat → Nat → pE (zNd × Nat × Nat)} (hK : K + 4 ≤ d) (hmono : pMono rec) (hR : xR tp sz S r at0 nd) (hnd : nd ≤ 80) (hN0 : gN S + 30 * (sz - at0) ≤ 1700000) (hdp : deep < 1000) (hRd : ∀ dp d', deep ≤ 24 → dp = deep + 1 → K ≤ d' → xRd tp sz d' dp rec) (hw : zDs S w (ztn 16)) (hwl : at0 + 1 ≤ sz)
    (h : ∀ o S', xEc tp sz r S (gN S + 30 * (sz - (at0 + 1)) + 2) (gZ S + 150 * (sz - (at0 + 1)) + 60) (pNm tp sz rec 1 at0 (at0 + 1) deep nd) o S' → post (o, S')) : zCall d 261 [.ref r, .ref w, .int (Int32.ofNat deep)] S post := by
  have h8 := hR.2.2.2.1
  have h9 := hR.2.2.2.2.1
  have eU : pNm tp sz rec 1 at0 (at0 + 1) deep nd = (do
      let rd1 ← pRead at0 deep nd false
      let x ← pJ (tN 1 0 [] at0 [])
      .ok (x, at0 + 1, rd1)) := rfl
  refine plw16 (K := K) (rec := rec) hF (by omega) deep hR h8.1 h8.2 h9.1 h9.2 hN0 hdp hnd (by omega) (by omega) hmono hRd hw hw.wd.2.1 hwl ?_ ?_ ?_
  · intro S1 hF1 k1 w1 p1 g1 S2 nd2 hF2 e2 k2 p2 g2 b2 c2 d2 S19 hF19 e19 j19 t19 p19 g19
    exact h _ _ (xEc.good (S' := S19) hF19 (zKE.tr (zKE.tr (zKE.tr (zKE.tr (zKE.tr (zKE.tr (zKE.tr (zKE.tr zKE.rf (zKE.w (xFw.fr k1) (show gN S ≤ gN S from by omega) (fun _ h => h) (fun _ h => h))) (zKE.w k2 (show gN S ≤ gN S1 from by omega) (fun _ h => h) (fun _ h => h))) (zKE_sI (Or.inl (by decide)))) (zKE_new (show gN S ≤ gN S2 ∧ gN S2 < zLB from ⟨by omega, by have hLB : zLB = 4294967296 := rfl; omega⟩))) (zKE_sP (Or.inr (Or.inr ⟨by omega, by have hLB : zLB = 4294967296 := rfl; omega⟩)))) (zKE_sI (Or.inr (Or.inr ⟨by omega, by have hLB : zLB = 4294967296 := rfl; omega⟩)))) (zKE_sI (Or.inr (Or.inr ⟨by omega, by have hLB : zLB = 4294967296 := rfl; omega⟩)))) (xJd.ke j19 ⟨by omega, by have hLB : zLB = 4294967296 := rfl; omega⟩)) t17 p19 (by omega) (eU.trans ((pb_ok e2).trans ((pb_ok e19).trans (rfl)))))
  · intro S1 hF1 k1 w1 p1 g1 S2 nd2 hF2 e2 k2 p2 g2 b2 c2 d2 S20 q20 hF20 e20 k20 x20 g20
    exact h _ _ (xEc.err (S' := S20) hF20 (zKE.tr (zKE.tr (zKE.tr (zKE.tr (zKE.tr (zKE.tr (zKE.tr (zKE.tr zKE.rf (zKE.w (xFw.fr k1) (show gN S ≤ gN S from by omega) (fun _ h => h) (fun _ h => h))) (zKE.w k2 (show gN S ≤ gN S1 from by omega) (fun _ h => h) (fun _ h => h))) (zKE_sI (Or.inl (by decide)))) (zKE_new (show gN S ≤ gN S2 ∧ gN S2 < zLB from ⟨by omega, by have hLB : zLB = 4294967296 := rfl; omega⟩))) (zKE_sP (Or.inr (Or.inr ⟨by omega, by have hLB : zLB = 4294967296 := rfl; omega⟩)))) (zKE_sI (Or.inr (Or.inr ⟨by omega, by have hLB : zLB = 4294967296 := rfl; omega⟩)))) (zKE_sI (Or.inr (Or.inr ⟨by omega, by have hLB : zLB = 4294967296 := rfl; omega⟩)))) (xFn.ke k20 (show gN S ≤ gN S2 + 1 from by omega) ⟨by omega, by have hLB : zLB = 4294967296 := rfl; omega⟩)) x20 (by omega) (eU.trans ((pb_ok e2).trans (pb_er e20))))
  · intro S1 hF1 k1 w1 p1 g1 S3 q3 hF3 e3 k3 x3 g3
    exact h _ _ (xEc.err (S' := S3) hF3 (zKE.tr (zKE.tr zKE.rf (zKE.w (xFw.fr k1) (show gN S ≤ gN S from by omega) (fun _ h => h) (fun _ h => h))) (zKE.w k3 (show gN S ≤ gN S1 from by omega) (fun _ h => h) (fun _ h => h))) x3 (by omega) (eU.trans (pb_er e3)))
theorem x_pl18 {S : zS} (hF : zFin true S) (hK2 : 13 ≤ d) {r at0 nd w deep K : Nat} {rec : Nat → Nat → Nat → pE (zNd × Nat × Nat)} (hK : K + 4 ≤ d) (hmono : pMono rec) (hR : xR tp sz S r at0 nd) (hnd : nd ≤ 80) (hN0 : gN S + 30 * (sz - at0) ≤ 1700000) (hdp : deep < 1000) (hRd : ∀ dp d', deep ≤ 24 → dp = deep + 1 → K ≤ d' → xRd tp sz d' dp rec) (hw : zDs S w (ztn 18)) (hwl : at0 + 4 ≤ sz)
    (h : ∀ o S', xEc tp sz r S (gN S + 30 * (sz - (at0 + 4)) + 2) (gZ S + 150 * (sz - (at0 + 4)) + 60) (pNm tp sz rec 2 at0 (at0 + 4) deep nd) o S' → post (o, S')) : zCall d 261 [.ref r, .ref w, .int (Int32.ofNat deep)] S post := by
  have h8 := hR.2.2.2.1
  have h9 := hR.2.2.2.2.1
  have eU : pNm tp sz rec 2 at0 (at0 + 4) deep nd = (do
      let rd1 ← pRead at0 deep nd false
      pW tp sz rec 2 at0 deep (at0 + 4) rd1) := rfl
  refine plw18 (K := K) (rec := rec) hF (by omega) deep hR h8.1 h8.2 h9.1 h9.2 hN0 hdp hnd (by omega) (by omega) hmono hRd hw hw.wd.2.1 hwl ?_ ?_ ?_
  · intro S1 hF1 k1 w1 p1 g1 S2 nd2 hF2 e2 k2 p2 g2 b2 c2 d2 S4 a4 y4 at4 nd4 hF4 e4 k4 t4 p4 g4 c4
    exact h _ _ (xEc.good (S' := S4) hF4 (zKE.tr (zKE.tr (zKE.tr (zKE.tr zKE.rf (zKE.w (xFw.fr k1) (show gN S ≤ gN S from by omega) (fun _ h => h) (fun _ h => h))) (zKE.w k2 (show gN S ≤ gN S1 from by omega) (fun _ h => h) (fun _ h => h))) (zKE_sI (Or.inl (by decide)))) (zKE.w k4 (show gN S ≤ gN S2 from by omega) (fun _ h => h) (fun _ h => h))) t4 p4 (by omega) (eU.trans ((pb_ok e2).trans (e4))))
  · intro S1 hF1 k1 w1 p1 g1 S2 nd2 hF2 e2 k2 p2 g2 b2 c2 d2 S5 q5 kk5 z5 hF5 e5 k5 x5 g5
    exact h _ _ (xEc.err (S' := S5) hF5 (zKE.tr (zKE.tr (zKE.tr (zKE.tr zKE.rf (zKE.w (xFw.fr k1) (show gN S ≤ gN S from by omega) (fun _ h => h) (fun _ h => h))) (zKE.w k2 (show gN S ≤ gN S1 from by omega) (fun _ h => h) (fun _ h => h))) (zKE_sI (Or.inl (by decide)))) (zKE.w k5 (show gN S ≤ gN S2 from by omega) (fun _ h => h) (fun _ h => h))) x5 (by omega) (eU.trans ((pb_ok e2).trans (e5))))
  · intro S1 hF1 k1 w1 p1 g1 S3 q3 hF3 e3 k3 x3 g3
    exact h _ _ (xEc.err (S' := S3) hF3 (zKE.tr (zKE.tr zKE.rf (zKE.w (xFw.fr k1) (show gN S ≤ gN S from by omega) (fun _ h => h) (fun _ h => h))) (zKE.w k3 (show gN S ≤ gN S1 from by omega) (fun _ h => h) (fun _ h => h))) x3 (by omega) (eU.trans (pb_er e3)))
theorem x_pl19 {S : zS} (hF : zFin true S) (hK2 : 13 ≤ d) {r at0 nd w deep K : Nat} {rec : Nat → Nat → Nat → pE (zNd × Nat × Nat)} (hK : K + 4 ≤ d) (hmono : pMono rec) (hR : xR tp sz S r at0 nd) (hnd : nd ≤ 80) (hN0 : gN S + 30 * (sz - at0) ≤ 1700000) (hdp : deep < 1000) (hRd : ∀ dp d', deep ≤ 24 → dp = deep + 1 → K ≤ d' → xRd tp sz d' dp rec) (hw : zDs S w (ztn 19)) (hwl : at0 + 4 ≤ sz)
    (h : ∀ o S', xEc tp sz r S (gN S + 30 * (sz - (at0 + 4)) + 2) (gZ S + 150 * (sz - (at0 + 4)) + 60) (pNm tp sz rec 3 at0 (at0 + 4) deep nd) o S' → post (o, S')) : zCall d 261 [.ref r, .ref w, .int (Int32.ofNat deep)] S post := by
  have h8 := hR.2.2.2.1
  have h9 := hR.2.2.2.2.1
  have eU : pNm tp sz rec 3 at0 (at0 + 4) deep nd = (do
      let rd1 ← pRead at0 deep nd false
      pW tp sz rec 3 at0 deep (at0 + 4) rd1) := rfl
  refine plw19 (K := K) (rec := rec) hF (by omega) deep hR h8.1 h8.2 h9.1 h9.2 hN0 hdp hnd (by omega) (by omega) hmono hRd hw hw.wd.2.1 hwl ?_ ?_ ?_
  · intro S1 hF1 k1 w1 p1 g1 S2 nd2 hF2 e2 k2 p2 g2 b2 c2 d2 S4 a4 y4 at4 nd4 hF4 e4 k4 t4 p4 g4 c4
    exact h _ _ (xEc.good (S' := S4) hF4 (zKE.tr (zKE.tr (zKE.tr (zKE.tr zKE.rf (zKE.w (xFw.fr k1) (show gN S ≤ gN S from by omega) (fun _ h => h) (fun _ h => h))) (zKE.w k2 (show gN S ≤ gN S1 from by omega) (fun _ h => h) (fun _ h => h))) (zKE_sI (Or.inl (by decide)))) (zKE.w k4 (show gN S ≤ gN S2 from by omega) (fun _ h => h) (fun _ h => h))) t4 p4 (by omega) (eU.trans ((pb_ok e2).trans (e4))))
  · intro S1 hF1 k1 w1 p1 g1 S2 nd2 hF2 e2 k2 p2 g2 b2 c2 d2 S5 q5 kk5 z5 hF5 e5 k5 x5 g5
    exact h _ _ (xEc.err (S' := S5) hF5 (zKE.tr (zKE.tr (zKE.tr (zKE.tr zKE.rf (zKE.w (xFw.fr k1) (show gN S ≤ gN S from by omega) (fun _ h => h) (fun _ h => h))) (zKE.w k2 (show gN S ≤ gN S1 from by omega) (fun _ h => h) (fun _ h => h))) (zKE_sI (Or.inl (by decide)))) (zKE.w k5 (show gN S ≤ gN S2 from by omega) (fun _ h => h) (fun _ h => h))) x5 (by omega) (eU.trans ((pb_ok e2).trans (e5))))
  · intro S1 hF1 k1 w1 p1 g1 S3 q3 hF3 e3 k3 x3 g3
    exact h _ _ (xEc.err (S' := S3) hF3 (zKE.tr (zKE.tr zKE.rf (zKE.w (xFw.fr k1) (show gN S ≤ gN S from by omega) (fun _ h => h) (fun _ h => h))) (zKE.w k3 (show gN S ≤ gN S1 from by omega) (fun _ h => h) (fun _ h => h))) x3 (by omega) (eU.trans (pb_er e3)))
theorem x_pl6 {S : zS} (hF : zFin true S) (hK2 : 13 ≤ d) {r at0 nd w deep K : Nat} {rec : Nat → Nat → Nat → pE (zNd × Nat × Nat)} (hK : K + 4 ≤ d) (hmono : pMono rec) (hR : xR tp sz S r at0 nd) (hnd : nd ≤ 80) (hN0 : gN S + 30 * (sz - at0) ≤ 1700000) (hdp : deep < 1000) (hRd : ∀ dp d', deep ≤ 24 → dp = deep + 1 → K ≤ d' → xRd tp sz d' dp rec) (hw : zDs S w (ztn 6)) (hwl : at0 + 5 ≤ sz)
    (h : ∀ o S', xEc tp sz r S (gN S + 30 * (sz - (at0 + 5)) + 2) (gZ S + 150 * (sz - (at0 + 5)) + 60) (pNm tp sz rec 4 at0 (at0 + 5) deep nd) o S' → post (o, S')) : zCall d 261 [.ref r, .ref w, .int (Int32.ofNat deep)] S post := by
  have h8 := hR.2.2.2.1
  have h9 := hR.2.2.2.2.1
  have eU : pNm tp sz rec 4 at0 (at0 + 5) deep nd = (do
      let rd1 ← pRead at0 deep nd false
      pW tp sz rec 4 at0 deep (at0 + 5) rd1) := rfl
  refine plw6 (K := K) (rec := rec) hF (by omega) deep hR h8.1 h8.2 h9.1 h9.2 hN0 hdp hnd (by omega) (by omega) hmono hRd hw hw.wd.2.1 hwl ?_ ?_ ?_
  · intro S1 hF1 k1 w1 p1 g1 S2 nd2 hF2 e2 k2 p2 g2 b2 c2 d2 S4 a4 y4 at4 nd4 hF4 e4 k4 t4 p4 g4 c4
    exact h _ _ (xEc.good (S' := S4) hF4 (zKE.tr (zKE.tr (zKE.tr (zKE.tr zKE.rf (zKE.w (xFw.fr k1) (show gN S ≤ gN S from by omega) (fun _ h => h) (fun _ h => h))) (zKE.w k2 (show gN S ≤ gN S1 from by omega) (fun _ h => h) (fun _ h => h))) (zKE_sI (Or.inl (by decide)))) (zKE.w k4 (show gN S ≤ gN S2 from by omega) (fun _ h => h) (fun _ h => h))) t4 p4 (by omega) (eU.trans ((pb_ok e2).trans (e4))))
  · intro S1 hF1 k1 w1 p1 g1 S2 nd2 hF2 e2 k2 p2 g2 b2 c2 d2 S5 q5 kk5 z5 hF5 e5 k5 x5 g5
    exact h _ _ (xEc.err (S' := S5) hF5 (zKE.tr (zKE.tr (zKE.tr (zKE.tr zKE.rf (zKE.w (xFw.fr k1) (show gN S ≤ gN S from by omega) (fun _ h => h) (fun _ h => h))) (zKE.w k2 (show gN S ≤ gN S1 from by omega) (fun _ h => h) (fun _ h => h))) (zKE_sI (Or.inl (by decide)))) (zKE.w k5 (show gN S ≤ gN S2 from by omega) (fun _ h => h) (fun _ h => h))) x5 (by omega) (eU.trans ((pb_ok e2).trans (e5))))
  · intro S1 hF1 k1 w1 p1 g1 S3 q3 hF3 e3 k3 x3 g3
    exact h _ _ (xEc.err (S' := S3) hF3 (zKE.tr (zKE.tr zKE.rf (zKE.w (xFw.fr k1) (show gN S ≤ gN S from by omega) (fun _ h => h) (fun _ h => h))) (zKE.w k3 (show gN S ≤ gN S1 from by omega) (fun _ h => h) (fun _ h => h))) x3 (by omega) (eU.trans (pb_er e3)))
theorem x_pl7 {S : zS} (hF : zFin true S) (hK2 : 13 ≤ d) {r at0 nd w deep K : Nat} {rec : Nat → Nat → Nat → pE (zNd × Nat × Nat)} (hK : K + 4 ≤ d) (hmono : pMono rec) (hR : xR tp sz S r at0 nd) (hnd : nd ≤ 80) (hN0 : gN S + 30 * (sz - at0) ≤ 1700000) (hdp : deep < 1000) (hRd : ∀ dp d', deep ≤ 24 → dp = deep + 1 → K ≤ d' → xRd tp sz d' dp rec) (hw : zDs S w (ztn 7)) (hwl : at0 + 5 ≤ sz)
    (h : ∀ o S', xEc tp sz r S (gN S + 30 * (sz - (at0 + 5)) + 2) (gZ S + 150 * (sz - (at0 + 5)) + 60) (pNm tp sz rec 5 at0 (at0 + 5) deep nd) o S' → post (o, S')) : zCall d 261 [.ref r, .ref w, .int (Int32.ofNat deep)] S post := by
  have h8 := hR.2.2.2.1
  have h9 := hR.2.2.2.2.1
  have eU : pNm tp sz rec 5 at0 (at0 + 5) deep nd = (do
      let rd1 ← pRead at0 deep nd false
      pW tp sz rec 5 at0 deep (at0 + 5) rd1) := rfl
  refine plw7 (K := K) (rec := rec) hF (by omega) deep hR h8.1 h8.2 h9.1 h9.2 hN0 hdp hnd (by omega) (by omega) hmono hRd hw hw.wd.2.1 hwl ?_ ?_ ?_
  · intro S1 hF1 k1 w1 p1 g1 S2 nd2 hF2 e2 k2 p2 g2 b2 c2 d2 S4 a4 y4 at4 nd4 hF4 e4 k4 t4 p4 g4 c4
    exact h _ _ (xEc.good (S' := S4) hF4 (zKE.tr (zKE.tr (zKE.tr (zKE.tr zKE.rf (zKE.w (xFw.fr k1) (show gN S ≤ gN S from by omega) (fun _ h => h) (fun _ h => h))) (zKE.w k2 (show gN S ≤ gN S1 from by omega) (fun _ h => h) (fun _ h => h))) (zKE_sI (Or.inl (by decide)))) (zKE.w k4 (show gN S ≤ gN S2 from by omega) (fun _ h => h) (fun _ h => h))) t4 p4 (by omega) (eU.trans ((pb_ok e2).trans (e4))))
  · intro S1 hF1 k1 w1 p1 g1 S2 nd2 hF2 e2 k2 p2 g2 b2 c2 d2 S5 q5 kk5 z5 hF5 e5 k5 x5 g5
    exact h _ _ (xEc.err (S' := S5) hF5 (zKE.tr (zKE.tr (zKE.tr (zKE.tr zKE.rf (zKE.w (xFw.fr k1) (show gN S ≤ gN S from by omega) (fun _ h => h) (fun _ h => h))) (zKE.w k2 (show gN S ≤ gN S1 from by omega) (fun _ h => h) (fun _ h => h))) (zKE_sI (Or.inl (by decide)))) (zKE.w k5 (show gN S ≤ gN S2 from by omega) (fun _ h => h) (fun _ h => h))) x5 (by omega) (eU.trans ((pb_ok e2).trans (e5))))
  · intro S1 hF1 k1 w1 p1 g1 S3 q3 hF3 e3 k3 x3 g3
    exact h _ _ (xEc.err (S' := S3) hF3 (zKE.tr (zKE.tr zKE.rf (zKE.w (xFw.fr k1) (show gN S ≤ gN S from by omega) (fun _ h => h) (fun _ h => h))) (zKE.w k3 (show gN S ≤ gN S1 from by omega) (fun _ h => h) (fun _ h => h))) x3 (by omega) (eU.trans (pb_er e3)))
theorem x_pl11 {S : zS} (hF : zFin true S) (hK2 : 13 ≤ d) {r at0 nd w deep K : Nat} {rec : Nat → Nat → Nat → pE (zNd × Nat × Nat)} (hK : K + 4 ≤ d) (hmono : pMono rec) (hR : xR tp sz S r at0 nd) (hnd : nd ≤ 80) (hN0 : gN S + 30 * (sz - at0) ≤ 1700000) (hdp : deep < 1000) (hRd : ∀ dp d', deep ≤ 24 → dp = deep + 1 → K ≤ d' → xRd tp sz d' dp rec) (hw : zDs S w (ztn 11)) (hwl : at0 + 6 ≤ sz)
    (h : ∀ o S', xEc tp sz r S (gN S + 30 * (sz - (at0 + 6)) + 2) (gZ S + 150 * (sz - (at0 + 6)) + 60) (pNm tp sz rec 6 at0 (at0 + 6) deep nd) o S' → post (o, S')) : zCall d 261 [.ref r, .ref w, .int (Int32.ofNat deep)] S post := by
  have h8 := hR.2.2.2.1
  have h9 := hR.2.2.2.2.1
  have eU : pNm tp sz rec 6 at0 (at0 + 6) deep nd = pNm tp sz rec 6 at0 (at0 + 6) deep nd := rfl
  refine plw11 (K := K) (rec := rec) hF (by omega) deep hR h8.1 h8.2 h9.1 h9.2 hN0 hdp hnd (by omega) (by omega) hmono hRd hw hw.wd.2.1 hwl ?_ ?_
  · intro S1 hF1 k1 w1 p1 g1 S2 a2 y2 at2 nd2 hF2 e2 k2 t2 p2 g2 c2
    exact h _ _ (xEc.good (S' := S2) hF2 (zKE.tr (zKE.tr zKE.rf (zKE.w (xFw.fr k1) (show gN S ≤ gN S from by omega) (fun _ h => h) (fun _ h => h))) (zKE.w k2 (show gN S ≤ gN S1 from by omega) (fun _ h => h) (fun _ h => h))) t2 p2 (by omega) (eU.trans (e2)))
  · intro S1 hF1 k1 w1 p1 g1 S3 q3 kk3 z3 hF3 e3 k3 x3 g3
    exact h _ _ (xEc.err (S' := S3) hF3 (zKE.tr (zKE.tr zKE.rf (zKE.w (xFw.fr k1) (show gN S ≤ gN S from by omega) (fun _ h => h) (fun _ h => h))) (zKE.w k3 (show gN S ≤ gN S1 from by omega) (fun _ h => h) (fun _ h => h))) x3 (by omega) (eU.trans (e3)))
theorem x_pl12 {S : zS} (hF : zFin true S) (hK2 : 13 ≤ d) {r at0 nd w deep K : Nat} {rec : Nat → Nat → Nat → pE (zNd × Nat × Nat)} (hK : K + 4 ≤ d) (hmono : pMono rec) (hR : xR tp sz S r at0 nd) (hnd : nd ≤ 80) (hN0 : gN S + 30 * (sz - at0) ≤ 1700000) (hdp : deep < 1000) (hRd : ∀ dp d', deep ≤ 24 → dp = deep + 1 → K ≤ d' → xRd tp sz d' dp rec) (hw : zDs S w (ztn 12)) (hwl : at0 + 7 ≤ sz)
    (h : ∀ o S', xEc tp sz r S (gN S + 30 * (sz - (at0 + 7)) + 2) (gZ S + 150 * (sz - (at0 + 7)) + 60) (pNm tp sz rec 7 at0 (at0 + 7) deep nd) o S' → post (o, S')) : zCall d 261 [.ref r, .ref w, .int (Int32.ofNat deep)] S post := by
  have h8 := hR.2.2.2.1
  have h9 := hR.2.2.2.2.1
  have eU : pNm tp sz rec 7 at0 (at0 + 7) deep nd = pNm tp sz rec 7 at0 (at0 + 7) deep nd := rfl
  refine plw12 (K := K) (rec := rec) hF (by omega) deep hR h8.1 h8.2 h9.1 h9.2 hN0 hdp hnd (by omega) (by omega) hmono hRd hw hw.wd.2.1 hwl ?_ ?_
  · intro S1 hF1 k1 w1 p1 g1 S2 a2 y2 at2 nd2 hF2 e2 k2 t2 p2 g2 c2
    exact h _ _ (xEc.good (S' := S2) hF2 (zKE.tr (zKE.tr zKE.rf (zKE.w (xFw.fr k1) (show gN S ≤ gN S from by omega) (fun _ h => h) (fun _ h => h))) (zKE.w k2 (show gN S ≤ gN S1 from by omega) (fun _ h => h) (fun _ h => h))) t2 p2 (by omega) (eU.trans (e2)))
  · intro S1 hF1 k1 w1 p1 g1 S3 q3 kk3 z3 hF3 e3 k3 x3 g3
    exact h _ _ (xEc.err (S' := S3) hF3 (zKE.tr (zKE.tr zKE.rf (zKE.w (xFw.fr k1) (show gN S ≤ gN S from by omega) (fun _ h => h) (fun _ h => h))) (zKE.w k3 (show gN S ≤ gN S1 from by omega) (fun _ h => h) (fun _ h => h))) x3 (by omega) (eU.trans (e3)))
theorem x_pl13 {S : zS} (hF : zFin true S) (hK2 : 13 ≤ d) {r at0 nd w deep K : Nat} {rec : Nat → Nat → Nat → pE (zNd × Nat × Nat)} (hK : K + 4 ≤ d) (hmono : pMono rec) (hR : xR tp sz S r at0 nd) (hnd : nd ≤ 80) (hN0 : gN S + 30 * (sz - at0) ≤ 1700000) (hdp : deep < 1000) (hRd : ∀ dp d', deep ≤ 24 → dp = deep + 1 → K ≤ d' → xRd tp sz d' dp rec) (hw : zDs S w (ztn 13)) (hwl : at0 + 9 ≤ sz)
    (h : ∀ o S', xEc tp sz r S (gN S + 30 * (sz - (at0 + 9)) + 2) (gZ S + 150 * (sz - (at0 + 9)) + 60) (pNm tp sz rec 8 at0 (at0 + 9) deep nd) o S' → post (o, S')) : zCall d 261 [.ref r, .ref w, .int (Int32.ofNat deep)] S post := by
  have h8 := hR.2.2.2.1
  have h9 := hR.2.2.2.2.1
  have eU : pNm tp sz rec 8 at0 (at0 + 9) deep nd = pNm tp sz rec 8 at0 (at0 + 9) deep nd := rfl
  refine plw13 (K := K) (rec := rec) hF (by omega) deep hR h8.1 h8.2 h9.1 h9.2 hN0 hdp hnd (by omega) (by omega) hmono hRd hw hw.wd.2.1 hwl ?_ ?_
  · intro S1 hF1 k1 w1 p1 g1 S2 a2 y2 at2 nd2 hF2 e2 k2 t2 p2 g2 c2
    exact h _ _ (xEc.good (S' := S2) hF2 (zKE.tr (zKE.tr zKE.rf (zKE.w (xFw.fr k1) (show gN S ≤ gN S from by omega) (fun _ h => h) (fun _ h => h))) (zKE.w k2 (show gN S ≤ gN S1 from by omega) (fun _ h => h) (fun _ h => h))) t2 p2 (by omega) (eU.trans (e2)))
  · intro S1 hF1 k1 w1 p1 g1 S3 q3 kk3 z3 hF3 e3 k3 x3 g3
    exact h _ _ (xEc.err (S' := S3) hF3 (zKE.tr (zKE.tr zKE.rf (zKE.w (xFw.fr k1) (show gN S ≤ gN S from by omega) (fun _ h => h) (fun _ h => h))) (zKE.w k3 (show gN S ≤ gN S1 from by omega) (fun _ h => h) (fun _ h => h))) x3 (by omega) (eU.trans (e3)))
theorem x_pl14 {S : zS} (hF : zFin true S) (hK2 : 13 ≤ d) {r at0 nd w deep K : Nat} {rec : Nat → Nat → Nat → pE (zNd × Nat × Nat)} (hK : K + 4 ≤ d) (hmono : pMono rec) (hR : xR tp sz S r at0 nd) (hnd : nd ≤ 80) (hN0 : gN S + 30 * (sz - at0) ≤ 1700000) (hdp : deep < 1000) (hRd : ∀ dp d', deep ≤ 24 → dp = deep + 1 → K ≤ d' → xRd tp sz d' dp rec) (hw : zDs S w (ztn 14)) (hwl : at0 + 7 ≤ sz)
    (h : ∀ o S', xEc tp sz r S (gN S + 30 * (sz - (at0 + 7)) + 2) (gZ S + 150 * (sz - (at0 + 7)) + 60) (pNm tp sz rec 9 at0 (at0 + 7) deep nd) o S' → post (o, S')) : zCall d 261 [.ref r, .ref w, .int (Int32.ofNat deep)] S post := by
  have h8 := hR.2.2.2.1
  have h9 := hR.2.2.2.2.1
  have eU : pNm tp sz rec 9 at0 (at0 + 7) deep nd = pNm tp sz rec 9 at0 (at0 + 7) deep nd := rfl
  refine plw14 (K := K) (rec := rec) hF (by omega) deep hR h8.1 h8.2 h9.1 h9.2 hN0 hdp hnd (by omega) (by omega) hmono hRd hw hw.wd.2.1 hwl ?_ ?_
  · intro S1 hF1 k1 w1 p1 g1 S2 a2 y2 at2 nd2 hF2 e2 k2 t2 p2 g2 c2
    exact h _ _ (xEc.good (S' := S2) hF2 (zKE.tr (zKE.tr zKE.rf (zKE.w (xFw.fr k1) (show gN S ≤ gN S from by omega) (fun _ h => h) (fun _ h => h))) (zKE.w k2 (show gN S ≤ gN S1 from by omega) (fun _ h => h) (fun _ h => h))) t2 p2 (by omega) (eU.trans (e2)))
  · intro S1 hF1 k1 w1 p1 g1 S3 q3 kk3 z3 hF3 e3 k3 x3 g3
    exact h _ _ (xEc.err (S' := S3) hF3 (zKE.tr (zKE.tr zKE.rf (zKE.w (xFw.fr k1) (show gN S ≤ gN S from by omega) (fun _ h => h) (fun _ h => h))) (zKE.w k3 (show gN S ≤ gN S1 from by omega) (fun _ h => h) (fun _ h => h))) x3 (by omega) (eU.trans (e3)))
theorem x_pl21 {S : zS} (hF : zFin true S) (hK2 : 13 ≤ d) {r at0 nd w deep K : Nat} {rec : Nat → Nat → Nat → pE (zNd × Nat × Nat)} (hK : K + 4 ≤ d) (hmono : pMono rec) (hR : xR tp sz S r at0 nd) (hnd : nd ≤ 80) (hN0 : gN S + 30 * (sz - at0) ≤ 1700000) (hdp : deep < 1000) (hRd : ∀ dp d', deep ≤ 24 → dp = deep + 1 → K ≤ d' → xRd tp sz d' dp rec) (hw : zDs S w (ztn 21)) (hwl : at0 + 5 ≤ sz)
    (h : ∀ o S', xEc tp sz r S (gN S + 30 * (sz - (at0 + 5)) + 2) (gZ S + 150 * (sz - (at0 + 5)) + 60) (pNm tp sz rec 10 at0 (at0 + 5) deep nd) o S' → post (o, S')) : zCall d 261 [.ref r, .ref w, .int (Int32.ofNat deep)] S post := by
  have h8 := hR.2.2.2.1
  have h9 := hR.2.2.2.2.1
  have eU : pNm tp sz rec 10 at0 (at0 + 5) deep nd = (do
      let rd1 ← pRead at0 deep nd false
      pW tp sz rec 10 at0 deep (at0 + 5) rd1) := rfl
  refine plw21 (K := K) (rec := rec) hF (by omega) deep hR h8.1 h8.2 h9.1 h9.2 hN0 hdp hnd (by omega) (by omega) hmono hRd hw hw.wd.2.1 hwl ?_ ?_ ?_
  · intro S1 hF1 k1 w1 p1 g1 S2 nd2 hF2 e2 k2 p2 g2 b2 c2 d2 S4 a4 y4 at4 nd4 hF4 e4 k4 t4 p4 g4 c4
    exact h _ _ (xEc.good (S' := S4) hF4 (zKE.tr (zKE.tr (zKE.tr (zKE.tr zKE.rf (zKE.w (xFw.fr k1) (show gN S ≤ gN S from by omega) (fun _ h => h) (fun _ h => h))) (zKE.w k2 (show gN S ≤ gN S1 from by omega) (fun _ h => h) (fun _ h => h))) (zKE_sI (Or.inl (by decide)))) (zKE.w k4 (show gN S ≤ gN S2 from by omega) (fun _ h => h) (fun _ h => h))) t4 p4 (by omega) (eU.trans ((pb_ok e2).trans (e4))))
  · intro S1 hF1 k1 w1 p1 g1 S2 nd2 hF2 e2 k2 p2 g2 b2 c2 d2 S5 q5 kk5 z5 hF5 e5 k5 x5 g5
    exact h _ _ (xEc.err (S' := S5) hF5 (zKE.tr (zKE.tr (zKE.tr (zKE.tr zKE.rf (zKE.w (xFw.fr k1) (show gN S ≤ gN S from by omega) (fun _ h => h) (fun _ h => h))) (zKE.w k2 (show gN S ≤ gN S1 from by omega) (fun _ h => h) (fun _ h => h))) (zKE_sI (Or.inl (by decide)))) (zKE.w k5 (show gN S ≤ gN S2 from by omega) (fun _ h => h) (fun _ h => h))) x5 (by omega) (eU.trans ((pb_ok e2).trans (e5))))
  · intro S1 hF1 k1 w1 p1 g1 S3 q3 hF3 e3 k3 x3 g3
    exact h _ _ (xEc.err (S' := S3) hF3 (zKE.tr (zKE.tr zKE.rf (zKE.w (xFw.fr k1) (show gN S ≤ gN S from by omega) (fun _ h => h) (fun _ h => h))) (zKE.w k3 (show gN S ≤ gN S1 from by omega) (fun _ h => h) (fun _ h => h))) x3 (by omega) (eU.trans (pb_er e3)))
theorem x_pl23 {S : zS} (hF : zFin true S) (hK2 : 13 ≤ d) {r at0 nd w deep K : Nat} {rec : Nat → Nat → Nat → pE (zNd × Nat × Nat)} (hK : K + 4 ≤ d) (hmono : pMono rec) (hR : xR tp sz S r at0 nd) (hnd : nd ≤ 80) (hN0 : gN S + 30 * (sz - at0) ≤ 1700000) (hdp : deep < 1000) (hRd : ∀ dp d', deep ≤ 24 → dp = deep + 1 → K ≤ d' → xRd tp sz d' dp rec) (hw : zDs S w (ztn 23)) (hwl : at0 + 5 ≤ sz)
    (h : ∀ o S', xEc tp sz r S (gN S + 30 * (sz - (at0 + 5)) + 2) (gZ S + 150 * (sz - (at0 + 5)) + 60) (pNm tp sz rec 11 at0 (at0 + 5) deep nd) o S' → post (o, S')) : zCall d 261 [.ref r, .ref w, .int (Int32.ofNat deep)] S post := by
  have h8 := hR.2.2.2.1
  have h9 := hR.2.2.2.2.1
  have eU : pNm tp sz rec 11 at0 (at0 + 5) deep nd = pNm tp sz rec 11 at0 (at0 + 5) deep nd := rfl
  refine plw23 (K := K) (rec := rec) hF (by omega) deep hR h8.1 h8.2 h9.1 h9.2 hN0 hdp hnd (by omega) (by omega) hmono hRd hw hw.wd.2.1 hwl ?_ ?_
  · intro S1 hF1 k1 w1 p1 g1 S2 a2 y2 at2 nd2 hF2 e2 k2 t2 p2 g2 c2
    exact h _ _ (xEc.good (S' := S2) hF2 (zKE.tr (zKE.tr zKE.rf (zKE.w (xFw.fr k1) (show gN S ≤ gN S from by omega) (fun _ h => h) (fun _ h => h))) (zKE.w k2 (show gN S ≤ gN S1 from by omega) (fun _ h => h) (fun _ h => h))) t2 p2 (by omega) (eU.trans (e2)))
  · intro S1 hF1 k1 w1 p1 g1 S3 q3 kk3 z3 hF3 e3 k3 x3 g3
    exact h _ _ (xEc.err (S' := S3) hF3 (zKE.tr (zKE.tr zKE.rf (zKE.w (xFw.fr k1) (show gN S ≤ gN S from by omega) (fun _ h => h) (fun _ h => h))) (zKE.w k3 (show gN S ≤ gN S1 from by omega) (fun _ h => h) (fun _ h => h))) x3 (by omega) (eU.trans (e3)))
theorem x_pl24 {S : zS} (hF : zFin true S) (hK2 : 13 ≤ d) {r at0 nd w deep K : Nat} {rec : Nat → Nat → Nat → pE (zNd × Nat × Nat)} (hK : K + 4 ≤ d) (hmono : pMono rec) (hR : xR tp sz S r at0 nd) (hnd : nd ≤ 80) (hN0 : gN S + 30 * (sz - at0) ≤ 1700000) (hdp : deep < 1000) (hRd : ∀ dp d', deep ≤ 24 → dp = deep + 1 → K ≤ d' → xRd tp sz d' dp rec) (hw : zDs S w (ztn 24)) (hwl : at0 + 5 ≤ sz)
    (h : ∀ o S', xEc tp sz r S (gN S + 30 * (sz - (at0 + 5)) + 2) (gZ S + 150 * (sz - (at0 + 5)) + 60) (pNm tp sz rec 12 at0 (at0 + 5) deep nd) o S' → post (o, S')) : zCall d 261 [.ref r, .ref w, .int (Int32.ofNat deep)] S post := by
  have h8 := hR.2.2.2.1
  have h9 := hR.2.2.2.2.1
  have eU : pNm tp sz rec 12 at0 (at0 + 5) deep nd = pNm tp sz rec 12 at0 (at0 + 5) deep nd := rfl
  refine plw24 (K := K) (rec := rec) hF (by omega) deep hR h8.1 h8.2 h9.1 h9.2 hN0 hdp hnd (by omega) (by omega) hmono hRd hw hw.wd.2.1 hwl ?_ ?_
  · intro S1 hF1 k1 w1 p1 g1 S2 a2 y2 at2 nd2 hF2 e2 k2 t2 p2 g2 c2
    exact h _ _ (xEc.good (S' := S2) hF2 (zKE.tr (zKE.tr zKE.rf (zKE.w (xFw.fr k1) (show gN S ≤ gN S from by omega) (fun _ h => h) (fun _ h => h))) (zKE.w k2 (show gN S ≤ gN S1 from by omega) (fun _ h => h) (fun _ h => h))) t2 p2 (by omega) (eU.trans (e2)))
  · intro S1 hF1 k1 w1 p1 g1 S3 q3 kk3 z3 hF3 e3 k3 x3 g3
    exact h _ _ (xEc.err (S' := S3) hF3 (zKE.tr (zKE.tr zKE.rf (zKE.w (xFw.fr k1) (show gN S ≤ gN S from by omega) (fun _ h => h) (fun _ h => h))) (zKE.w k3 (show gN S ≤ gN S1 from by omega) (fun _ h => h) (fun _ h => h))) x3 (by omega) (eU.trans (e3)))
theorem x_pl25 {S : zS} (hF : zFin true S) (hK2 : 13 ≤ d) {r at0 nd w deep K : Nat} {rec : Nat → Nat → Nat → pE (zNd × Nat × Nat)} (hK : K + 4 ≤ d) (hmono : pMono rec) (hR : xR tp sz S r at0 nd) (hnd : nd ≤ 80) (hN0 : gN S + 30 * (sz - at0) ≤ 1700000) (hdp : deep < 1000) (hRd : ∀ dp d', deep ≤ 24 → dp = deep + 1 → K ≤ d' → xRd tp sz d' dp rec) (hw : zDs S w (ztn 25)) (hwl : at0 + 4 ≤ sz)
    (h : ∀ o S', xEc tp sz r S (gN S + 30 * (sz - (at0 + 4)) + 2) (gZ S + 150 * (sz - (at0 + 4)) + 60) (pNm tp sz rec 13 at0 (at0 + 4) deep nd) o S' → post (o, S')) : zCall d 261 [.ref r, .ref w, .int (Int32.ofNat deep)] S post := by
  have h8 := hR.2.2.2.1
  have h9 := hR.2.2.2.2.1
  have eU : pNm tp sz rec 13 at0 (at0 + 4) deep nd = pNm tp sz rec 13 at0 (at0 + 4) deep nd := rfl
  refine plw25 (K := K) (rec := rec) hF (by omega) deep hR h8.1 h8.2 h9.1 h9.2 hN0 hdp hnd (by omega) (by omega) hmono hRd hw hw.wd.2.1 hwl ?_ ?_
  · intro S1 hF1 k1 w1 p1 g1 S2 a2 y2 at2 nd2 hF2 e2 k2 t2 p2 g2 c2
    exact h _ _ (xEc.good (S' := S2) hF2 (zKE.tr (zKE.tr zKE.rf (zKE.w (xFw.fr k1) (show gN S ≤ gN S from by omega) (fun _ h => h) (fun _ h => h))) (zKE.w k2 (show gN S ≤ gN S1 from by omega) (fun _ h => h) (fun _ h => h))) t2 p2 (by omega) (eU.trans (e2)))
  · intro S1 hF1 k1 w1 p1 g1 S3 q3 kk3 z3 hF3 e3 k3 x3 g3
    exact h _ _ (xEc.err (S' := S3) hF3 (zKE.tr (zKE.tr zKE.rf (zKE.w (xFw.fr k1) (show gN S ≤ gN S from by omega) (fun _ h => h) (fun _ h => h))) (zKE.w k3 (show gN S ≤ gN S1 from by omega) (fun _ h => h) (fun _ h => h))) x3 (by omega) (eU.trans (e3)))
theorem x_pl26 {S : zS} (hF : zFin true S) (hK2 : 13 ≤ d) {r at0 nd w deep K : Nat} {rec : Nat → Nat → Nat → pE (zNd × Nat × Nat)} (hK : K + 4 ≤ d) (hmono : pMono rec) (hR : xR tp sz S r at0 nd) (hnd : nd ≤ 80) (hN0 : gN S + 30 * (sz - at0) ≤ 1700000) (hdp : deep < 1000) (hRd : ∀ dp d', deep ≤ 24 → dp = deep + 1 → K ≤ d' → xRd tp sz d' dp rec) (hw : zDs S w (ztn 26)) (hwl : at0 + 4 ≤ sz)
    (h : ∀ o S', xEc tp sz r S (gN S + 30 * (sz - (at0 + 4)) + 2) (gZ S + 150 * (sz - (at0 + 4)) + 60) (pNm tp sz rec 14 at0 (at0 + 4) deep nd) o S' → post (o, S')) : zCall d 261 [.ref r, .ref w, .int (Int32.ofNat deep)] S post := by
  have h8 := hR.2.2.2.1
  have h9 := hR.2.2.2.2.1
  have eU : pNm tp sz rec 14 at0 (at0 + 4) deep nd = pNm tp sz rec 14 at0 (at0 + 4) deep nd := rfl
  refine plw26 (K := K) (rec := rec) hF (by omega) deep hR h8.1 h8.2 h9.1 h9.2 hN0 hdp hnd (by omega) (by omega) hmono hRd hw hw.wd.2.1 hwl ?_ ?_
  · intro S1 hF1 k1 w1 p1 g1 S2 a2 y2 at2 nd2 hF2 e2 k2 t2 p2 g2 c2
    exact h _ _ (xEc.good (S' := S2) hF2 (zKE.tr (zKE.tr zKE.rf (zKE.w (xFw.fr k1) (show gN S ≤ gN S from by omega) (fun _ h => h) (fun _ h => h))) (zKE.w k2 (show gN S ≤ gN S1 from by omega) (fun _ h => h) (fun _ h => h))) t2 p2 (by omega) (eU.trans (e2)))
  · intro S1 hF1 k1 w1 p1 g1 S3 q3 kk3 z3 hF3 e3 k3 x3 g3
    exact h _ _ (xEc.err (S' := S3) hF3 (zKE.tr (zKE.tr zKE.rf (zKE.w (xFw.fr k1) (show gN S ≤ gN S from by omega) (fun _ h => h) (fun _ h => h))) (zKE.w k3 (show gN S ≤ gN S1 from by omega) (fun _ h => h) (fun _ h => h))) x3 (by omega) (eU.trans (e3)))
theorem x_pl27 {S : zS} (hF : zFin true S) (hK2 : 13 ≤ d) {r at0 nd w deep K : Nat} {rec : Nat → Nat → Nat → pE (zNd × Nat × Nat)} (hK : K + 4 ≤ d) (hmono : pMono rec) (hR : xR tp sz S r at0 nd) (hnd : nd ≤ 80) (hN0 : gN S + 30 * (sz - at0) ≤ 1700000) (hdp : deep < 1000) (hRd : ∀ dp d', deep ≤ 24 → dp = deep + 1 → K ≤ d' → xRd tp sz d' dp rec) (hw : zDs S w (ztn 27)) (hwl : at0 + 4 ≤ sz)
    (h : ∀ o S', xEc tp sz r S (gN S + 30 * (sz - (at0 + 4)) + 2) (gZ S + 150 * (sz - (at0 + 4)) + 60) (pNm tp sz rec 15 at0 (at0 + 4) deep nd) o S' → post (o, S')) : zCall d 261 [.ref r, .ref w, .int (Int32.ofNat deep)] S post := by
  have h8 := hR.2.2.2.1
  have h9 := hR.2.2.2.2.1
  have eU : pNm tp sz rec 15 at0 (at0 + 4) deep nd = pNm tp sz rec 15 at0 (at0 + 4) deep nd := rfl
  refine plw27 (K := K) (rec := rec) hF (by omega) deep hR h8.1 h8.2 h9.1 h9.2 hN0 hdp hnd (by omega) (by omega) hmono hRd hw hw.wd.2.1 hwl ?_ ?_
  · intro S1 hF1 k1 w1 p1 g1 S2 a2 y2 at2 nd2 hF2 e2 k2 t2 p2 g2 c2
    exact h _ _ (xEc.good (S' := S2) hF2 (zKE.tr (zKE.tr zKE.rf (zKE.w (xFw.fr k1) (show gN S ≤ gN S from by omega) (fun _ h => h) (fun _ h => h))) (zKE.w k2 (show gN S ≤ gN S1 from by omega) (fun _ h => h) (fun _ h => h))) t2 p2 (by omega) (eU.trans (e2)))
  · intro S1 hF1 k1 w1 p1 g1 S3 q3 kk3 z3 hF3 e3 k3 x3 g3
    exact h _ _ (xEc.err (S' := S3) hF3 (zKE.tr (zKE.tr zKE.rf (zKE.w (xFw.fr k1) (show gN S ≤ gN S from by omega) (fun _ h => h) (fun _ h => h))) (zKE.w k3 (show gN S ≤ gN S1 from by omega) (fun _ h => h) (fun _ h => h))) x3 (by omega) (eU.trans (e3)))
theorem x_pl28 {S : zS} (hF : zFin true S) (hK2 : 13 ≤ d) {r at0 nd w deep K : Nat} {rec : Nat → Nat → Nat → pE (zNd × Nat × Nat)} (hK : K + 4 ≤ d) (hmono : pMono rec) (hR : xR tp sz S r at0 nd) (hnd : nd ≤ 80) (hN0 : gN S + 30 * (sz - at0) ≤ 1700000) (hdp : deep < 1000) (hRd : ∀ dp d', deep ≤ 24 → dp = deep + 1 → K ≤ d' → xRd tp sz d' dp rec) (hw : zDs S w (ztn 28)) (hwl : at0 + 4 ≤ sz)
    (h : ∀ o S', xEc tp sz r S (gN S + 30 * (sz - (at0 + 4)) + 2) (gZ S + 150 * (sz - (at0 + 4)) + 60) (pNm tp sz rec 16 at0 (at0 + 4) deep nd) o S' → post (o, S')) : zCall d 261 [.ref r, .ref w, .int (Int32.ofNat deep)] S post := by
  have h8 := hR.2.2.2.1
  have h9 := hR.2.2.2.2.1
  have eU : pNm tp sz rec 16 at0 (at0 + 4) deep nd = pNm tp sz rec 16 at0 (at0 + 4) deep nd := rfl
  refine plw28 (K := K) (rec := rec) hF (by omega) deep hR h8.1 h8.2 h9.1 h9.2 hN0 hdp hnd (by omega) (by omega) hmono hRd hw hw.wd.2.1 hwl ?_ ?_
  · intro S1 hF1 k1 w1 p1 g1 S2 a2 y2 at2 nd2 hF2 e2 k2 t2 p2 g2 c2
    exact h _ _ (xEc.good (S' := S2) hF2 (zKE.tr (zKE.tr zKE.rf (zKE.w (xFw.fr k1) (show gN S ≤ gN S from by omega) (fun _ h => h) (fun _ h => h))) (zKE.w k2 (show gN S ≤ gN S1 from by omega) (fun _ h => h) (fun _ h => h))) t2 p2 (by omega) (eU.trans (e2)))
  · intro S1 hF1 k1 w1 p1 g1 S3 q3 kk3 z3 hF3 e3 k3 x3 g3
    exact h _ _ (xEc.err (S' := S3) hF3 (zKE.tr (zKE.tr zKE.rf (zKE.w (xFw.fr k1) (show gN S ≤ gN S from by omega) (fun _ h => h) (fun _ h => h))) (zKE.w k3 (show gN S ≤ gN S1 from by omega) (fun _ h => h) (fun _ h => h))) x3 (by omega) (eU.trans (e3)))
theorem x_pl10 {S : zS} (hF : zFin true S) (hK2 : 13 ≤ d) {r at0 nd w deep K : Nat} {rec : Nat → Nat → Nat → pE (zNd × Nat × Nat)} (hK : K + 4 ≤ d) (hmono : pMono rec) (hR : xR tp sz S r at0 nd) (hnd : nd ≤ 80) (hN0 : gN S + 30 * (sz - at0) ≤ 1700000) (hdp : deep < 1000) (hRd : ∀ dp d', deep ≤ 24 → dp = deep + 1 → K ≤ d' → xRd tp sz d' dp rec) (hw : zDs S w (ztn 10)) (hwl : at0 + 6 ≤ sz)
    (h : ∀ o S', xEc tp sz r S (gN S + 30 * (sz - (at0 + 6)) + 2) (gZ S + 150 * (sz - (at0 + 6)) + 60) (pNm tp sz rec 17 at0 (at0 + 6) deep nd) o S' → post (o, S')) : zCall d 261 [.ref r, .ref w, .int (Int32.ofNat deep)] S post := by
  have h8 := hR.2.2.2.1
  have h9 := hR.2.2.2.2.1
  have eU : pNm tp sz rec 17 at0 (at0 + 6) deep nd = (do
      let rd1 ← pRead at0 deep nd false
      pW tp sz rec 17 at0 deep (at0 + 6) rd1) := rfl
  refine plw10 (K := K) (rec := rec) hF (by omega) deep hR h8.1 h8.2 h9.1 h9.2 hN0 hdp hnd (by omega) (by omega) hmono hRd hw hw.wd.2.1 hwl ?_ ?_ ?_
  · intro S1 hF1 k1 w1 p1 g1 S2 nd2 hF2 e2 k2 p2 g2 b2 c2 d2 S4 a4 y4 at4 nd4 hF4 e4 k4 t4 p4 g4 c4
    exact h _ _ (xEc.good (S' := S4) hF4 (zKE.tr (zKE.tr (zKE.tr (zKE.tr zKE.rf (zKE.w (xFw.fr k1) (show gN S ≤ gN S from by omega) (fun _ h => h) (fun _ h => h))) (zKE.w k2 (show gN S ≤ gN S1 from by omega) (fun _ h => h) (fun _ h => h))) (zKE_sI (Or.inl (by decide)))) (zKE.w k4 (show gN S ≤ gN S2 from by omega) (fun _ h => h) (fun _ h => h))) t4 p4 (by omega) (eU.trans ((pb_ok e2).trans (e4))))
  · intro S1 hF1 k1 w1 p1 g1 S2 nd2 hF2 e2 k2 p2 g2 b2 c2 d2 S5 q5 kk5 z5 hF5 e5 k5 x5 g5
    exact h _ _ (xEc.err (S' := S5) hF5 (zKE.tr (zKE.tr (zKE.tr (zKE.tr zKE.rf (zKE.w (xFw.fr k1) (show gN S ≤ gN S from by omega) (fun _ h => h) (fun _ h => h))) (zKE.w k2 (show gN S ≤ gN S1 from by omega) (fun _ h => h) (fun _ h => h))) (zKE_sI (Or.inl (by decide)))) (zKE.w k5 (show gN S ≤ gN S2 from by omega) (fun _ h => h) (fun _ h => h))) x5 (by omega) (eU.trans ((pb_ok e2).trans (e5))))
  · intro S1 hF1 k1 w1 p1 g1 S3 q3 hF3 e3 k3 x3 g3
    exact h _ _ (xEc.err (S' := S3) hF3 (zKE.tr (zKE.tr zKE.rf (zKE.w (xFw.fr k1) (show gN S ≤ gN S from by omega) (fun _ h => h) (fun _ h => h))) (zKE.w k3 (show gN S ≤ gN S1 from by omega) (fun _ h => h) (fun _ h => h))) x3 (by omega) (eU.trans (pb_er e3)))
theorem x_pl20 {S : zS} (hF : zFin true S) (hK2 : 13 ≤ d) {r at0 nd w deep K : Nat} {rec : Nat → Nat → Nat → pE (zNd × Nat × Nat)} (hK : K + 4 ≤ d) (hmono : pMono rec) (hR : xR tp sz S r at0 nd) (hnd : nd ≤ 80) (hN0 : gN S + 30 * (sz - at0) ≤ 1700000) (hdp : deep < 1000) (hRd : ∀ dp d', deep ≤ 24 → dp = deep + 1 → K ≤ d' → xRd tp sz d' dp rec) (hw : zDs S w (ztn 20)) (hwl : at0 + 5 ≤ sz)
    (h : ∀ o S', xEc tp sz r S (gN S + 30 * (sz - (at0 + 5)) + 2) (gZ S + 150 * (sz - (at0 + 5)) + 60) (pNm tp sz rec 18 at0 (at0 + 5) deep nd) o S' → post (o, S')) : zCall d 261 [.ref r, .ref w, .int (Int32.ofNat deep)] S post := by
  have h8 := hR.2.2.2.1
  have h9 := hR.2.2.2.2.1
  have eU : pNm tp sz rec 18 at0 (at0 + 5) deep nd = (do
      let rd1 ← pRead at0 deep nd false
      pW tp sz rec 18 at0 deep (at0 + 5) rd1) := rfl
  refine plw20 (K := K) (rec := rec) hF (by omega) deep hR h8.1 h8.2 h9.1 h9.2 hN0 hdp hnd (by omega) (by omega) hmono hRd hw hw.wd.2.1 hwl ?_ ?_ ?_
  · intro S1 hF1 k1 w1 p1 g1 S2 nd2 hF2 e2 k2 p2 g2 b2 c2 d2 S4 a4 y4 at4 nd4 hF4 e4 k4 t4 p4 g4 c4
    exact h _ _ (xEc.good (S' := S4) hF4 (zKE.tr (zKE.tr (zKE.tr (zKE.tr zKE.rf (zKE.w (xFw.fr k1) (show gN S ≤ gN S from by omega) (fun _ h => h) (fun _ h => h))) (zKE.w k2 (show gN S ≤ gN S1 from by omega) (fun _ h => h) (fun _ h => h))) (zKE_sI (Or.inl (by decide)))) (zKE.w k4 (show gN S ≤ gN S2 from by omega) (fun _ h => h) (fun _ h => h))) t4 p4 (by omega) (eU.trans ((pb_ok e2).trans (e4))))
  · intro S1 hF1 k1 w1 p1 g1 S2 nd2 hF2 e2 k2 p2 g2 b2 c2 d2 S5 q5 kk5 z5 hF5 e5 k5 x5 g5
    exact h _ _ (xEc.err (S' := S5) hF5 (zKE.tr (zKE.tr (zKE.tr (zKE.tr zKE.rf (zKE.w (xFw.fr k1) (show gN S ≤ gN S from by omega) (fun _ h => h) (fun _ h => h))) (zKE.w k2 (show gN S ≤ gN S1 from by omega) (fun _ h => h) (fun _ h => h))) (zKE_sI (Or.inl (by decide)))) (zKE.w k5 (show gN S ≤ gN S2 from by omega) (fun _ h => h) (fun _ h => h))) x5 (by omega) (eU.trans ((pb_ok e2).trans (e5))))
  · intro S1 hF1 k1 w1 p1 g1 S3 q3 hF3 e3 k3 x3 g3
    exact h _ _ (xEc.err (S' := S3) hF3 (zKE.tr (zKE.tr zKE.rf (zKE.w (xFw.fr k1) (show gN S ≤ gN S from by omega) (fun _ h => h) (fun _ h => h))) (zKE.w k3 (show gN S ≤ gN S1 from by omega) (fun _ h => h) (fun _ h => h))) x3 (by omega) (eU.trans (pb_er e3)))
theorem x_pl5 {S : zS} (hF : zFin true S) (hK2 : 13 ≤ d) {r at0 nd w deep K : Nat} {rec : Nat → Nat → Nat → pE (zNd × Nat × Nat)} (hK : K + 4 ≤ d) (hmono : pMono rec) (hR : xR tp sz S r at0 nd) (hnd : nd ≤ 80) (hN0 : gN S + 30 * (sz - at0) ≤ 1700000) (hdp : deep < 1000) (hRd : ∀ dp d', deep ≤ 24 → dp = deep + 1 → K ≤ d' → xRd tp sz d' dp rec) (hw : zDs S w (ztn 5)) (hwl : at0 + 2 ≤ sz)
    (h : ∀ o S', xEc tp sz r S (gN S + 30 * (sz - (at0 + 2)) + 2) (gZ S + 150 * (sz - (at0 + 2)) + 60) (pNm tp sz rec 100 at0 (at0 + 2) deep nd) o S' → post (o, S')) : zCall d 261 [.ref r, .ref w, .int (Int32.ofNat deep)] S post := by
  have h8 := hR.2.2.2.1
  have h9 := hR.2.2.2.2.1
  have eU : pNm tp sz rec 100 at0 (at0 + 2) deep nd = (do
      let rd1 ← pRead at0 deep nd true
      let w ← pW tp sz rec 2 at0 deep (at0 + 2) rd1
      let x ← pJ (tN 21 0 [] at0 [w.1])
      .ok (x, w.2.1, w.2.2)) := x_pk100
  refine plw5 (K := K) (rec := rec) hF (by omega) deep hR h8.1 h8.2 h9.1 h9.2 hN0 hdp hnd (by omega) (by omega) hmono hRd hw hw.wd.2.1 hwl ?_ ?_ ?_ ?_
  · intro S1 hF1 k1 w1 p1 g1 S2 nd2 hF2 e2 k2 p2 g2 b2 c2 d2 S4 a4 y4 at4 nd4 hF4 e4 k4 t4 p4 g4 c4 S17 hF17 e17 j17 t17 p17 g17
    exact h _ _ (xEc.good (S' := S17) hF17 (zKE.tr (zKE.tr (zKE.tr (zKE.tr (zKE.tr (zKE.tr (zKE.tr (zKE.tr (zKE.tr (zKE.tr zKE.rf (zKE.w (xFw.fr k1) (show gN S ≤ gN S from by omega) (fun _ h => h) (fun _ h => h))) (zKE.w k2 (show gN S ≤ gN S1 from by omega) (fun _ h => h) (fun _ h => h))) (zKE_sI (Or.inl (by decide)))) (zKE_new (show gN S ≤ gN S2 ∧ gN S2 < zLB from ⟨by omega, by have hLB : zLB = 4294967296 := rfl; omega⟩))) (zKE.w k4 (show gN S ≤ gN S2 + 1 from by omega) (fun _ h => h) (fun _ h => h))) (zKE_sP (Or.inr (Or.inr ⟨by omega, by have hLB : zLB = 4294967296 := rfl; omega⟩)))) (zKE_sI (Or.inr (Or.inr ⟨by omega, by have hLB : zLB = 4294967296 := rfl; omega⟩)))) (zKE_sI (Or.inr (Or.inr ⟨by omega, by have hLB : zLB = 4294967296 := rfl; omega⟩)))) (zKE_sP (Or.inr (Or.inr ⟨by omega, by have hLB : zLB = 4294967296 := rfl; omega⟩)))) (xJd.ke j17 ⟨by omega, by have hLB : zLB = 4294967296 := rfl; omega⟩)) t17 p17 (by omega) (eU.trans ((pb_ok e2).trans (e4(pb_ok e17).trans ()))))
  · intro S1 hF1 k1 w1 p1 g1 S2 nd2 hF2 e2 k2 p2 g2 b2 c2 d2 S4 a4 y4 at4 nd4 hF4 e4 k4 t4 p4 g4 c4 S18 q18 hF18 e18 k18 x18 g18
    exact h _ _ (xEc.err (S' := S18) hF18 (zKE.tr (zKE.tr (zKE.tr (zKE.tr (zKE.tr (zKE.tr (zKE.tr (zKE.tr (zKE.tr (zKE.tr zKE.rf (zKE.w (xFw.fr k1) (show gN S ≤ gN S from by omega) (fun _ h => h) (fun _ h => h))) (zKE.w k2 (show gN S ≤ gN S1 from by omega) (fun _ h => h) (fun _ h => h))) (zKE_sI (Or.inl (by decide)))) (zKE_new (show gN S ≤ gN S2 ∧ gN S2 < zLB from ⟨by omega, by have hLB : zLB = 4294967296 := rfl; omega⟩))) (zKE.w k4 (show gN S ≤ gN S2 + 1 from by omega) (fun _ h => h) (fun _ h => h))) (zKE_sP (Or.inr (Or.inr ⟨by omega, by have hLB : zLB = 4294967296 := rfl; omega⟩)))) (zKE_sI (Or.inr (Or.inr ⟨by omega, by have hLB : zLB = 4294967296 := rfl; omega⟩)))) (zKE_sI (Or.inr (Or.inr ⟨by omega, by have hLB : zLB = 4294967296 := rfl; omega⟩)))) (zKE_sP (Or.inr (Or.inr ⟨by omega, by have hLB : zLB = 4294967296 := rfl; omega⟩)))) (xFn.ke k18 (show gN S ≤ gN S4 from by omega) ⟨by omega, by have hLB : zLB = 4294967296 := rfl; omega⟩)) x18 (by omega) (eU.trans ((pb_ok e2).trans (e4pb_er e18))))
  · intro S1 hF1 k1 w1 p1 g1 S2 nd2 hF2 e2 k2 p2 g2 b2 c2 d2 S5 q5 kk5 z5 hF5 e5 k5 x5 g5
    exact h _ _ (xEc.err (S' := S5) hF5 (zKE.tr (zKE.tr (zKE.tr (zKE.tr (zKE.tr zKE.rf (zKE.w (xFw.fr k1) (show gN S ≤ gN S from by omega) (fun _ h => h) (fun _ h => h))) (zKE.w k2 (show gN S ≤ gN S1 from by omega) (fun _ h => h) (fun _ h => h))) (zKE_sI (Or.inl (by decide)))) (zKE_new (show gN S ≤ gN S2 ∧ gN S2 < zLB from ⟨by omega, by have hLB : zLB = 4294967296 := rfl; omega⟩))) (zKE.w k5 (show gN S ≤ gN S2 + 1 from by omega) (fun _ h => h) (fun _ h => h))) x5 (by omega) (eU.trans ((pb_ok e2).trans (e5))))
  · intro S1 hF1 k1 w1 p1 g1 S3 q3 hF3 e3 k3 x3 g3
    exact h _ _ (xEc.err (S' := S3) hF3 (zKE.tr (zKE.tr zKE.rf (zKE.w (xFw.fr k1) (show gN S ≤ gN S from by omega) (fun _ h => h) (fun _ h => h))) (zKE.w k3 (show gN S ≤ gN S1 from by omega) (fun _ h => h) (fun _ h => h))) x3 (by omega) (eU.trans (pb_er e3)))
theorem x_pl17 {S : zS} (hF : zFin true S) (hK2 : 13 ≤ d) {r at0 nd w deep K : Nat} {rec : Nat → Nat → Nat → pE (zNd × Nat × Nat)} (hK : K + 4 ≤ d) (hmono : pMono rec) (hR : xR tp sz S r at0 nd) (hnd : nd ≤ 80) (hN0 : gN S + 30 * (sz - at0) ≤ 1700000) (hdp : deep < 1000) (hRd : ∀ dp d', deep ≤ 24 → dp = deep + 1 → K ≤ d' → xRd tp sz d' dp rec) (hw : zDs S w (ztn 17)) (hwl : at0 + 3 ≤ sz)
    (h : ∀ o S', xEc tp sz r S (gN S + 30 * (sz - (at0 + 3)) + 2) (gZ S + 150 * (sz - (at0 + 3)) + 60) (pNm tp sz rec 101 at0 (at0 + 3) deep nd) o S' → post (o, S')) : zCall d 261 [.ref r, .ref w, .int (Int32.ofNat deep)] S post := by
  have h8 := hR.2.2.2.1
  have h9 := hR.2.2.2.2.1
  have eU : pNm tp sz rec 101 at0 (at0 + 3) deep nd = (do
      let rd1 ← pRead at0 deep nd true
      let w ← pW tp sz rec 3 at0 deep (at0 + 3) rd1
      let x ← pJ (tN 21 0 [] at0 [w.1])
      .ok (x, w.2.1, w.2.2)) := x_pk101
  refine plw17 (K := K) (rec := rec) hF (by omega) deep hR h8.1 h8.2 h9.1 h9.2 hN0 hdp hnd (by omega) (by omega) hmono hRd hw hw.wd.2.1 hwl ?_ ?_ ?_ ?_
  · intro S1 hF1 k1 w1 p1 g1 S2 nd2 hF2 e2 k2 p2 g2 b2 c2 d2 S4 a4 y4 at4 nd4 hF4 e4 k4 t4 p4 g4 c4 S17 hF17 e17 j17 t17 p17 g17
    exact h _ _ (xEc.good (S' := S17) hF17 (zKE.tr (zKE.tr (zKE.tr (zKE.tr (zKE.tr (zKE.tr (zKE.tr (zKE.tr (zKE.tr (zKE.tr zKE.rf (zKE.w (xFw.fr k1) (show gN S ≤ gN S from by omega) (fun _ h => h) (fun _ h => h))) (zKE.w k2 (show gN S ≤ gN S1 from by omega) (fun _ h => h) (fun _ h => h))) (zKE_sI (Or.inl (by decide)))) (zKE_new (show gN S ≤ gN S2 ∧ gN S2 < zLB from ⟨by omega, by have hLB : zLB = 4294967296 := rfl; omega⟩))) (zKE.w k4 (show gN S ≤ gN S2 + 1 from by omega) (fun _ h => h) (fun _ h => h))) (zKE_sP (Or.inr (Or.inr ⟨by omega, by have hLB : zLB = 4294967296 := rfl; omega⟩)))) (zKE_sI (Or.inr (Or.inr ⟨by omega, by have hLB : zLB = 4294967296 := rfl; omega⟩)))) (zKE_sI (Or.inr (Or.inr ⟨by omega, by have hLB : zLB = 4294967296 := rfl; omega⟩)))) (zKE_sP (Or.inr (Or.inr ⟨by omega, by have hLB : zLB = 4294967296 := rfl; omega⟩)))) (xJd.ke j17 ⟨by omega, by have hLB : zLB = 4294967296 := rfl; omega⟩)) t17 p17 (by omega) (eU.trans ((pb_ok e2).trans (e4(pb_ok e17).trans ()))))
  · intro S1 hF1 k1 w1 p1 g1 S2 nd2 hF2 e2 k2 p2 g2 b2 c2 d2 S4 a4 y4 at4 nd4 hF4 e4 k4 t4 p4 g4 c4 S18 q18 hF18 e18 k18 x18 g18
    exact h _ _ (xEc.err (S' := S18) hF18 (zKE.tr (zKE.tr (zKE.tr (zKE.tr (zKE.tr (zKE.tr (zKE.tr (zKE.tr (zKE.tr (zKE.tr zKE.rf (zKE.w (xFw.fr k1) (show gN S ≤ gN S from by omega) (fun _ h => h) (fun _ h => h))) (zKE.w k2 (show gN S ≤ gN S1 from by omega) (fun _ h => h) (fun _ h => h))) (zKE_sI (Or.inl (by decide)))) (zKE_new (show gN S ≤ gN S2 ∧ gN S2 < zLB from ⟨by omega, by have hLB : zLB = 4294967296 := rfl; omega⟩))) (zKE.w k4 (show gN S ≤ gN S2 + 1 from by omega) (fun _ h => h) (fun _ h => h))) (zKE_sP (Or.inr (Or.inr ⟨by omega, by have hLB : zLB = 4294967296 := rfl; omega⟩)))) (zKE_sI (Or.inr (Or.inr ⟨by omega, by have hLB : zLB = 4294967296 := rfl; omega⟩)))) (zKE_sI (Or.inr (Or.inr ⟨by omega, by have hLB : zLB = 4294967296 := rfl; omega⟩)))) (zKE_sP (Or.inr (Or.inr ⟨by omega, by have hLB : zLB = 4294967296 := rfl; omega⟩)))) (xFn.ke k18 (show gN S ≤ gN S4 from by omega) ⟨by omega, by have hLB : zLB = 4294967296 := rfl; omega⟩)) x18 (by omega) (eU.trans ((pb_ok e2).trans (e4pb_er e18))))
  · intro S1 hF1 k1 w1 p1 g1 S2 nd2 hF2 e2 k2 p2 g2 b2 c2 d2 S5 q5 kk5 z5 hF5 e5 k5 x5 g5
    exact h _ _ (xEc.err (S' := S5) hF5 (zKE.tr (zKE.tr (zKE.tr (zKE.tr (zKE.tr zKE.rf (zKE.w (xFw.fr k1) (show gN S ≤ gN S from by omega) (fun _ h => h) (fun _ h => h))) (zKE.w k2 (show gN S ≤ gN S1 from by omega) (fun _ h => h) (fun _ h => h))) (zKE_sI (Or.inl (by decide)))) (zKE_new (show gN S ≤ gN S2 ∧ gN S2 < zLB from ⟨by omega, by have hLB : zLB = 4294967296 := rfl; omega⟩))) (zKE.w k5 (show gN S ≤ gN S2 + 1 from by omega) (fun _ h => h) (fun _ h => h))) x5 (by omega) (eU.trans ((pb_ok e2).trans (e5))))
  · intro S1 hF1 k1 w1 p1 g1 S3 q3 hF3 e3 k3 x3 g3
    exact h _ _ (xEc.err (S' := S3) hF3 (zKE.tr (zKE.tr zKE.rf (zKE.w (xFw.fr k1) (show gN S ≤ gN S from by omega) (fun _ h => h) (fun _ h => h))) (zKE.w k3 (show gN S ≤ gN S1 from by omega) (fun _ h => h) (fun _ h => h))) x3 (by omega) (eU.trans (pb_er e3)))
theorem x_pl22 {S : zS} (hF : zFin true S) (hK2 : 13 ≤ d) {r at0 nd w deep K : Nat} {rec : Nat → Nat → Nat → pE (zNd × Nat × Nat)} (hK : K + 4 ≤ d) (hmono : pMono rec) (hR : xR tp sz S r at0 nd) (hnd : nd ≤ 80) (hN0 : gN S + 30 * (sz - at0) ≤ 1700000) (hdp : deep < 1000) (hRd : ∀ dp d', deep ≤ 24 → dp = deep + 1 → K ≤ d' → xRd tp sz d' dp rec) (hw : zDs S w (ztn 22)) (hwl : at0 + 5 ≤ sz)
    (h : ∀ o S', xEc tp sz r S (gN S + 30 * (sz - (at0 + 5)) + 2) (gZ S + 150 * (sz - (at0 + 5)) + 60) (pNm tp sz rec 102 at0 (at0 + 5) deep nd) o S' → post (o, S')) : zCall d 261 [.ref r, .ref w, .int (Int32.ofNat deep)] S post := by
  have h8 := hR.2.2.2.1
  have h9 := hR.2.2.2.2.1
  have eU : pNm tp sz rec 102 at0 (at0 + 5) deep nd = (do
      let rd1 ← pRead at0 deep nd true
      pW tp sz rec 102 at0 deep (at0 + 5) rd1) := rfl
  refine plw22 (K := K) (rec := rec) hF (by omega) deep hR h8.1 h8.2 h9.1 h9.2 hN0 hdp hnd (by omega) (by omega) hmono hRd hw hw.wd.2.1 hwl ?_ ?_ ?_
  · intro S1 hF1 k1 w1 p1 g1 S2 nd2 hF2 e2 k2 p2 g2 b2 c2 d2 S4 a4 y4 at4 nd4 hF4 e4 k4 t4 p4 g4 c4
    exact h _ _ (xEc.good (S' := S4) hF4 (zKE.tr (zKE.tr (zKE.tr (zKE.tr zKE.rf (zKE.w (xFw.fr k1) (show gN S ≤ gN S from by omega) (fun _ h => h) (fun _ h => h))) (zKE.w k2 (show gN S ≤ gN S1 from by omega) (fun _ h => h) (fun _ h => h))) (zKE_sI (Or.inl (by decide)))) (zKE.w k4 (show gN S ≤ gN S2 from by omega) (fun _ h => h) (fun _ h => h))) t4 p4 (by omega) (eU.trans ((pb_ok e2).trans (e4))))
  · intro S1 hF1 k1 w1 p1 g1 S2 nd2 hF2 e2 k2 p2 g2 b2 c2 d2 S5 q5 kk5 z5 hF5 e5 k5 x5 g5
    exact h _ _ (xEc.err (S' := S5) hF5 (zKE.tr (zKE.tr (zKE.tr (zKE.tr zKE.rf (zKE.w (xFw.fr k1) (show gN S ≤ gN S from by omega) (fun _ h => h) (fun _ h => h))) (zKE.w k2 (show gN S ≤ gN S1 from by omega) (fun _ h => h) (fun _ h => h))) (zKE_sI (Or.inl (by decide)))) (zKE.w k5 (show gN S ≤ gN S2 from by omega) (fun _ h => h) (fun _ h => h))) x5 (by omega) (eU.trans ((pb_ok e2).trans (e5))))
  · intro S1 hF1 k1 w1 p1 g1 S3 q3 hF3 e3 k3 x3 g3
    exact h _ _ (xEc.err (S' := S3) hF3 (zKE.tr (zKE.tr zKE.rf (zKE.w (xFw.fr k1) (show gN S ≤ gN S from by omega) (fun _ h => h) (fun _ h => h))) (zKE.w k3 (show gN S ≤ gN S1 from by omega) (fun _ h => h) (fun _ h => h))) x3 (by omega) (eU.trans (pb_er e3)))
/-- a word and what it begins -/
theorem x_plain {S : zS} (hF : zFin true S) (hK2 : 13 ≤ d) {r at0 nd w deep K : Nat} {rec : Nat → Nat → Nat → pE (zNd × Nat × Nat)} (hK : K + 4 ≤ d) (hmono : pMono rec) (hR : xR tp sz S r at0 nd) (hnd : nd ≤ 80) (hN0 : gN S + 30 * (sz - at0) ≤ 1700000) (hdp : deep < 1000) (hRd : ∀ dp d', deep ≤ 24 → dp = deep + 1 → K ≤ d' → xRd tp sz d' dp rec) (hw : zDs S w (pWl tp at0 (pWE tp sz at0))) (hle : at0 ≤ pWE tp sz at0)
    (h : ∀ o S', xEc tp sz r S (gN S + 30 * (sz - pWE tp sz at0) + 2) (gZ S + 150 * (sz - pWE tp sz at0) + 60) (pNamed tp sz rec deep at0 nd) o S' → post (o, S')) : zCall d 261 [.ref r, .ref w, .int (Int32.ofNat deep)] S post := by
  have h8 := hR.2.2.2.1
  have h9 := hR.2.2.2.2.1
  have hin := (pWE_in (tp := tp) (sz := sz) (at0 := at0) h8.2).1
  have hlen := @pWl_len tp at0 (pWE tp sz at0)
  by_cases c15 : pWl tp at0 (pWE tp sz at0) = ztn 15
  · have hL : pWE tp sz at0 = at0 + 1 := by
      rw [c15] at hlen
      have h9 : (ztn 15).length = 1 := by decide
      omega
    have hS : pNamed tp sz rec deep at0 nd = pNm tp sz rec 0 at0 (at0 + 1) deep nd := by
      have hk : pKind (pWl tp at0 (pWE tp sz at0)) = some 0 := by rw [c15]; decide
      unfold pNamed
      rw [hk, hL]
      rfl
    rw [c15] at hw
    rw [hS, hL] at h
    exact x_pl15 hF hK2 hK hmono hR hnd hN0 hdp hRd hw (by omega) h
  by_cases c16 : pWl tp at0 (pWE tp sz at0) = ztn 16
  · have hL : pWE tp sz at0 = at0 + 1 := by
      rw [c16] at hlen
      have h9 : (ztn 16).length = 1 := by decide
      omega
    have hS : pNamed tp sz rec deep at0 nd = pNm tp sz rec 1 at0 (at0 + 1) deep nd := by
      have hk : pKind (pWl tp at0 (pWE tp sz at0)) = some 1 := by rw [c16]; decide
      unfold pNamed
      rw [hk, hL]
      rfl
    rw [c16] at hw
    rw [hS, hL] at h
    exact x_pl16 hF hK2 hK hmono hR hnd hN0 hdp hRd hw (by omega) h
  by_cases c18 : pWl tp at0 (pWE tp sz at0) = ztn 18
  · have hL : pWE tp sz at0 = at0 + 4 := by
      rw [c18] at hlen
      have h9 : (ztn 18).length = 4 := by decide
      omega
    have hS : pNamed tp sz rec deep at0 nd = pNm tp sz rec 2 at0 (at0 + 4) deep nd := by
      have hk : pKind (pWl tp at0 (pWE tp sz at0)) = some 2 := by rw [c18]; decide
      unfold pNamed
      rw [hk, hL]
      rfl
    rw [c18] at hw
    rw [hS, hL] at h
    exact x_pl18 hF hK2 hK hmono hR hnd hN0 hdp hRd hw (by omega) h
  by_cases c19 : pWl tp at0 (pWE tp sz at0) = ztn 19
  · have hL : pWE tp sz at0 = at0 + 4 := by
      rw [c19] at hlen
      have h9 : (ztn 19).length = 4 := by decide
      omega
    have hS : pNamed tp sz rec deep at0 nd = pNm tp sz rec 3 at0 (at0 + 4) deep nd := by
      have hk : pKind (pWl tp at0 (pWE tp sz at0)) = some 3 := by rw [c19]; decide
      unfold pNamed
      rw [hk, hL]
      rfl
    rw [c19] at hw
    rw [hS, hL] at h
    exact x_pl19 hF hK2 hK hmono hR hnd hN0 hdp hRd hw (by omega) h
  by_cases c6 : pWl tp at0 (pWE tp sz at0) = ztn 6
  · have hL : pWE tp sz at0 = at0 + 5 := by
      rw [c6] at hlen
      have h9 : (ztn 6).length = 5 := by decide
      omega
    have hS : pNamed tp sz rec deep at0 nd = pNm tp sz rec 4 at0 (at0 + 5) deep nd := by
      have hk : pKind (pWl tp at0 (pWE tp sz at0)) = some 4 := by rw [c6]; decide
      unfold pNamed
      rw [hk, hL]
      rfl
    rw [c6] at hw
    rw [hS, hL] at h
    exact x_pl6 hF hK2 hK hmono hR hnd hN0 hdp hRd hw (by omega) h
  by_cases c7 : pWl tp at0 (pWE tp sz at0) = ztn 7
  · have hL : pWE tp sz at0 = at0 + 5 := by
      rw [c7] at hlen
      have h9 : (ztn 7).length = 5 := by decide
      omega
    have hS : pNamed tp sz rec deep at0 nd = pNm tp sz rec 5 at0 (at0 + 5) deep nd := by
      have hk : pKind (pWl tp at0 (pWE tp sz at0)) = some 5 := by rw [c7]; decide
      unfold pNamed
      rw [hk, hL]
      rfl
    rw [c7] at hw
    rw [hS, hL] at h
    exact x_pl7 hF hK2 hK hmono hR hnd hN0 hdp hRd hw (by omega) h
  by_cases c11 : pWl tp at0 (pWE tp sz at0) = ztn 11
  · have hL : pWE tp sz at0 = at0 + 6 := by
      rw [c11] at hlen
      have h9 : (ztn 11).length = 6 := by decide
      omega
    have hS : pNamed tp sz rec deep at0 nd = pNm tp sz rec 6 at0 (at0 + 6) deep nd := by
      have hk : pKind (pWl tp at0 (pWE tp sz at0)) = some 6 := by rw [c11]; decide
      unfold pNamed
      rw [hk, hL]
      rfl
    rw [c11] at hw
    rw [hS, hL] at h
    exact x_pl11 hF hK2 hK hmono hR hnd hN0 hdp hRd hw (by omega) h
  by_cases c12 : pWl tp at0 (pWE tp sz at0) = ztn 12
  · have hL : pWE tp sz at0 = at0 + 7 := by
      rw [c12] at hlen
      have h9 : (ztn 12).length = 7 := by decide
      omega
    have hS : pNamed tp sz rec deep at0 nd = pNm tp sz rec 7 at0 (at0 + 7) deep nd := by
      have hk : pKind (pWl tp at0 (pWE tp sz at0)) = some 7 := by rw [c12]; decide
      unfold pNamed
      rw [hk, hL]
      rfl
    rw [c12] at hw
    rw [hS, hL] at h
    exact x_pl12 hF hK2 hK hmono hR hnd hN0 hdp hRd hw (by omega) h
  by_cases c13 : pWl tp at0 (pWE tp sz at0) = ztn 13
  · have hL : pWE tp sz at0 = at0 + 9 := by
      rw [c13] at hlen
      have h9 : (ztn 13).length = 9 := by decide
      omega
    have hS : pNamed tp sz rec deep at0 nd = pNm tp sz rec 8 at0 (at0 + 9) deep nd := by
      have hk : pKind (pWl tp at0 (pWE tp sz at0)) = some 8 := by rw [c13]; decide
      unfold pNamed
      rw [hk, hL]
      rfl
    rw [c13] at hw
    rw [hS, hL] at h
    exact x_pl13 hF hK2 hK hmono hR hnd hN0 hdp hRd hw (by omega) h
  by_cases c14 : pWl tp at0 (pWE tp sz at0) = ztn 14
  · have hL : pWE tp sz at0 = at0 + 7 := by
      rw [c14] at hlen
      have h9 : (ztn 14).length = 7 := by decide
      omega
    have hS : pNamed tp sz rec deep at0 nd = pNm tp sz rec 9 at0 (at0 + 7) deep nd := by
      have hk : pKind (pWl tp at0 (pWE tp sz at0)) = some 9 := by rw [c14]; decide
      unfold pNamed
      rw [hk, hL]
      rfl
    rw [c14] at hw
    rw [hS, hL] at h
    exact x_pl14 hF hK2 hK hmono hR hnd hN0 hdp hRd hw (by omega) h
  by_cases c21 : pWl tp at0 (pWE tp sz at0) = ztn 21
  · have hL : pWE tp sz at0 = at0 + 5 := by
      rw [c21] at hlen
      have h9 : (ztn 21).length = 5 := by decide
      omega
    have hS : pNamed tp sz rec deep at0 nd = pNm tp sz rec 10 at0 (at0 + 5) deep nd := by
      have hk : pKind (pWl tp at0 (pWE tp sz at0)) = some 10 := by rw [c21]; decide
      unfold pNamed
      rw [hk, hL]
      rfl
    rw [c21] at hw
    rw [hS, hL] at h
    exact x_pl21 hF hK2 hK hmono hR hnd hN0 hdp hRd hw (by omega) h
  by_cases c23 : pWl tp at0 (pWE tp sz at0) = ztn 23
  · have hL : pWE tp sz at0 = at0 + 5 := by
      rw [c23] at hlen
      have h9 : (ztn 23).length = 5 := by decide
      omega
    have hS : pNamed tp sz rec deep at0 nd = pNm tp sz rec 11 at0 (at0 + 5) deep nd := by
      have hk : pKind (pWl tp at0 (pWE tp sz at0)) = some 11 := by rw [c23]; decide
      unfold pNamed
      rw [hk, hL]
      rfl
    rw [c23] at hw
    rw [hS, hL] at h
    exact x_pl23 hF hK2 hK hmono hR hnd hN0 hdp hRd hw (by omega) h
  by_cases c24 : pWl tp at0 (pWE tp sz at0) = ztn 24
  · have hL : pWE tp sz at0 = at0 + 5 := by
      rw [c24] at hlen
      have h9 : (ztn 24).length = 5 := by decide
      omega
    have hS : pNamed tp sz rec deep at0 nd = pNm tp sz rec 12 at0 (at0 + 5) deep nd := by
      have hk : pKind (pWl tp at0 (pWE tp sz at0)) = some 12 := by rw [c24]; decide
      unfold pNamed
      rw [hk, hL]
      rfl
    rw [c24] at hw
    rw [hS, hL] at h
    exact x_pl24 hF hK2 hK hmono hR hnd hN0 hdp hRd hw (by omega) h
  by_cases c25 : pWl tp at0 (pWE tp sz at0) = ztn 25
  · have hL : pWE tp sz at0 = at0 + 4 := by
      rw [c25] at hlen
      have h9 : (ztn 25).length = 4 := by decide
      omega
    have hS : pNamed tp sz rec deep at0 nd = pNm tp sz rec 13 at0 (at0 + 4) deep nd := by
      have hk : pKind (pWl tp at0 (pWE tp sz at0)) = some 13 := by rw [c25]; decide
      unfold pNamed
      rw [hk, hL]
      rfl
    rw [c25] at hw
    rw [hS, hL] at h
    exact x_pl25 hF hK2 hK hmono hR hnd hN0 hdp hRd hw (by omega) h
  by_cases c26 : pWl tp at0 (pWE tp sz at0) = ztn 26
  · have hL : pWE tp sz at0 = at0 + 4 := by
      rw [c26] at hlen
      have h9 : (ztn 26).length = 4 := by decide
      omega
    have hS : pNamed tp sz rec deep at0 nd = pNm tp sz rec 14 at0 (at0 + 4) deep nd := by
      have hk : pKind (pWl tp at0 (pWE tp sz at0)) = some 14 := by rw [c26]; decide
      unfold pNamed
      rw [hk, hL]
      rfl
    rw [c26] at hw
    rw [hS, hL] at h
    exact x_pl26 hF hK2 hK hmono hR hnd hN0 hdp hRd hw (by omega) h
  by_cases c27 : pWl tp at0 (pWE tp sz at0) = ztn 27
  · have hL : pWE tp sz at0 = at0 + 4 := by
      rw [c27] at hlen
      have h9 : (ztn 27).length = 4 := by decide
      omega
    have hS : pNamed tp sz rec deep at0 nd = pNm tp sz rec 15 at0 (at0 + 4) deep nd := by
      have hk : pKind (pWl tp at0 (pWE tp sz at0)) = some 15 := by rw [c27]; decide
      unfold pNamed
      rw [hk, hL]
      rfl
    rw [c27] at hw
    rw [hS, hL] at h
    exact x_pl27 hF hK2 hK hmono hR hnd hN0 hdp hRd hw (by omega) h
  by_cases c28 : pWl tp at0 (pWE tp sz at0) = ztn 28
  · have hL : pWE tp sz at0 = at0 + 4 := by
      rw [c28] at hlen
      have h9 : (ztn 28).length = 4 := by decide
      omega
    have hS : pNamed tp sz rec deep at0 nd = pNm tp sz rec 16 at0 (at0 + 4) deep nd := by
      have hk : pKind (pWl tp at0 (pWE tp sz at0)) = some 16 := by rw [c28]; decide
      unfold pNamed
      rw [hk, hL]
      rfl
    rw [c28] at hw
    rw [hS, hL] at h
    exact x_pl28 hF hK2 hK hmono hR hnd hN0 hdp hRd hw (by omega) h
  by_cases c10 : pWl tp at0 (pWE tp sz at0) = ztn 10
  · have hL : pWE tp sz at0 = at0 + 6 := by
      rw [c10] at hlen
      have h9 : (ztn 10).length = 6 := by decide
      omega
    have hS : pNamed tp sz rec deep at0 nd = pNm tp sz rec 17 at0 (at0 + 6) deep nd := by
      have hk : pKind (pWl tp at0 (pWE tp sz at0)) = some 17 := by rw [c10]; decide
      unfold pNamed
      rw [hk, hL]
      rfl
    rw [c10] at hw
    rw [hS, hL] at h
    exact x_pl10 hF hK2 hK hmono hR hnd hN0 hdp hRd hw (by omega) h
  by_cases c20 : pWl tp at0 (pWE tp sz at0) = ztn 20
  · have hL : pWE tp sz at0 = at0 + 5 := by
      rw [c20] at hlen
      have h9 : (ztn 20).length = 5 := by decide
      omega
    have hS : pNamed tp sz rec deep at0 nd = pNm tp sz rec 18 at0 (at0 + 5) deep nd := by
      have hk : pKind (pWl tp at0 (pWE tp sz at0)) = some 18 := by rw [c20]; decide
      unfold pNamed
      rw [hk, hL]
      rfl
    rw [c20] at hw
    rw [hS, hL] at h
    exact x_pl20 hF hK2 hK hmono hR hnd hN0 hdp hRd hw (by omega) h
  by_cases c5 : pWl tp at0 (pWE tp sz at0) = ztn 5
  · have hL : pWE tp sz at0 = at0 + 2 := by
      rw [c5] at hlen
      have h9 : (ztn 5).length = 2 := by decide
      omega
    have hS : pNamed tp sz rec deep at0 nd = pNm tp sz rec 100 at0 (at0 + 2) deep nd := by
      have hk : pKind (pWl tp at0 (pWE tp sz at0)) = some 100 := by rw [c5]; decide
      unfold pNamed
      rw [hk, hL]
      rfl
    rw [c5] at hw
    rw [hS, hL] at h
    exact x_pl5 hF hK2 hK hmono hR hnd hN0 hdp hRd hw (by omega) h
  by_cases c17 : pWl tp at0 (pWE tp sz at0) = ztn 17
  · have hL : pWE tp sz at0 = at0 + 3 := by
      rw [c17] at hlen
      have h9 : (ztn 17).length = 3 := by decide
      omega
    have hS : pNamed tp sz rec deep at0 nd = pNm tp sz rec 101 at0 (at0 + 3) deep nd := by
      have hk : pKind (pWl tp at0 (pWE tp sz at0)) = some 101 := by rw [c17]; decide
      unfold pNamed
      rw [hk, hL]
      rfl
    rw [c17] at hw
    rw [hS, hL] at h
    exact x_pl17 hF hK2 hK hmono hR hnd hN0 hdp hRd hw (by omega) h
  by_cases c22 : pWl tp at0 (pWE tp sz at0) = ztn 22
  · have hL : pWE tp sz at0 = at0 + 5 := by
      rw [c22] at hlen
      have h9 : (ztn 22).length = 5 := by decide
      omega
    have hS : pNamed tp sz rec deep at0 nd = pNm tp sz rec 102 at0 (at0 + 5) deep nd := by
      have hk : pKind (pWl tp at0 (pWE tp sz at0)) = some 102 := by rw [c22]; decide
      unfold pNamed
      rw [hk, hL]
      rfl
    rw [c22] at hw
    rw [hS, hL] at h
    exact x_pl22 hF hK2 hK hmono hR hnd hN0 hdp hRd hw (by omega) h
  have hS : pNamed tp sz rec deep at0 nd = .error (1, at0) := by
    have e : ∀ v, ¬ pWl tp at0 (pWE tp sz at0) = v → (pWl tp at0 (pWE tp sz at0) == v) = false := fun v h => beq_false_of_ne h
    have e1 : pKind (pWl tp at0 (pWE tp sz at0)) = none := by unfold pKind kwd; simp only [List.lookup, e _ c15, e _ c16, e _ c18, e _ c19, e _ c6, e _ c7, e _ c11, e _ c12, e _ c13, e _ c14, e _ c21, e _ c23, e _ c24, e _ c25, e _ c26, e _ c27, e _ c28, e _ c10, e _ c20, e _ c5, e _ c17, e _ c22]
    unfold pNamed
    rw [e1]
  rw [hS] at h
  have hno : ∀ k, k ∈ [5, 6, 7, 10, 11, 12, 13, 14, 15, 16, 17, 18, 19, 20, 21, 22, 23, 24, 25, 26, 27, 28] → ¬ ztn k = pWl tp at0 (pWE tp sz at0) := by
    intro k hk e
    simp only [List.mem_cons, List.not_mem_nil, or_false] at hk
    rcases hk with rfl | rfl | rfl | rfl | rfl | rfl | rfl | rfl | rfl | rfl | rfl | rfl | rfl | rfl | rfl | rfl | rfl | rfl | rfl | rfl | rfl | rfl
    · exact c5 e.symm
    · exact c6 e.symm
    · exact c7 e.symm
    · exact c10 e.symm
    · exact c11 e.symm
    · exact c12 e.symm
    · exact c13 e.symm
    · exact c14 e.symm
    · exact c15 e.symm
    · exact c16 e.symm
    · exact c17 e.symm
    · exact c18 e.symm
    · exact c19 e.symm
    · exact c20 e.symm
    · exact c21 e.symm
    · exact c22 e.symm
    · exact c23 e.symm
    · exact c24 e.symm
    · exact c25 e.symm
    · exact c26 e.symm
    · exact c27 e.symm
    · exact c28 e.symm
  have eU : (Except.error (1, at0) : pE (zNd × Nat × Nat)) = .error (1, at0) := rfl
  refine plN hF (by omega) deep hR h8.1 h8.2 h9.1 h9.2 hN0 (by omega) hw hno hw.wd.2.1 ?_
  · intro S1 hF1 k1 w1 p1 g1 S16 q16 hF16 e16 k16 x16 g16
    exact h _ _ (xEc.err (S' := S16) hF16 (zKE.tr (zKE.tr zKE.rf (zKE.w (xFw.fr k1) (show gN S ≤ gN S from by omega) (fun _ h => h) (fun _ h => h))) (zKE.w k16 (show gN S ≤ gN S1 from by omega) (fun _ h => h) (fun _ h => h))) x16 (by omega) (eU.trans (pb_er e16)))
end X22

