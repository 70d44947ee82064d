set_option maxRecDepth 100000
/-! ===== the house reads a node that has nothing in it ===== -/
/-- what a piece of the house's reading ends with, at these costs -/
def xEc (tp : Nat → Nat) (sz r : Nat) (S : zS) (cN cZ : Nat) (s : pE (zNd × Nat × Nat)) (o : Outcome) (S' : zS) : Prop :=
  zFin true S' ∧ xFr S S' ∧ match s with
    | .error (k, p) => ∃ q, o = .threw q ∧ xFl S' q k p ∧ gN S' ≤ cN + 60 ∧ gZ S' ≤ cZ + 2000
    | .ok (x, at1, nd1) => ∃ a, o = .returned (some (.ref a)) ∧ xTl (gN S) S' x a ∧ xR tp sz S' r at1 nd1 ∧ gN S' + 30 * (sz - at1) ≤ cN ∧ gZ S' + 150 * (sz - at1) ≤ cZ
/-- what a piece of the house's reading ends with -/
def xEnd (tp : Nat → Nat) (sz r : Nat) (S : zS) (at0 : Nat) (s : pE (zNd × Nat × Nat)) (o : Outcome) (S' : zS) : Prop := xEc tp sz r S (gN S + 30 * (sz - at0)) (gZ S + 150 * (sz - at0)) s o S'
/-- a bracket and what stands in it -/
noncomputable def pW (tp : Nat → Nat) (sz : Nat) (rec : Nat → Nat → Nat → pE (zNd × Nat × Nat)) (k p deep at0 nd : Nat) : pE (zNd × Nat × Nat) := do
  let at1 ← pWant tp sz 40 at0
  pIn tp sz rec k p deep at1 nd
section X14
variable {d : Nat} {post : Outcome × zS → Prop} {tp : Nat → Nat} {sz : Nat}
theorem xEc.err {r cN cZ k p q : Nat} {S S' : zS} {s : pE (zNd × Nat × Nat)} (h1 : zFin true S') (h2 : xFr S S') (h3 : xFl S' q k p) (h4 : gN S' ≤ cN + 60 ∧ gZ S' ≤ cZ + 2000) (h5 : s = .error (k, p)) : xEc tp sz r S cN cZ s (.threw q) S' := by
  subst h5; exact ⟨h1, h2, q, rfl, h3, h4⟩
theorem xEc.good {r cN cZ at1 nd1 a : Nat} {x : zNd} {S S' : zS} {s : pE (zNd × Nat × Nat)} (h1 : zFin true S') (h2 : xFr S S') (h3 : xTl (gN S) S' x a) (h4 : xR tp sz S' r at1 nd1) (h5 : gN S' + 30 * (sz - at1) ≤ cN ∧ gZ S' + 150 * (sz - at1) ≤ cZ) (h6 : s = .ok (x, at1, nd1)) : xEc tp sz r S cN cZ s (.returned (some (.ref a))) S' := by
  subst h6; exact ⟨h1, h2, a, rfl, h3, h4, h5⟩
theorem xEnd.err {r at0 k p q : Nat} {S S' : zS} {s : pE (zNd × Nat × Nat)} (h1 : zFin true S') (h2 : xFr S S') (h3 : xFl S' q k p) (h4 : gN S' ≤ gN S + 30 * (sz - at0) + 60 ∧ gZ S' ≤ gZ S + 150 * (sz - at0) + 2000) (h5 : s = .error (k, p)) : xEnd tp sz r S at0 s (.threw q) S' := by
  subst h5; exact ⟨h1, h2, q, rfl, h3, h4⟩
theorem xEnd.good {r at0 at1 nd1 a : Nat} {x : zNd} {S S' : zS} {s : pE (zNd × Nat × Nat)} (h1 : zFin true S') (h2 : xFr S S') (h3 : xTl (gN S) S' x a) (h4 : xR tp sz S' r at1 nd1) (h5 : gN S' + 30 * (sz - at1) ≤ gN S + 30 * (sz - at0) ∧ gZ S' + 150 * (sz - at1) ≤ gZ S + 150 * (sz - at0)) (h6 : s = .ok (x, at1, nd1)) : xEnd tp sz r S at0 s (.returned (some (.ref a))) S' := by
  subst h6; exact ⟨h1, h2, a, rfl, h3, h4, h5⟩
theorem x_keyN {S : zS} (hF : zFin true S) (hd : 4 ≤ d) {r at0 nd p k deep : Nat} {rec : Nat → Nat → Nat → pE (zNd × Nat × Nat)} (hR : xR tp sz S r at0 nd) (hN2 : gN S < 1800000) (hp : p ≤ 300) (hk : k = 2 ∨ k = 3)
    (h : ∀ o S', xEnd tp sz r S at0 (pW tp sz rec k p deep at0 nd) o S' → post (o, S')) : zCall d 249 [.ref r, .int (Int32.ofNat p), .int (Int32.ofNat (k - 2))] S post := by
  have h8 := hR.2.2.2.1
  have h9 := hR.2.2.2.2.1
  rcases hk with rfl | rfl
  · have eU : pW tp sz rec 2 p deep at0 nd = (do
      let a0 ← pWant tp sz 40 at0
      let q ← pLet tp sz 65 80 a0
      let at1 ← pWant tp sz 41 q.2
      let x ← pJ (tN 2 q.1 [] p [])
      .ok (x, at1, nd)) := rfl
    refine ky2 hF (by omega) p hR h8.1 h8.2 h9.1 h9.2 hN2 hp ?_ ?_ ?_ ?_ ?_
    · intro S1 hF1 e1 k1 p1 g1 b1 S3 v3 hF3 e3 k3 p3 g3 b3 c3 S5 hF5 e5 k5 p5 g5 b5 S22 hF22 e22 j22 t22 p22 g22
      exact h _ _ (xEnd.good (S' := S22) hF22 (zKE.tr (zKE.tr (zKE.tr (zKE.tr (zKE.tr (zKE.tr (zKE.tr (zKE.tr (zKE.tr zKE.rf (zKE.w k1 (show gN S ≤ gN S from by omega) (fun _ h => h) (fun _ h => h))) (zKE.w k3 (show gN S ≤ gN S1 from by omega) (fun _ h => h) (fun _ h => h))) (zKE.w k5 (show gN S ≤ gN S3 from by omega) (fun _ h => h) (fun _ h => h))) (zKE_new (show gN S ≤ gN S5 ∧ gN S5 < zLB from ⟨by omega, by have hLB : zLB = 4294967296 := rfl; omega⟩))) (zKE_sP (Or.inr (Or.inr ⟨by omega, by have hLB : zLB = 4294967296 := rfl; omega⟩)))) (zKE_sI (Or.inr (Or.inr ⟨by omega, by have hLB : zLB = 4294967296 := rfl; omega⟩)))) (zKE_sI (Or.inr (Or.inr ⟨by omega, by have hLB : zLB = 4294967296 := rfl; omega⟩)))) (zKE_sI (Or.inr (Or.inr ⟨by omega, by have hLB : zLB = 4294967296 := rfl; omega⟩)))) (xJd.ke j22 ⟨by omega, by have hLB : zLB = 4294967296 := rfl; omega⟩)) t22 p22 (by omega) (eU.trans ((pb_ok e1).trans ((pb_ok e3).trans ((pb_ok e5).trans ((pb_ok e22).trans (rfl)))))))
    · intro S1 hF1 e1 k1 p1 g1 b1 S3 v3 hF3 e3 k3 p3 g3 b3 c3 S5 hF5 e5 k5 p5 g5 b5 S23 q23 hF23 e23 k23 x23 g23
      exact h _ _ (xEnd.err (S' := S23) hF23 (zKE.tr (zKE.tr (zKE.tr (zKE.tr (zKE.tr (zKE.tr (zKE.tr (zKE.tr (zKE.tr zKE.rf (zKE.w k1 (show gN S ≤ gN S from by omega) (fun _ h => h) (fun _ h => h))) (zKE.w k3 (show gN S ≤ gN S1 from by omega) (fun _ h => h) (fun _ h => h))) (zKE.w k5 (show gN S ≤ gN S3 from by omega) (fun _ h => h) (fun _ h => h))) (zKE_new (show gN S ≤ gN S5 ∧ gN S5 < zLB from ⟨by omega, by have hLB : zLB = 4294967296 := rfl; omega⟩))) (zKE_sP (Or.inr (Or.inr ⟨by omega, by have hLB : zLB = 4294967296 := rfl; omega⟩)))) (zKE_sI (Or.inr (Or.inr ⟨by omega, by have hLB : zLB = 4294967296 := rfl; omega⟩)))) (zKE_sI (Or.inr (Or.inr ⟨by omega, by have hLB : zLB = 4294967296 := rfl; omega⟩)))) (zKE_sI (Or.inr (Or.inr ⟨by omega, by have hLB : zLB = 4294967296 := rfl; omega⟩)))) (xFn.ke k23 (show gN S ≤ gN S5 + 1 from by omega) ⟨by omega, by have hLB : zLB = 4294967296 := rfl; omega⟩)) x23 (by omega) (eU.trans ((pb_ok e1).trans ((pb_ok e3).trans ((pb_ok e5).trans (pb_er e23))))))
    · intro S1 hF1 e1 k1 p1 g1 b1 S3 v3 hF3 e3 k3 p3 g3 b3 c3 S6 q6 hF6 e6 k6 x6 g6
      exact h _ _ (xEnd.err (S' := S6) hF6 (zKE.tr (zKE.tr (zKE.tr zKE.rf (zKE.w k1 (show gN S ≤ gN S from by omega) (fun _ h => h) (fun _ h => h))) (zKE.w k3 (show gN S ≤ gN S1 from by omega) (fun _ h => h) (fun _ h => h))) (zKE.w k6 (show gN S ≤ gN S3 from by omega) (fun _ h => h) (fun _ h => h))) x6 (by omega) (eU.trans ((pb_ok e1).trans ((pb_ok e3).trans (pb_er e6)))))
    · intro S1 hF1 e1 k1 p1 g1 b1 S4 q4 hF4 e4 k4 x4 g4
      exact h _ _ (xEnd.err (S' := S4) hF4 (zKE.tr (zKE.tr zKE.rf (zKE.w k1 (show gN S ≤ gN S from by omega) (fun _ h => h) (fun _ h => h))) (zKE.w k4 (show gN S ≤ gN S1 from by omega) (fun _ h => h) (fun _ h => h))) x4 (by omega) (eU.trans ((pb_ok e1).trans (pb_er e4))))
    · intro S2 q2 hF2 e2 k2 x2 g2
      exact h _ _ (xEnd.err (S' := S2) hF2 (zKE.tr zKE.rf (zKE.w k2 (show gN S ≤ gN S from by omega) (fun _ h => h) (fun _ h => h))) x2 (by omega) (eU.trans (pb_er e2)))
  · have eU : pW tp sz rec 3 p deep at0 nd = (do
      let a0 ← pWant tp sz 40 at0
      let q ← pLet tp sz 65 80 a0
      let at1 ← pWant tp sz 41 q.2
      let x ← pJ (tN 3 q.1 [] p [])
      .ok (x, at1, nd)) := rfl
    refine ky3 hF (by omega) p hR h8.1 h8.2 h9.1 h9.2 hN2 hp ?_ ?_ ?_ ?_ ?_
    · intro S1 hF1 e1 k1 p1 g1 b1 S3 v3 hF3 e3 k3 p3 g3 b3 c3 S5 hF5 e5 k5 p5 g5 b5 S22 hF22 e22 j22 t22 p22 g22
      exact h _ _ (xEnd.good (S' := S22) hF22 (zKE.tr (zKE.tr (zKE.tr (zKE.tr (zKE.tr (zKE.tr (zKE.tr (zKE.tr (zKE.tr zKE.rf (zKE.w k1 (show gN S ≤ gN S from by omega) (fun _ h => h) (fun _ h => h))) (zKE.w k3 (show gN S ≤ gN S1 from by omega) (fun _ h => h) (fun _ h => h))) (zKE.w k5 (show gN S ≤ gN S3 from by omega) (fun _ h => h) (fun _ h => h))) (zKE_new (show gN S ≤ gN S5 ∧ gN S5 < zLB from ⟨by omega, by have hLB : zLB = 4294967296 := rfl; omega⟩))) (zKE_sP (Or.inr (Or.inr ⟨by omega, by have hLB : zLB = 4294967296 := rfl; omega⟩)))) (zKE_sI (Or.inr (Or.inr ⟨by omega, by have hLB : zLB = 4294967296 := rfl; omega⟩)))) (zKE_sI (Or.inr (Or.inr ⟨by omega, by have hLB : zLB = 4294967296 := rfl; omega⟩)))) (zKE_sI (Or.inr (Or.inr ⟨by omega, by have hLB : zLB = 4294967296 := rfl; omega⟩)))) (xJd.ke j22 ⟨by omega, by have hLB : zLB = 4294967296 := rfl; omega⟩)) t22 p22 (by omega) (eU.trans ((pb_ok e1).trans ((pb_ok e3).trans ((pb_ok e5).trans ((pb_ok e22).trans (rfl)))))))
    · intro S1 hF1 e1 k1 p1 g1 b1 S3 v3 hF3 e3 k3 p3 g3 b3 c3 S5 hF5 e5 k5 p5 g5 b5 S23 q23 hF23 e23 k23 x23 g23
      exact h _ _ (xEnd.err (S' := S23) hF23 (zKE.tr (zKE.tr (zKE.tr (zKE.tr (zKE.tr (zKE.tr (zKE.tr (zKE.tr (zKE.tr zKE.rf (zKE.w k1 (show gN S ≤ gN S from by omega) (fun _ h => h) (fun _ h => h))) (zKE.w k3 (show gN S ≤ gN S1 from by omega) (fun _ h => h) (fun _ h => h))) (zKE.w k5 (show gN S ≤ gN S3 from by omega) (fun _ h => h) (fun _ h => h))) (zKE_new (show gN S ≤ gN S5 ∧ gN S5 < zLB from ⟨by omega, by have hLB : zLB = 4294967296 := rfl; omega⟩))) (zKE_sP (Or.inr (Or.inr ⟨by omega, by have hLB : zLB = 4294967296 := rfl; omega⟩)))) (zKE_sI (Or.inr (Or.inr ⟨by omega, by have hLB : zLB = 4294967296 := rfl; omega⟩)))) (zKE_sI (Or.inr (Or.inr ⟨by omega, by have hLB : zLB = 4294967296 := rfl; omega⟩)))) (zKE_sI (Or.inr (Or.inr ⟨by omega, by have hLB : zLB = 4294967296 := rfl; omega⟩)))) (xFn.ke k23 (show gN S ≤ gN S5 + 1 from by omega) ⟨by omega, by have hLB : zLB = 4294967296 := rfl; omega⟩)) x23 (by omega) (eU.trans ((pb_ok e1).trans ((pb_ok e3).trans ((pb_ok e5).trans (pb_er e23))))))
    · intro S1 hF1 e1 k1 p1 g1 b1 S3 v3 hF3 e3 k3 p3 g3 b3 c3 S6 q6 hF6 e6 k6 x6 g6
      exact h _ _ (xEnd.err (S' := S6) hF6 (zKE.tr (zKE.tr (zKE.tr zKE.rf (zKE.w k1 (show gN S ≤ gN S from by omega) (fun _ h => h) (fun _ h => h))) (zKE.w k3 (show gN S ≤ gN S1 from by omega) (fun _ h => h) (fun _ h => h))) (zKE.w k6 (show gN S ≤ gN S3 from by omega) (fun _ h => h) (fun _ h => h))) x6 (by omega) (eU.trans ((pb_ok e1).trans ((pb_ok e3).trans (pb_er e6)))))
    · intro S1 hF1 e1 k1 p1 g1 b1 S4 q4 hF4 e4 k4 x4 g4
      exact h _ _ (xEnd.err (S' := S4) hF4 (zKE.tr (zKE.tr zKE.rf (zKE.w k1 (show gN S ≤ gN S from by omega) (fun _ h => h) (fun _ h => h))) (zKE.w k4 (show gN S ≤ gN S1 from by omega) (fun _ h => h) (fun _ h => h))) x4 (by omega) (eU.trans ((pb_ok e1).trans (pb_er e4))))
    · intro S2 q2 hF2 e2 k2 x2 g2
      exact h _ _ (xEnd.err (S' := S2) hF2 (zKE.tr zKE.rf (zKE.w k2 (show gN S ≤ gN S from by omega) (fun _ h => h) (fun _ h => h))) x2 (by omega) (eU.trans (pb_er e2)))
theorem x_lock {S : zS} (hF : zFin true S) (hd : 4 ≤ d) {r at0 nd p k deep : Nat} {rec : Nat → Nat → Nat → pE (zNd × Nat × Nat)} (hR : xR tp sz S r at0 nd) (hN2 : gN S < 1800000) (hp : p ≤ 300) (hk : k = 4 ∨ k = 5)
    (h : ∀ o S', xEnd tp sz r S at0 (pW tp sz rec k p deep at0 nd) o S' → post (o, S')) : zCall d 254 [.ref r, .int (Int32.ofNat p), .int (Int32.ofNat (5 - k))] S post := by
  have h8 := hR.2.2.2.1
  have h9 := hR.2.2.2.2.1
  rcases hk with rfl | rfl
  · have eU : pW tp sz rec 4 p deep at0 nd = (do
      let a0 ← pWant tp sz 40 at0
      let q ← pNum tp sz a0
      let at1 ← pWant tp sz 41 q.2
      let x ← pJ (tN 4 q.1 [] p [])
      .ok (x, at1, nd)) := rfl
    refine lk4 hF (by omega) p hR h8.1 h8.2 h9.1 h9.2 hN2 hp ?_ ?_ ?_ ?_ ?_
    · intro S1 hF1 e1 k1 p1 g1 b1 S3 v3 at3 hF3 e3 k3 p3 g3 b3 c3 d3 S5 hF5 e5 k5 p5 g5 b5 S22 hF22 e22 j22 t22 p22 g22
      exact h _ _ (xEnd.good (S' := S22) hF22 (zKE.tr (zKE.tr (zKE.tr (zKE.tr (zKE.tr (zKE.tr (zKE.tr (zKE.tr (zKE.tr zKE.rf (zKE.w k1 (show gN S ≤ gN S from by omega) (fun _ h => h) (fun _ h => h))) (zKE.w k3 (show gN S ≤ gN S1 from by omega) (fun _ h => h) (fun _ h => h))) (zKE.w k5 (show gN S ≤ gN S3 from by omega) (fun _ h => h) (fun _ h => h))) (zKE_new (show gN S ≤ gN S5 ∧ gN S5 < zLB from ⟨by omega, by have hLB : zLB = 4294967296 := rfl; omega⟩))) (zKE_sP (Or.inr (Or.inr ⟨by omega, by have hLB : zLB = 4294967296 := rfl; omega⟩)))) (zKE_sI (Or.inr (Or.inr ⟨by omega, by have hLB : zLB = 4294967296 := rfl; omega⟩)))) (zKE_sI (Or.inr (Or.inr ⟨by omega, by have hLB : zLB = 4294967296 := rfl; omega⟩)))) (zKE_sI (Or.inr (Or.inr ⟨by omega, by have hLB : zLB = 4294967296 := rfl; omega⟩)))) (xJd.ke j22 ⟨by omega, by have hLB : zLB = 4294967296 := rfl; omega⟩)) t22 p22 (by omega) (eU.trans ((pb_ok e1).trans ((pb_ok e3).trans ((pb_ok e5).trans ((pb_ok e22).trans (rfl)))))))
    · intro S1 hF1 e1 k1 p1 g1 b1 S3 v3 at3 hF3 e3 k3 p3 g3 b3 c3 d3 S5 hF5 e5 k5 p5 g5 b5 S23 q23 hF23 e23 k23 x23 g23
      exact h _ _ (xEnd.err (S' := S23) hF23 (zKE.tr (zKE.tr (zKE.tr (zKE.tr (zKE.tr (zKE.tr (zKE.tr (zKE.tr (zKE.tr zKE.rf (zKE.w k1 (show gN S ≤ gN S from by omega) (fun _ h => h) (fun _ h => h))) (zKE.w k3 (show gN S ≤ gN S1 from by omega) (fun _ h => h) (fun _ h => h))) (zKE.w k5 (show gN S ≤ gN S3 from by omega) (fun _ h => h) (fun _ h => h))) (zKE_new (show gN S ≤ gN S5 ∧ gN S5 < zLB from ⟨by omega, by have hLB : zLB = 4294967296 := rfl; omega⟩))) (zKE_sP (Or.inr (Or.inr ⟨by omega, by have hLB : zLB = 4294967296 := rfl; omega⟩)))) (zKE_sI (Or.inr (Or.inr ⟨by omega, by have hLB : zLB = 4294967296 := rfl; omega⟩)))) (zKE_sI (Or.inr (Or.inr ⟨by omega, by have hLB : zLB = 4294967296 := rfl; omega⟩)))) (zKE_sI (Or.inr (Or.inr ⟨by omega, by have hLB : zLB = 4294967296 := rfl; omega⟩)))) (xFn.ke k23 (show gN S ≤ gN S5 + 1 from by omega) ⟨by omega, by have hLB : zLB = 4294967296 := rfl; omega⟩)) x23 (by omega) (eU.trans ((pb_ok e1).trans ((pb_ok e3).trans ((pb_ok e5).trans (pb_er e23))))))
    · intro S1 hF1 e1 k1 p1 g1 b1 S3 v3 at3 hF3 e3 k3 p3 g3 b3 c3 d3 S6 q6 hF6 e6 k6 x6 g6
      exact h _ _ (xEnd.err (S' := S6) hF6 (zKE.tr (zKE.tr (zKE.tr zKE.rf (zKE.w k1 (show gN S ≤ gN S from by omega) (fun _ h => h) (fun _ h => h))) (zKE.w k3 (show gN S ≤ gN S1 from by omega) (fun _ h => h) (fun _ h => h))) (zKE.w k6 (show gN S ≤ gN S3 from by omega) (fun _ h => h) (fun _ h => h))) x6 (by omega) (eU.trans ((pb_ok e1).trans ((pb_ok e3).trans (pb_er e6)))))
    · intro S1 hF1 e1 k1 p1 g1 b1 S4 q4 z4 hF4 e4 k4 x4 g4
      exact h _ _ (xEnd.err (S' := S4) hF4 (zKE.tr (zKE.tr zKE.rf (zKE.w k1 (show gN S ≤ gN S from by omega) (fun _ h => h) (fun _ h => h))) (zKE.w k4 (show gN S ≤ gN S1 from by omega) (fun _ h => h) (fun _ h => h))) x4 (by omega) (eU.trans ((pb_ok e1).trans (pb_er e4))))
    · intro S2 q2 hF2 e2 k2 x2 g2
      exact h _ _ (xEnd.err (S' := S2) hF2 (zKE.tr zKE.rf (zKE.w k2 (show gN S ≤ gN S from by omega) (fun _ h => h) (fun _ h => h))) x2 (by omega) (eU.trans (pb_er e2)))
  · have eU : pW tp sz rec 5 p deep at0 nd = (do
      let a0 ← pWant tp sz 40 at0
      let q ← pNum tp sz a0
      let at1 ← pWant tp sz 41 q.2
      let x ← pJ (tN 5 q.1 [] p [])
      .ok (x, at1, nd)) := rfl
    refine lk5 hF (by omega) p hR h8.1 h8.2 h9.1 h9.2 hN2 hp ?_ ?_ ?_ ?_ ?_
    · intro S1 hF1 e1 k1 p1 g1 b1 S3 v3 at3 hF3 e3 k3 p3 g3 b3 c3 d3 S5 hF5 e5 k5 p5 g5 b5 S22 hF22 e22 j22 t22 p22 g22
      exact h _ _ (xEnd.good (S' := S22) hF22 (zKE.tr (zKE.tr (zKE.tr (zKE.tr (zKE.tr (zKE.tr (zKE.tr (zKE.tr (zKE.tr zKE.rf (zKE.w k1 (show gN S ≤ gN S from by omega) (fun _ h => h) (fun _ h => h))) (zKE.w k3 (show gN S ≤ gN S1 from by omega) (fun _ h => h) (fun _ h => h))) (zKE.w k5 (show gN S ≤ gN S3 from by omega) (fun _ h => h) (fun _ h => h))) (zKE_new (show gN S ≤ gN S5 ∧ gN S5 < zLB from ⟨by omega, by have hLB : zLB = 4294967296 := rfl; omega⟩))) (zKE_sP (Or.inr (Or.inr ⟨by omega, by have hLB : zLB = 4294967296 := rfl; omega⟩)))) (zKE_sI (Or.inr (Or.inr ⟨by omega, by have hLB : zLB = 4294967296 := rfl; omega⟩)))) (zKE_sI (Or.inr (Or.inr ⟨by omega, by have hLB : zLB = 4294967296 := rfl; omega⟩)))) (zKE_sI (Or.inr (Or.inr ⟨by omega, by have hLB : zLB = 4294967296 := rfl; omega⟩)))) (xJd.ke j22 ⟨by omega, by have hLB : zLB = 4294967296 := rfl; omega⟩)) t22 p22 (by omega) (eU.trans ((pb_ok e1).trans ((pb_ok e3).trans ((pb_ok e5).trans ((pb_ok e22).trans (rfl)))))))
    · intro S1 hF1 e1 k1 p1 g1 b1 S3 v3 at3 hF3 e3 k3 p3 g3 b3 c3 d3 S5 hF5 e5 k5 p5 g5 b5 S23 q23 hF23 e23 k23 x23 g23
      exact h _ _ (xEnd.err (S' := S23) hF23 (zKE.tr (zKE.tr (zKE.tr (zKE.tr (zKE.tr (zKE.tr (zKE.tr (zKE.tr (zKE.tr zKE.rf (zKE.w k1 (show gN S ≤ gN S from by omega) (fun _ h => h) (fun _ h => h))) (zKE.w k3 (show gN S ≤ gN S1 from by omega) (fun _ h => h) (fun _ h => h))) (zKE.w k5 (show gN S ≤ gN S3 from by omega) (fun _ h => h) (fun _ h => h))) (zKE_new (show gN S ≤ gN S5 ∧ gN S5 < zLB from ⟨by omega, by have hLB : zLB = 4294967296 := rfl; omega⟩))) (zKE_sP (Or.inr (Or.inr ⟨by omega, by have hLB : zLB = 4294967296 := rfl; omega⟩)))) (zKE_sI (Or.inr (Or.inr ⟨by omega, by have hLB : zLB = 4294967296 := rfl; omega⟩)))) (zKE_sI (Or.inr (Or.inr ⟨by omega, by have hLB : zLB = 4294967296 := rfl; omega⟩)))) (zKE_sI (Or.inr (Or.inr ⟨by omega, by have hLB : zLB = 4294967296 := rfl; omega⟩)))) (xFn.ke k23 (show gN S ≤ gN S5 + 1 from by omega) ⟨by omega, by have hLB : zLB = 4294967296 := rfl; omega⟩)) x23 (by omega) (eU.trans ((pb_ok e1).trans ((pb_ok e3).trans ((pb_ok e5).trans (pb_er e23))))))
    · intro S1 hF1 e1 k1 p1 g1 b1 S3 v3 at3 hF3 e3 k3 p3 g3 b3 c3 d3 S6 q6 hF6 e6 k6 x6 g6
      exact h _ _ (xEnd.err (S' := S6) hF6 (zKE.tr (zKE.tr (zKE.tr zKE.rf (zKE.w k1 (show gN S ≤ gN S from by omega) (fun _ h => h) (fun _ h => h))) (zKE.w k3 (show gN S ≤ gN S1 from by omega) (fun _ h => h) (fun _ h => h))) (zKE.w k6 (show gN S ≤ gN S3 from by omega) (fun _ h => h) (fun _ h => h))) x6 (by omega) (eU.trans ((pb_ok e1).trans ((pb_ok e3).trans (pb_er e6)))))
    · intro S1 hF1 e1 k1 p1 g1 b1 S4 q4 z4 hF4 e4 k4 x4 g4
      exact h _ _ (xEnd.err (S' := S4) hF4 (zKE.tr (zKE.tr zKE.rf (zKE.w k1 (show gN S ≤ gN S from by omega) (fun _ h => h) (fun _ h => h))) (zKE.w k4 (show gN S ≤ gN S1 from by omega) (fun _ h => h) (fun _ h => h))) x4 (by omega) (eU.trans ((pb_ok e1).trans (pb_er e4))))
    · intro S2 q2 hF2 e2 k2 x2 g2
      exact h _ _ (xEnd.err (S' := S2) hF2 (zKE.tr zKE.rf (zKE.w k2 (show gN S ≤ gN S from by omega) (fun _ h => h) (fun _ h => h))) x2 (by omega) (eU.trans (pb_er e2)))
theorem x_image {S : zS} (hF : zFin true S) (hd : 4 ≤ d) {r at0 nd p k deep : Nat} {rec : Nat → Nat → Nat → pE (zNd × Nat × Nat)} (hR : xR tp sz S r at0 nd) (hN2 : gN S < 1800000) (hp : p ≤ 300) (hk : k = 6 ∨ k = 7 ∨ k = 8 ∨ k = 9)
    (h : ∀ o S', xEnd tp sz r S at0 (pW tp sz rec k p deep at0 nd) o S' → post (o, S')) : zCall d 257 [.ref r, .int (Int32.ofNat p), .int (Int32.ofNat (k - 6))] S post := by
  have h8 := hR.2.2.2.1
  have h9 := hR.2.2.2.2.1
  rcases hk with rfl | rfl | rfl | rfl
  · have eU : pW tp sz rec 6 p deep at0 nd = (do
      let a0 ← pWant tp sz 40 at0
      let q ← pLet tp sz 48 55 a0
      let at1 ← pWant tp sz 41 q.2
      let x ← pJ (tN 6 q.1 [] p [])
      .ok (x, at1, nd)) := rfl
    refine im6 hF (by omega) p hR h8.1 h8.2 h9.1 h9.2 hN2 hp ?_ ?_ ?_ ?_ ?_
    · intro S1 hF1 e1 k1 p1 g1 b1 S3 v3 hF3 e3 k3 p3 g3 b3 c3 S5 hF5 e5 k5 p5 g5 b5 S22 hF22 e22 j22 t22 p22 g22
      exact h _ _ (xEnd.good (S' := S22) hF22 (zKE.tr (zKE.tr (zKE.tr (zKE.tr (zKE.tr (zKE.tr (zKE.tr (zKE.tr (zKE.tr zKE.rf (zKE.w k1 (show gN S ≤ gN S from by omega) (fun _ h => h) (fun _ h => h))) (zKE.w k3 (show gN S ≤ gN S1 from by omega) (fun _ h => h) (fun _ h => h))) (zKE.w k5 (show gN S ≤ gN S3 from by omega) (fun _ h => h) (fun _ h => h))) (zKE_new (show gN S ≤ gN S5 ∧ gN S5 < zLB from ⟨by omega, by have hLB : zLB = 4294967296 := rfl; omega⟩))) (zKE_sP (Or.inr (Or.inr ⟨by omega, by have hLB : zLB = 4294967296 := rfl; omega⟩)))) (zKE_sI (Or.inr (Or.inr ⟨by omega, by have hLB : zLB = 4294967296 := rfl; omega⟩)))) (zKE_sI (Or.inr (Or.inr ⟨by omega, by have hLB : zLB = 4294967296 := rfl; omega⟩)))) (zKE_sI (Or.inr (Or.inr ⟨by omega, by have hLB : zLB = 4294967296 := rfl; omega⟩)))) (xJd.ke j22 ⟨by omega, by have hLB : zLB = 4294967296 := rfl; omega⟩)) t22 p22 (by omega) (eU.trans ((pb_ok e1).trans ((pb_ok e3).trans ((pb_ok e5).trans ((pb_ok e22).trans (rfl)))))))
    · intro S1 hF1 e1 k1 p1 g1 b1 S3 v3 hF3 e3 k3 p3 g3 b3 c3 S5 hF5 e5 k5 p5 g5 b5 S23 q23 hF23 e23 k23 x23 g23
      exact h _ _ (xEnd.err (S' := S23) hF23 (zKE.tr (zKE.tr (zKE.tr (zKE.tr (zKE.tr (zKE.tr (zKE.tr (zKE.tr (zKE.tr zKE.rf (zKE.w k1 (show gN S ≤ gN S from by omega) (fun _ h => h) (fun _ h => h))) (zKE.w k3 (show gN S ≤ gN S1 from by omega) (fun _ h => h) (fun _ h => h))) (zKE.w k5 (show gN S ≤ gN S3 from by omega) (fun _ h => h) (fun _ h => h))) (zKE_new (show gN S ≤ gN S5 ∧ gN S5 < zLB from ⟨by omega, by have hLB : zLB = 4294967296 := rfl; omega⟩))) (zKE_sP (Or.inr (Or.inr ⟨by omega, by have hLB : zLB = 4294967296 := rfl; omega⟩)))) (zKE_sI (Or.inr (Or.inr ⟨by omega, by have hLB : zLB = 4294967296 := rfl; omega⟩)))) (zKE_sI (Or.inr (Or.inr ⟨by omega, by have hLB : zLB = 4294967296 := rfl; omega⟩)))) (zKE_sI (Or.inr (Or.inr ⟨by omega, by have hLB : zLB = 4294967296 := rfl; omega⟩)))) (xFn.ke k23 (show gN S ≤ gN S5 + 1 from by omega) ⟨by omega, by have hLB : zLB = 4294967296 := rfl; omega⟩)) x23 (by omega) (eU.trans ((pb_ok e1).trans ((pb_ok e3).trans ((pb_ok e5).trans (pb_er e23))))))
    · intro S1 hF1 e1 k1 p1 g1 b1 S3 v3 hF3 e3 k3 p3 g3 b3 c3 S6 q6 hF6 e6 k6 x6 g6
      exact h _ _ (xEnd.err (S' := S6) hF6 (zKE.tr (zKE.tr (zKE.tr zKE.rf (zKE.w k1 (show gN S ≤ gN S from by omega) (fun _ h => h) (fun _ h => h))) (zKE.w k3 (show gN S ≤ gN S1 from by omega) (fun _ h => h) (fun _ h => h))) (zKE.w k6 (show gN S ≤ gN S3 from by omega) (fun _ h => h) (fun _ h => h))) x6 (by omega) (eU.trans ((pb_ok e1).trans ((pb_ok e3).trans (pb_er e6)))))
    · intro S1 hF1 e1 k1 p1 g1 b1 S4 q4 hF4 e4 k4 x4 g4
      exact h _ _ (xEnd.err (S' := S4) hF4 (zKE.tr (zKE.tr zKE.rf (zKE.w k1 (show gN S ≤ gN S from by omega) (fun _ h => h) (fun _ h => h))) (zKE.w k4 (show gN S ≤ gN S1 from by omega) (fun _ h => h) (fun _ h => h))) x4 (by omega) (eU.trans ((pb_ok e1).trans (pb_er e4))))
    · intro S2 q2 hF2 e2 k2 x2 g2
      exact h _ _ (xEnd.err (S' := S2) hF2 (zKE.tr zKE.rf (zKE.w k2 (show gN S ≤ gN S from by omega) (fun _ h => h) (fun _ h => h))) x2 (by omega) (eU.trans (pb_er e2)))
  · have eU : pW tp sz rec 7 p deep at0 nd = (do
      let a0 ← pWant tp sz 40 at0
      let q ← pLet tp sz 48 55 a0
      let at1 ← pWant tp sz 41 q.2
      let x ← pJ (tN 7 q.1 [] p [])
      .ok (x, at1, nd)) := rfl
    refine im7 hF (by omega) p hR h8.1 h8.2 h9.1 h9.2 hN2 hp ?_ ?_ ?_ ?_ ?_
    · intro S1 hF1 e1 k1 p1 g1 b1 S3 v3 hF3 e3 k3 p3 g3 b3 c3 S5 hF5 e5 k5 p5 g5 b5 S22 hF22 e22 j22 t22 p22 g22
      exact h _ _ (xEnd.good (S' := S22) hF22 (zKE.tr (zKE.tr (zKE.tr (zKE.tr (zKE.tr (zKE.tr (zKE.tr (zKE.tr (zKE.tr zKE.rf (zKE.w k1 (show gN S ≤ gN S from by omega) (fun _ h => h) (fun _ h => h))) (zKE.w k3 (show gN S ≤ gN S1 from by omega) (fun _ h => h) (fun _ h => h))) (zKE.w k5 (show gN S ≤ gN S3 from by omega) (fun _ h => h) (fun _ h => h))) (zKE_new (show gN S ≤ gN S5 ∧ gN S5 < zLB from ⟨by omega, by have hLB : zLB = 4294967296 := rfl; omega⟩))) (zKE_sP (Or.inr (Or.inr ⟨by omega, by have hLB : zLB = 4294967296 := rfl; omega⟩)))) (zKE_sI (Or.inr (Or.inr ⟨by omega, by have hLB : zLB = 4294967296 := rfl; omega⟩)))) (zKE_sI (Or.inr (Or.inr ⟨by omega, by have hLB : zLB = 4294967296 := rfl; omega⟩)))) (zKE_sI (Or.inr (Or.inr ⟨by omega, by have hLB : zLB = 4294967296 := rfl; omega⟩)))) (xJd.ke j22 ⟨by omega, by have hLB : zLB = 4294967296 := rfl; omega⟩)) t22 p22 (by omega) (eU.trans ((pb_ok e1).trans ((pb_ok e3).trans ((pb_ok e5).trans ((pb_ok e22).trans (rfl)))))))
    · intro S1 hF1 e1 k1 p1 g1 b1 S3 v3 hF3 e3 k3 p3 g3 b3 c3 S5 hF5 e5 k5 p5 g5 b5 S23 q23 hF23 e23 k23 x23 g23
      exact h _ _ (xEnd.err (S' := S23) hF23 (zKE.tr (zKE.tr (zKE.tr (zKE.tr (zKE.tr (zKE.tr (zKE.tr (zKE.tr (zKE.tr zKE.rf (zKE.w k1 (show gN S ≤ gN S from by omega) (fun _ h => h) (fun _ h => h))) (zKE.w k3 (show gN S ≤ gN S1 from by omega) (fun _ h => h) (fun _ h => h))) (zKE.w k5 (show gN S ≤ gN S3 from by omega) (fun _ h => h) (fun _ h => h))) (zKE_new (show gN S ≤ gN S5 ∧ gN S5 < zLB from ⟨by omega, by have hLB : zLB = 4294967296 := rfl; omega⟩))) (zKE_sP (Or.inr (Or.inr ⟨by omega, by have hLB : zLB = 4294967296 := rfl; omega⟩)))) (zKE_sI (Or.inr (Or.inr ⟨by omega, by have hLB : zLB = 4294967296 := rfl; omega⟩)))) (zKE_sI (Or.inr (Or.inr ⟨by omega, by have hLB : zLB = 4294967296 := rfl; omega⟩)))) (zKE_sI (Or.inr (Or.inr ⟨by omega, by have hLB : zLB = 4294967296 := rfl; omega⟩)))) (xFn.ke k23 (show gN S ≤ gN S5 + 1 from by omega) ⟨by omega, by have hLB : zLB = 4294967296 := rfl; omega⟩)) x23 (by omega) (eU.trans ((pb_ok e1).trans ((pb_ok e3).trans ((pb_ok e5).trans (pb_er e23))))))
    · intro S1 hF1 e1 k1 p1 g1 b1 S3 v3 hF3 e3 k3 p3 g3 b3 c3 S6 q6 hF6 e6 k6 x6 g6
      exact h _ _ (xEnd.err (S' := S6) hF6 (zKE.tr (zKE.tr (zKE.tr zKE.rf (zKE.w k1 (show gN S ≤ gN S from by omega) (fun _ h => h) (fun _ h => h))) (zKE.w k3 (show gN S ≤ gN S1 from by omega) (fun _ h => h) (fun _ h => h))) (zKE.w k6 (show gN S ≤ gN S3 from by omega) (fun _ h => h) (fun _ h => h))) x6 (by omega) (eU.trans ((pb_ok e1).trans ((pb_ok e3).trans (pb_er e6)))))
    · intro S1 hF1 e1 k1 p1 g1 b1 S4 q4 hF4 e4 k4 x4 g4
      exact h _ _ (xEnd.err (S' := S4) hF4 (zKE.tr (zKE.tr zKE.rf (zKE.w k1 (show gN S ≤ gN S from by omega) (fun _ h => h) (fun _ h => h))) (zKE.w k4 (show gN S ≤ gN S1 from by omega) (fun _ h => h) (fun _ h => h))) x4 (by omega) (eU.trans ((pb_ok e1).trans (pb_er e4))))
    · intro S2 q2 hF2 e2 k2 x2 g2
      exact h _ _ (xEnd.err (S' := S2) hF2 (zKE.tr zKE.rf (zKE.w k2 (show gN S ≤ gN S from by omega) (fun _ h => h) (fun _ h => h))) x2 (by omega) (eU.trans (pb_er e2)))
  · have eU : pW tp sz rec 8 p deep at0 nd = (do
      let a0 ← pWant tp sz 40 at0
      let q ← pLet tp sz 48 55 a0
      let at1 ← pWant tp sz 41 q.2
      let x ← pJ (tN 8 q.1 [] p [])
      .ok (x, at1, nd)) := rfl
    refine im8 hF (by omega) p hR h8.1 h8.2 h9.1 h9.2 hN2 hp ?_ ?_ ?_ ?_ ?_
    · intro S1 hF1 e1 k1 p1 g1 b1 S3 v3 hF3 e3 k3 p3 g3 b3 c3 S5 hF5 e5 k5 p5 g5 b5 S22 hF22 e22 j22 t22 p22 g22
      exact h _ _ (xEnd.good (S' := S22) hF22 (zKE.tr (zKE.tr (zKE.tr (zKE.tr (zKE.tr (zKE.tr (zKE.tr (zKE.tr (zKE.tr zKE.rf (zKE.w k1 (show gN S ≤ gN S from by omega) (fun _ h => h) (fun _ h => h))) (zKE.w k3 (show gN S ≤ gN S1 from by omega) (fun _ h => h) (fun _ h => h))) (zKE.w k5 (show gN S ≤ gN S3 from by omega) (fun _ h => h) (fun _ h => h))) (zKE_new (show gN S ≤ gN S5 ∧ gN S5 < zLB from ⟨by omega, by have hLB : zLB = 4294967296 := rfl; omega⟩))) (zKE_sP (Or.inr (Or.inr ⟨by omega, by have hLB : zLB = 4294967296 := rfl; omega⟩)))) (zKE_sI (Or.inr (Or.inr ⟨by omega, by have hLB : zLB = 4294967296 := rfl; omega⟩)))) (zKE_sI (Or.inr (Or.inr ⟨by omega, by have hLB : zLB = 4294967296 := rfl; omega⟩)))) (zKE_sI (Or.inr (Or.inr ⟨by omega, by have hLB : zLB = 4294967296 := rfl; omega⟩)))) (xJd.ke j22 ⟨by omega, by have hLB : zLB = 4294967296 := rfl; omega⟩)) t22 p22 (by omega) (eU.trans ((pb_ok e1).trans ((pb_ok e3).trans ((pb_ok e5).trans ((pb_ok e22).trans (rfl)))))))
    · intro S1 hF1 e1 k1 p1 g1 b1 S3 v3 hF3 e3 k3 p3 g3 b3 c3 S5 hF5 e5 k5 p5 g5 b5 S23 q23 hF23 e23 k23 x23 g23
      exact h _ _ (xEnd.err (S' := S23) hF23 (zKE.tr (zKE.tr (zKE.tr (zKE.tr (zKE.tr (zKE.tr (zKE.tr (zKE.tr (zKE.tr zKE.rf (zKE.w k1 (show gN S ≤ gN S from by omega) (fun _ h => h) (fun _ h => h))) (zKE.w k3 (show gN S ≤ gN S1 from by omega) (fun _ h => h) (fun _ h => h))) (zKE.w k5 (show gN S ≤ gN S3 from by omega) (fun _ h => h) (fun _ h => h))) (zKE_new (show gN S ≤ gN S5 ∧ gN S5 < zLB from ⟨by omega, by have hLB : zLB = 4294967296 := rfl; omega⟩))) (zKE_sP (Or.inr (Or.inr ⟨by omega, by have hLB : zLB = 4294967296 := rfl; omega⟩)))) (zKE_sI (Or.inr (Or.inr ⟨by omega, by have hLB : zLB = 4294967296 := rfl; omega⟩)))) (zKE_sI (Or.inr (Or.inr ⟨by omega, by have hLB : zLB = 4294967296 := rfl; omega⟩)))) (zKE_sI (Or.inr (Or.inr ⟨by omega, by have hLB : zLB = 4294967296 := rfl; omega⟩)))) (xFn.ke k23 (show gN S ≤ gN S5 + 1 from by omega) ⟨by omega, by have hLB : zLB = 4294967296 := rfl; omega⟩)) x23 (by omega) (eU.trans ((pb_ok e1).trans ((pb_ok e3).trans ((pb_ok e5).trans (pb_er e23))))))
    · intro S1 hF1 e1 k1 p1 g1 b1 S3 v3 hF3 e3 k3 p3 g3 b3 c3 S6 q6 hF6 e6 k6 x6 g6
      exact h _ _ (xEnd.err (S' := S6) hF6 (zKE.tr (zKE.tr (zKE.tr zKE.rf (zKE.w k1 (show gN S ≤ gN S from by omega) (fun _ h => h) (fun _ h => h))) (zKE.w k3 (show gN S ≤ gN S1 from by omega) (fun _ h => h) (fun _ h => h))) (zKE.w k6 (show gN S ≤ gN S3 from by omega) (fun _ h => h) (fun _ h => h))) x6 (by omega) (eU.trans ((pb_ok e1).trans ((pb_ok e3).trans (pb_er e6)))))
    · intro S1 hF1 e1 k1 p1 g1 b1 S4 q4 hF4 e4 k4 x4 g4
      exact h _ _ (xEnd.err (S' := S4) hF4 (zKE.tr (zKE.tr zKE.rf (zKE.w k1 (show gN S ≤ gN S from by omega) (fun _ h => h) (fun _ h => h))) (zKE.w k4 (show gN S ≤ gN S1 from by omega) (fun _ h => h) (fun _ h => h))) x4 (by omega) (eU.trans ((pb_ok e1).trans (pb_er e4))))
    · intro S2 q2 hF2 e2 k2 x2 g2
      exact h _ _ (xEnd.err (S' := S2) hF2 (zKE.tr zKE.rf (zKE.w k2 (show gN S ≤ gN S from by omega) (fun _ h => h) (fun _ h => h))) x2 (by omega) (eU.trans (pb_er e2)))
  · have eU : pW tp sz rec 9 p deep at0 nd = (do
      let a0 ← pWant tp sz 40 at0
      let q ← pLet tp sz 48 55 a0
      let at1 ← pWant tp sz 41 q.2
      let x ← pJ (tN 9 q.1 [] p [])
      .ok (x, at1, nd)) := rfl
    refine im9 hF (by omega) p hR h8.1 h8.2 h9.1 h9.2 hN2 hp ?_ ?_ ?_ ?_ ?_
    · intro S1 hF1 e1 k1 p1 g1 b1 S3 v3 hF3 e3 k3 p3 g3 b3 c3 S5 hF5 e5 k5 p5 g5 b5 S22 hF22 e22 j22 t22 p22 g22
      exact h _ _ (xEnd.good (S' := S22) hF22 (zKE.tr (zKE.tr (zKE.tr (zKE.tr (zKE.tr (zKE.tr (zKE.tr (zKE.tr (zKE.tr zKE.rf (zKE.w k1 (show gN S ≤ gN S from by omega) (fun _ h => h) (fun _ h => h))) (zKE.w k3 (show gN S ≤ gN S1 from by omega) (fun _ h => h) (fun _ h => h))) (zKE.w k5 (show gN S ≤ gN S3 from by omega) (fun _ h => h) (fun _ h => h))) (zKE_new (show gN S ≤ gN S5 ∧ gN S5 < zLB from ⟨by omega, by have hLB : zLB = 4294967296 := rfl; omega⟩))) (zKE_sP (Or.inr (Or.inr ⟨by omega, by have hLB : zLB = 4294967296 := rfl; omega⟩)))) (zKE_sI (Or.inr (Or.inr ⟨by omega, by have hLB : zLB = 4294967296 := rfl; omega⟩)))) (zKE_sI (Or.inr (Or.inr ⟨by omega, by have hLB : zLB = 4294967296 := rfl; omega⟩)))) (zKE_sI (Or.inr (Or.inr ⟨by omega, by have hLB : zLB = 4294967296 := rfl; omega⟩)))) (xJd.ke j22 ⟨by omega, by have hLB : zLB = 4294967296 := rfl; omega⟩)) t22 p22 (by omega) (eU.trans ((pb_ok e1).trans ((pb_ok e3).trans ((pb_ok e5).trans ((pb_ok e22).trans (rfl)))))))
    · intro S1 hF1 e1 k1 p1 g1 b1 S3 v3 hF3 e3 k3 p3 g3 b3 c3 S5 hF5 e5 k5 p5 g5 b5 S23 q23 hF23 e23 k23 x23 g23
      exact h _ _ (xEnd.err (S' := S23) hF23 (zKE.tr (zKE.tr (zKE.tr (zKE.tr (zKE.tr (zKE.tr (zKE.tr (zKE.tr (zKE.tr zKE.rf (zKE.w k1 (show gN S ≤ gN S from by omega) (fun _ h => h) (fun _ h => h))) (zKE.w k3 (show gN S ≤ gN S1 from by omega) (fun _ h => h) (fun _ h => h))) (zKE.w k5 (show gN S ≤ gN S3 from by omega) (fun _ h => h) (fun _ h => h))) (zKE_new (show gN S ≤ gN S5 ∧ gN S5 < zLB from ⟨by omega, by have hLB : zLB = 4294967296 := rfl; omega⟩))) (zKE_sP (Or.inr (Or.inr ⟨by omega, by have hLB : zLB = 4294967296 := rfl; omega⟩)))) (zKE_sI (Or.inr (Or.inr ⟨by omega, by have hLB : zLB = 4294967296 := rfl; omega⟩)))) (zKE_sI (Or.inr (Or.inr ⟨by omega, by have hLB : zLB = 4294967296 := rfl; omega⟩)))) (zKE_sI (Or.inr (Or.inr ⟨by omega, by have hLB : zLB = 4294967296 := rfl; omega⟩)))) (xFn.ke k23 (show gN S ≤ gN S5 + 1 from by omega) ⟨by omega, by have hLB : zLB = 4294967296 := rfl; omega⟩)) x23 (by omega) (eU.trans ((pb_ok e1).trans ((pb_ok e3).trans ((pb_ok e5).trans (pb_er e23))))))
    · intro S1 hF1 e1 k1 p1 g1 b1 S3 v3 hF3 e3 k3 p3 g3 b3 c3 S6 q6 hF6 e6 k6 x6 g6
      exact h _ _ (xEnd.err (S' := S6) hF6 (zKE.tr (zKE.tr (zKE.tr zKE.rf (zKE.w k1 (show gN S ≤ gN S from by omega) (fun _ h => h) (fun _ h => h))) (zKE.w k3 (show gN S ≤ gN S1 from by omega) (fun _ h => h) (fun _ h => h))) (zKE.w k6 (show gN S ≤ gN S3 from by omega) (fun _ h => h) (fun _ h => h))) x6 (by omega) (eU.trans ((pb_ok e1).trans ((pb_ok e3).trans (pb_er e6)))))
    · intro S1 hF1 e1 k1 p1 g1 b1 S4 q4 hF4 e4 k4 x4 g4
      exact h _ _ (xEnd.err (S' := S4) hF4 (zKE.tr (zKE.tr zKE.rf (zKE.w k1 (show gN S ≤ gN S from by omega) (fun _ h => h) (fun _ h => h))) (zKE.w k4 (show gN S ≤ gN S1 from by omega) (fun _ h => h) (fun _ h => h))) x4 (by omega) (eU.trans ((pb_ok e1).trans (pb_er e4))))
    · intro S2 q2 hF2 e2 k2 x2 g2
      exact h _ _ (xEnd.err (S' := S2) hF2 (zKE.tr zKE.rf (zKE.w k2 (show gN S ≤ gN S from by omega) (fun _ h => h) (fun _ h => h))) x2 (by omega) (eU.trans (pb_er e2)))
end X14

