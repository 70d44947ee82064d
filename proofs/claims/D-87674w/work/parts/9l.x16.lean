set_option maxRecDepth 100000
/-! ===== the house reads rows: keys of a multi, parts of a thresh ===== -/
theorem mu0 {d : Nat} {S : zS} (hF : zFin true S) (hd : 3 ≤ d) {tp : Nat → Nat} {sz at0 nd r : Nat} (p : Nat) (hR : xR tp sz S r at0 nd) (hs0 : sz ≤ 300) (ha0 : at0 ≤ sz) (hr1 : 1639 ≤ r) (hr2 : r < gN S) (hN2 : gN S < 1800000) (hp : p ≤ 300) {post : Outcome × zS → Prop} (h1 : ∀ S1 : zS, (zFin true S1) → (pWant tp sz 40 at0 = .ok (at0 + 1)) → (xFr (sNew S 100 16 16) S1) → (xR tp sz S1 r (at0 + 1) nd) → (gN (sNew S 100 16 16) ≤ gN S1 ∧ gN S1 ≤ gN (sNew S 100 16 16) + 0 ∧ gZ S1 ≤ gZ (sNew S 100 16 16) + 0) → ((at0 + 1) ≤ sz) → ∀ S3 : zS, ∀ v3 : Nat, ∀ at3 : Nat, (zFin true S3) → (pNum tp sz (at0 + 1) = .ok (v3, at3)) → (xFr S1 S3) → (xR tp sz S3 r at3 nd) → (gN S1 ≤ gN S3 ∧ gN S3 ≤ gN S1 + 0 ∧ gZ S3 ≤ gZ S1 + 0) → (at3 ≤ sz) → (1 ≤ v3 ∧ v3 < 2147483648) → ((at0 + 1) ≤ at3) → ∀ c5 : Nat, (pSee tp sz at3 = c5) → (c5 < 256) → (c5 = 44) → zEv d 262 33 [.ref r, .int (Int32.ofNat p), .ref (gN S), .int (Int32.ofNat 0), .int (Int32.ofNat v3)] [] S3 post) (h2 : ∀ S1 : zS, (zFin true S1) → (pWant tp sz 40 at0 = .ok (at0 + 1)) → (xFr (sNew S 100 16 16) S1) → (xR tp sz S1 r (at0 + 1) nd) → (gN (sNew S 100 16 16) ≤ gN S1 ∧ gN S1 ≤ gN (sNew S 100 16 16) + 0 ∧ gZ S1 ≤ gZ (sNew S 100 16 16) + 0) → ((at0 + 1) ≤ sz) → ∀ S3 : zS, ∀ v3 : Nat, ∀ at3 : Nat, (zFin true S3) → (pNum tp sz (at0 + 1) = .ok (v3, at3)) → (xFr S1 S3) → (xR tp sz S3 r at3 nd) → (gN S1 ≤ gN S3 ∧ gN S3 ≤ gN S1 + 0 ∧ gZ S3 ≤ gZ S1 + 0) → (at3 ≤ sz) → (1 ≤ v3 ∧ v3 < 2147483648) → ((at0 + 1) ≤ at3) → ∀ c5 : Nat, (pSee tp sz at3 = c5) → (c5 < 256) → (¬ (c5 = 44)) → ∀ S7 : zS, (zFin true S7) → (xFr S3 S7) → (xFl S7 (gN S3) 1 at3) → (gN S3 + 1 = gN S7 ∧ gZ S7 ≤ gZ S3 + 3) → post (.threw (gN S3), S7)) (h3 : ∀ S1 : zS, (zFin true S1) → (pWant tp sz 40 at0 = .ok (at0 + 1)) → (xFr (sNew S 100 16 16) S1) → (xR tp sz S1 r (at0 + 1) nd) → (gN (sNew S 100 16 16) ≤ gN S1 ∧ gN S1 ≤ gN (sNew S 100 16 16) + 0 ∧ gZ S1 ≤ gZ (sNew S 100 16 16) + 0) → ((at0 + 1) ≤ sz) → ∀ S4 : zS, ∀ q4 : Nat, ∀ z4 : Nat, (zFin true S4) → (pNum tp sz (at0 + 1) = .error (1, z4)) → (xFr S1 S4) → (xFl S4 q4 1 z4) → (gN S1 ≤ gN S4 ∧ gN S4 ≤ gN S1 + 1 ∧ gZ S4 ≤ gZ S1 + 3) → post (.threw q4, S4)) (h4 : ∀ S2 : zS, ∀ q2 : Nat, (zFin true S2) → (pWant tp sz 40 at0 = .error (1, at0)) → (xFr (sNew S 100 16 16) S2) → (xFl S2 q2 1 at0) → (gN (sNew S 100 16 16) ≤ gN S2 ∧ gN S2 ≤ gN (sNew S 100 16 16) + 1 ∧ gZ S2 ≤ gZ (sNew S 100 16 16) + 3) → post (.threw q2, S2)) : zCall d 262 [.ref r, .int (Int32.ofNat p)] S post := by
  have ht : ztab 262 = ztb262 := rfl
  show zEv d 262 0 [.ref r, .int (Int32.ofNat p), .retAddr 0, .retAddr 0, .retAddr 0] [] S post
  refine zv_c1 ht rfl rfl ?_
  refine zv_na (ty := 100) (j := 16) (r := []) ht rfl rfl rfl rfl (zi_natE (a := 16) rfl (by omega)) ⟨zi_len (a := 16) rfl (by omega), znew_okE (a := 16) rfl (by omega) (show 1639 ≤ gN S from by omega) (show gN S < 2000000 from by omega)⟩ ?_
  show zEv d 262 4 [.ref r, .int (Int32.ofNat p), .retAddr 0, .retAddr 0, .retAddr 0] [.ref (gN S)] (sNew S 100 16 16) post
  refine zv_c2 (L' := [.ref r, .int (Int32.ofNat p), .ref (gN S), .retAddr 0, .retAddr 0]) ht rfl rfl ?_
  refine zv_c1 ht rfl rfl ?_
  refine zv_c2 (L' := [.ref r, .int (Int32.ofNat p), .ref (gN S), .int 0, .retAddr 0]) ht rfl rfl ?_
  refine zv_c1 ht rfl rfl (zv_c1 ht rfl rfl ?_)
  refine zv_cl ht rfl rfl rfl (zv_tgv (Eq.trans (ztyp_new (S := S) (t := 100) (n := 16) (s := 16) (show r ≠ gN S from by omega)) hR.1.2.2.2.1) rfl) (by omega) (Nat.le_of_ble_eq_true rfl) (x_take (S := sNew S 100 16 16) (tp := tp) (sz := sz) (r := r) (w := 40) (zFin_new hF) (by omega) (xR.ke (Fs := []) hR (zKE.tr zKE.rf (zKE_new (show gN S ≤ gN S ∧ gN S < zLB from ⟨by omega, by have hLB : zLB = 4294967296 := rfl; omega⟩))) (by omega) (by decide)) (by omega) (by omega) (by omega) (fun S1 hF1 e1 k1 p1 g1 b1 => ?_) (fun S2 q2 hF2 e2 k2 x2 g2 => ?_))
  · show zEv d 262 13 [.ref r, .int (Int32.ofNat p), .ref (gN S), .int 0, .retAddr 0] [] S1 post
    refine zv_c1 ht rfl rfl ?_
    refine zv_cl ht rfl rfl rfl (zv_tgv (p1.1.2.2.2.1) rfl) (by omega) (Nat.le_of_ble_eq_true rfl) (x_number (S := S1) (tp := tp) (sz := sz) (r := r) hF1 (by omega) p1 (by omega) (fun S3 v3 at3 hF3 e3 k3 p3 g3 b3 c3 d3 => ?_) (fun S4 q4 z4 hF4 e4 k4 x4 g4 => ?_))
    · show zEv d 262 17 [.ref r, .int (Int32.ofNat p), .ref (gN S), .int 0, .retAddr 0] [.int (Int32.ofNat v3)] S3 post
      refine zv_c2 (L' := [.ref r, .int (Int32.ofNat p), .ref (gN S), .int 0, .int (Int32.ofNat v3)]) ht rfl rfl ?_
      refine zv_c1 ht rfl rfl ?_
      refine zv_cl ht rfl rfl rfl (zv_tgv (p3.1.2.2.2.1) rfl) (by omega) (Nat.le_of_ble_eq_true rfl) (x_here (S := S3) (tp := tp) (sz := sz) (r := r) hF3 p3 (fun c5 e5 b5 => ?_))
      show zEv d 262 23 [.ref r, .int (Int32.ofNat p), .ref (gN S), .int 0, .int (Int32.ofNat v3)] [.int (Int32.ofNat c5)] S3 post
      refine zv_c1 ht rfl rfl ?_
      refine zv_br ht rfl rfl rfl (fun b6 => ?_) (fun b6 => ?_)
      · replace b6 : c5 = 44 := (zi_eqE (a := c5) (b := 44) rfl rfl (by omega) (by omega)).mp b6
        exact (h1 S1 hF1 e1 k1 p1 g1 b1 S3 v3 at3 hF3 e3 k3 p3 g3 b3 c3 d3 c5 e5 b5 b6)
      · replace b6 : ¬ (c5 = 44) := fun h => b6 ((zi_eqE (a := c5) (b := 44) rfl rfl (by omega) (by omega)).mpr h)
        refine zv_c1 ht rfl rfl ?_
        refine zv_cl ht rfl rfl rfl (zv_tgv (p3.1.2.2.2.1) rfl) (by omega) (Nat.le_of_ble_eq_true rfl) (x_form (S := S3) (tp := tp) (sz := sz) (r := r) hF3 (by omega) p3 (by omega) (fun S7 hF7 k7 x7 g7 => ?_))
        show zEv d 262 32 [.ref r, .int (Int32.ofNat p), .ref (gN S), .int 0, .int (Int32.ofNat v3)] [.ref (gN S3)] S7 post
        exact zv_th ht rfl rfl rfl ⟨x7.1, (show gN S3 < gN S7 from by omega)⟩ rfl (h2 S1 hF1 e1 k1 p1 g1 b1 S3 v3 at3 hF3 e3 k3 p3 g3 b3 c3 d3 c5 e5 b5 b6 S7 hF7 k7 x7 g7)
    · exact (h3 S1 hF1 e1 k1 p1 g1 b1 S4 q4 z4 hF4 e4 k4 x4 g4)
  · exact (h4 S2 q2 hF2 e2 k2 x2 g2)

theorem mu1 {d : Nat} {S : zS} (hF : zFin true S) (hd : 3 ≤ d) {tp : Nat → Nat} {sz at0 nd r : Nat} (p R m v : Nat) (hR : xR tp sz S r at0 nd) (hs0 : sz ≤ 300) (ha0 : at0 ≤ sz) (hr1 : 1639 ≤ r) (hr2 : r < gN S) (hN2 : gN S < 1800000) (hp : p ≤ 300) (hm : m ≤ 16) (hv : v < 2147483648) (htR : ztyp S R = 100) (hlR : zlen S R = 16) (hR1 : 1639 ≤ R) (hR2 : R < gN S) {post : Outcome × zS → Prop} (h1 : ∀ c1 : Nat, (pSee tp sz at0 = c1) → (c1 < 256) → (¬ (c1 = 44)) → (v ≤ m) → ∀ S4 : zS, (zFin true S4) → (pWant tp sz 41 at0 = .ok (at0 + 1)) → (xFr S S4) → (xR tp sz S4 r (at0 + 1) nd) → (gN S ≤ gN S4 ∧ gN S4 ≤ gN S + 0 ∧ gZ S4 ≤ gZ S + 0) → ((at0 + 1) ≤ sz) → zCall (d - 1) 253 [.ref r, .ref (gN S4)] (sP (sI (sI (sI (sP (sNew S4 17 0 (zslots 17)) 178 (gN S4) (some 0)) 144 (gN S4) (Int32.ofNat p)) 175 (gN S4) (Int32.ofNat v)) 176 (gN S4) (Int32.ofNat m)) 177 (gN S4) (some R)) (zAf d 262 110 [.ref r, .int (Int32.ofNat p), .ref R, .int (Int32.ofNat m), .int (Int32.ofNat v)] [] post)) (h2 : ∀ c1 : Nat, (pSee tp sz at0 = c1) → (c1 < 256) → (¬ (c1 = 44)) → (v ≤ m) → ∀ S5 : zS, ∀ q5 : Nat, (zFin true S5) → (pWant tp sz 41 at0 = .error (1, at0)) → (xFr S S5) → (xFl S5 q5 1 at0) → (gN S ≤ gN S5 ∧ gN S5 ≤ gN S + 1 ∧ gZ S5 ≤ gZ S + 3) → post (.threw q5, S5)) (h3 : ∀ c1 : Nat, (pSee tp sz at0 = c1) → (c1 < 256) → (¬ (c1 = 44)) → (¬ (v ≤ m)) → ∀ S18 : zS, (zFin true S18) → (xFr S S18) → (xFl S18 (gN S) 1 at0) → (gN S + 1 = gN S18 ∧ gZ S18 ≤ gZ S + 3) → post (.threw (gN S), S18)) (h4 : ∀ c1 : Nat, (pSee tp sz at0 = c1) → (c1 < 256) → (c1 = 44) → (¬ (m = 16)) → ∀ S21 : zS, ∀ q21 : Nat, (zFin true S21) → (pLet tp sz 65 80 (at0 + 1) = .error (1, at0 + 1)) → (xFr (sI S 133 r (Int32.ofNat (at0 + 1))) S21) → (xFl S21 q21 1 (at0 + 1)) → (gN (sI S 133 r (Int32.ofNat (at0 + 1))) ≤ gN S21 ∧ gN S21 ≤ gN (sI S 133 r (Int32.ofNat (at0 + 1))) + 1 ∧ gZ S21 ≤ gZ (sI S 133 r (Int32.ofNat (at0 + 1))) + 3) → post (.threw q21, S21)) (h5 : ∀ c1 : Nat, (pSee tp sz at0 = c1) → (c1 < 256) → (c1 = 44) → (m = 16) → ∀ S22 : zS, (zFin true S22) → (xFr S S22) → (xFl S22 (gN S) 1 at0) → (gN S + 1 = gN S22 ∧ gZ S22 ≤ gZ S + 3) → post (.threw (gN S), S22)) (h6 : ∀ c1 : Nat, (pSee tp sz at0 = c1) → (c1 < 256) → (c1 = 44) → (¬ (m = 16)) → ∀ S20 : zS, ∀ v20 : Nat, (zFin true S20) → (pLet tp sz 65 80 (at0 + 1) = .ok (v20, at0 + 2)) → (xFr (sI S 133 r (Int32.ofNat (at0 + 1))) S20) → (xR tp sz S20 r (at0 + 2) nd) → (gN (sI S 133 r (Int32.ofNat (at0 + 1))) ≤ gN S20 ∧ gN S20 ≤ gN (sI S 133 r (Int32.ofNat (at0 + 1))) + 0 ∧ gZ S20 ≤ gZ (sI S 133 r (Int32.ofNat (at0 + 1))) + 0) → ((at0 + 2) ≤ sz) → (v20 ≤ 15) → zEv d 262 33 [.ref r, .int (Int32.ofNat p), .ref R, .int (Int32.ofNat (m + 1)), .int (Int32.ofNat v)] [] (sA S20 R m (Int32.ofNat v20)) post) : zEv d 262 33 [.ref r, .int (Int32.ofNat p), .ref R, .int (Int32.ofNat m), .int (Int32.ofNat v)] [] S post := by
  have ht : ztab 262 = ztb262 := rfl
  refine zv_c1 ht rfl rfl ?_
  refine zv_cl ht rfl rfl rfl (zv_tgv (hR.1.2.2.2.1) rfl) (by omega) (Nat.le_of_ble_eq_true rfl) (x_here (S := S) (tp := tp) (sz := sz) (r := r) hF hR (fun c1 e1 b1 => ?_))
  show zEv d 262 37 [.ref r, .int (Int32.ofNat p), .ref R, .int (Int32.ofNat m), .int (Int32.ofNat v)] [.int (Int32.ofNat c1)] S post
  refine zv_c1 ht rfl rfl ?_
  refine zv_br ht rfl rfl rfl (fun b2 => ?_) (fun b2 => ?_)
  · replace b2 : ¬ (c1 = 44) := fun h => b2 ((zi_eqE (a := c1) (b := 44) rfl rfl (by omega) (by omega)).mpr h)
    refine zv_c1 ht rfl rfl (zv_c1 ht rfl rfl ?_)
    refine zv_br ht rfl rfl rfl (fun b3 => ?_) (fun b3 => ?_)
    · replace b3 : v ≤ m := (zi_leE (a := v) (b := m) rfl rfl (by omega) (by omega)).mp b3
      refine zv_c1 ht rfl rfl (zv_c1 ht rfl rfl ?_)
      refine zv_cl ht rfl rfl rfl (zv_tgv (hR.1.2.2.2.1) rfl) (by omega) (Nat.le_of_ble_eq_true rfl) (x_take (S := S) (tp := tp) (sz := sz) (r := r) (w := 41) hF (by omega) hR (by omega) (by omega) (by omega) (fun S4 hF4 e4 k4 p4 g4 b4 => ?_) (fun S5 q5 hF5 e5 k5 x5 g5 => ?_))
      · show zEv d 262 93 [.ref r, .int (Int32.ofNat p), .ref R, .int (Int32.ofNat m), .int (Int32.ofNat v)] [] S4 post
        refine zv_c1 ht rfl rfl ?_
        refine zv_ci (st' := [.ref (gN S4), .ref r]) (S' := sNew S4 17 0 (zslots 17)) ht rfl rfl (znew_ok (show 1639 ≤ gN S4 from by omega) (show gN S4 < 2000000 from by omega)) ?_
        refine zv_c1 ht rfl rfl (zv_c1 ht rfl rfl ?_)
        refine zv_g3 (q := 0) ht rfl (zFin_new hF4) rfl rfl (zhas_of (Eq.trans (ztyp_new (S := S4) (t := 17) (n := 0) (s := zslots 17) (show r ≠ gN S4 from by omega)) p4.1.2.2.2.1) rfl) (Eq.trans (gP_new (S := S4) (t := 17) (n := 0) (s := zslots 17) (show r ≠ gN S4 from by omega)) p4.1.2.2.2.2) ?_
        refine zv_c1 ht rfl rfl (zv_c1 ht rfl rfl (zv_c1 ht rfl rfl (zv_c1 ht rfl rfl ?_)))
        have C7 : ∀ (pst6 : Outcome × zS → Prop), (pst6 (.returned none, sP (sI (sI (sI (sP (sNew S4 17 0 (zslots 17)) 178 (gN S4) (some 0)) 144 (gN S4) (Int32.ofNat p)) 175 (gN S4) (Int32.ofNat v)) 176 (gN S4) (Int32.ofNat m)) 177 (gN S4) (some R))) → zCall (d - 1) 341 [.ref (gN S4), .ref 0, .int (Int32.ofNat p), .int (Int32.ofNat v), .int (Int32.ofNat m), .ref R] (sNew S4 17 0 (zslots 17)) pst6 := by
          intro pst6 k17
          have ht8 : ztab 341 = ztb341 := rfl
          show zEv (d - 1) 341 0 [.ref (gN S4), .ref 0, .int (Int32.ofNat p), .int (Int32.ofNat v), .int (Int32.ofNat m), .ref R] [] (sNew S4 17 0 (zslots 17)) pst6
          refine zv_c1 ht8 rfl rfl (zv_c1 ht8 rfl rfl ?_)
          refine zv_ci (S' := sP (sNew S4 17 0 (zslots 17)) 178 (gN S4) (some 0)) ht8 rfl rfl ⟨(zhas_of (ztyp_new_at (S := S4) (t := 17) (n := 0) (s := zslots 17) (show 1639 ≤ gN S4 from by omega)) rfl), (show gN S4 < gN S4 + 1 from by omega)⟩ ?_
          refine zv_c1 ht8 rfl rfl (zv_c1 ht8 rfl rfl (zv_c1 ht8 rfl rfl ?_))
          have C10 : ∀ (pst9 : Outcome × zS → Prop), (pst9 (.returned none, sI (sP (sNew S4 17 0 (zslots 17)) 178 (gN S4) (some 0)) 144 (gN S4) (Int32.ofNat p))) → zCall ((d - 1) - 1) 306 [.ref (gN S4), .ref 0, .int (Int32.ofNat p)] (sP (sNew S4 17 0 (zslots 17)) 178 (gN S4) (some 0)) pst9 := by
            intro pst9 k16
            have ht11 : ztab 306 = ztb306 := rfl
            show zEv ((d - 1) - 1) 306 0 [.ref (gN S4), .ref 0, .int (Int32.ofNat p)] [] (sP (sNew S4 17 0 (zslots 17)) 178 (gN S4) (some 0)) pst9
            refine zv_c1 ht11 rfl rfl (zv_c1 ht11 rfl rfl ?_)
            refine zv_ci (S' := sP (sNew S4 17 0 (zslots 17)) 178 (gN S4) (some 0)) ht11 rfl rfl (zk5 (ztyp_new_at (S := S4) (t := 17) (n := 0) (s := zslots 17) (show 1639 ≤ gN S4 from by omega)) rfl (show gN S4 < gN S4 + 1 from by omega) rfl gP_sP_at) ?_
            refine zv_c1 ht11 rfl rfl (zv_c1 ht11 rfl rfl (zv_c1 ht11 rfl rfl ?_))
            have C13 : ∀ (pst12 : Outcome × zS → Prop), (pst12 (.returned none, sI (sP (sNew S4 17 0 (zslots 17)) 178 (gN S4) (some 0)) 144 (gN S4) (Int32.ofNat p))) → zCall (((d - 1) - 1) - 1) 280 [.ref (gN S4), .ref 0, .int (Int32.ofNat p)] (sP (sNew S4 17 0 (zslots 17)) 178 (gN S4) (some 0)) pst12 := by
              intro pst12 k15
              have ht14 : ztab 280 = ztb280 := rfl
              show zEv (((d - 1) - 1) - 1) 280 0 [.ref (gN S4), .ref 0, .int (Int32.ofNat p)] [] (sP (sNew S4 17 0 (zslots 17)) 178 (gN S4) (some 0)) pst12
              refine zv_c1 ht14 rfl rfl (zv_c1 ht14 rfl rfl ?_)
              refine zv_ci (S' := sP (sNew S4 17 0 (zslots 17)) 178 (gN S4) (some 0)) ht14 rfl rfl (zk5 (ztyp_new_at (S := S4) (t := 17) (n := 0) (s := zslots 17) (show 1639 ≤ gN S4 from by omega)) rfl (show gN S4 < gN S4 + 1 from by omega) rfl gP_sP_at) ?_
              refine zv_c1 ht14 rfl rfl (zv_c1 ht14 rfl rfl (zv_c1 ht14 rfl rfl (zv_c1 ht14 rfl rfl ?_)))
              refine zv_ci (S' := sI (sP (sNew S4 17 0 (zslots 17)) 178 (gN S4) (some 0)) 144 (gN S4) (Int32.ofNat p)) ht14 rfl rfl ⟨(zhas_of (ztyp_new_at (S := S4) (t := 17) (n := 0) (s := zslots 17) (show 1639 ≤ gN S4 from by omega)) rfl), (show gN S4 < gN S4 + 1 from by omega)⟩ ?_
              exact zv_rt ht14 rfl rfl rfl rfl k15
            refine zv_cl ht11 rfl rfl rfl rfl (by omega) (Nat.le_of_ble_eq_true rfl) (C13 _ ?_)
            show zEv ((d - 1) - 1) 306 11 [.ref (gN S4), .ref 0, .int (Int32.ofNat p)] [] (sI (sP (sNew S4 17 0 (zslots 17)) 178 (gN S4) (some 0)) 144 (gN S4) (Int32.ofNat p)) pst9
            exact zv_rt ht11 rfl rfl rfl rfl k16
          refine zv_cl ht8 rfl rfl rfl rfl (by omega) (Nat.le_of_ble_eq_true rfl) (C10 _ ?_)
          show zEv (d - 1) 341 11 [.ref (gN S4), .ref 0, .int (Int32.ofNat p), .int (Int32.ofNat v), .int (Int32.ofNat m), .ref R] [] (sI (sP (sNew S4 17 0 (zslots 17)) 178 (gN S4) (some 0)) 144 (gN S4) (Int32.ofNat p)) pst6
          refine zv_c1 ht8 rfl rfl (zv_c1 ht8 rfl rfl ?_)
          refine zv_ci (S' := sI (sI (sP (sNew S4 17 0 (zslots 17)) 178 (gN S4) (some 0)) 144 (gN S4) (Int32.ofNat p)) 175 (gN S4) (Int32.ofNat v)) ht8 rfl rfl ⟨(zhas_of (ztyp_new_at (S := S4) (t := 17) (n := 0) (s := zslots 17) (show 1639 ≤ gN S4 from by omega)) rfl), (show gN S4 < gN S4 + 1 from by omega)⟩ ?_
          refine zv_c1 ht8 rfl rfl (zv_c1 ht8 rfl rfl ?_)
          refine zv_ci (S' := sI (sI (sI (sP (sNew S4 17 0 (zslots 17)) 178 (gN S4) (some 0)) 144 (gN S4) (Int32.ofNat p)) 175 (gN S4) (Int32.ofNat v)) 176 (gN S4) (Int32.ofNat m)) ht8 rfl rfl ⟨(zhas_of (ztyp_new_at (S := S4) (t := 17) (n := 0) (s := zslots 17) (show 1639 ≤ gN S4 from by omega)) rfl), (show gN S4 < gN S4 + 1 from by omega)⟩ ?_
          refine zv_c1 ht8 rfl rfl (zv_c1 ht8 rfl rfl ?_)
          refine zv_ci (S' := sP (sI (sI (sI (sP (sNew S4 17 0 (zslots 17)) 178 (gN S4) (some 0)) 144 (gN S4) (Int32.ofNat p)) 175 (gN S4) (Int32.ofNat v)) 176 (gN S4) (Int32.ofNat m)) 177 (gN S4) (some R)) ht8 rfl rfl ⟨(zhas_of (ztyp_new_at (S := S4) (t := 17) (n := 0) (s := zslots 17) (show 1639 ≤ gN S4 from by omega)) rfl), (show gN S4 < gN S4 + 1 from by omega)⟩ ?_
          exact zv_rt ht8 rfl rfl rfl rfl k17
        refine zv_cl ht rfl rfl rfl rfl (by omega) (Nat.le_of_ble_eq_true rfl) (C7 _ ?_)
        show zEv d 262 110 [.ref r, .int (Int32.ofNat p), .ref R, .int (Int32.ofNat m), .int (Int32.ofNat v)] [.ref (gN S4), .ref r] (sP (sI (sI (sI (sP (sNew S4 17 0 (zslots 17)) 178 (gN S4) (some 0)) 144 (gN S4) (Int32.ofNat p)) 175 (gN S4) (Int32.ofNat v)) 176 (gN S4) (Int32.ofNat m)) 177 (gN S4) (some R)) post
        refine zv_cl ht rfl rfl rfl (zv_tgv (Eq.trans (ztyp_new (S := S4) (t := 17) (n := 0) (s := zslots 17) (show r ≠ gN S4 from by omega)) p4.1.2.2.2.1) rfl) (by omega) (Nat.le_of_ble_eq_true rfl) (h1 c1 e1 b1 b2 b3 S4 hF4 e4 k4 p4 g4 b4)
      · exact (h2 c1 e1 b1 b2 b3 S5 q5 hF5 e5 k5 x5 g5)
    · replace b3 : ¬ (v ≤ m) := fun h => b3 ((zi_leE (a := v) (b := m) rfl rfl (by omega) (by omega)).mpr h)
      refine zv_c1 ht rfl rfl ?_
      refine zv_cl ht rfl rfl rfl (zv_tgv (hR.1.2.2.2.1) rfl) (by omega) (Nat.le_of_ble_eq_true rfl) (x_form (S := S) (tp := tp) (sz := sz) (r := r) hF (by omega) hR (by omega) (fun S18 hF18 k18 x18 g18 => ?_))
      show zEv d 262 86 [.ref r, .int (Int32.ofNat p), .ref R, .int (Int32.ofNat m), .int (Int32.ofNat v)] [.ref (gN S)] S18 post
      exact zv_th ht rfl rfl rfl ⟨x18.1, (show gN S < gN S18 from by omega)⟩ rfl (h3 c1 e1 b1 b2 b3 S18 hF18 k18 x18 g18)
  · replace b2 : c1 = 44 := (zi_eqE (a := c1) (b := 44) rfl rfl (by omega) (by omega)).mp (Classical.not_not.mp b2)
    refine zv_c1 ht rfl rfl (zv_c1 ht rfl rfl ?_)
    refine zv_br ht rfl rfl rfl (fun b19 => ?_) (fun b19 => ?_)
    · replace b19 : ¬ (m = 16) := fun h => b19 ((zi_eqE (a := m) (b := 16) rfl rfl (by omega) (by omega)).mpr h)
      refine zv_c1 ht rfl rfl (zv_c1 ht rfl rfl ?_)
      refine zv_ei (x := Int32.ofNat at0) ht rfl rfl (zhas_of (hR.1.2.2.2.1) rfl) hR.1.1 ?_
      refine zv_c1 ht rfl rfl ?_
      refine zv_e1 (x := Int32.ofNat (at0 + 1)) ht rfl rfl (zi_addE (a := at0) (b := 1) rfl rfl) ?_
      refine zv_ci (S' := sI S 133 r (Int32.ofNat (at0 + 1))) ht rfl rfl ⟨(zhas_of (hR.1.2.2.2.1) rfl), (show r < gN S from by omega)⟩ ?_
      refine zv_c1 ht rfl rfl (zv_c1 ht rfl rfl (zv_c1 ht rfl rfl ?_))
      refine zv_cl ht rfl rfl rfl (zv_tgv (hR.1.2.2.2.1) rfl) (by omega) (Nat.le_of_ble_eq_true rfl) (x_key (S := sI S 133 r (Int32.ofNat (at0 + 1))) (tp := tp) (sz := sz) (r := r) hF (by omega) (xR_at hR (by omega)) (by omega) (fun S20 v20 hF20 e20 k20 p20 g20 b20 c20 => ?_) (fun S21 q21 hF21 e21 k21 x21 g21 => ?_))
      · show zEv d 262 69 [.ref r, .int (Int32.ofNat p), .ref R, .int (Int32.ofNat m), .int (Int32.ofNat v)] [.int (Int32.ofNat v20), .int (Int32.ofNat m), .ref R] S20 post
        refine zv_is (j := m) (x := Int32.ofNat v20) ht rfl rfl rfl rfl (zi_natE (a := m) rfl (by omega)) ⟨Eq.trans (zKE.T k20 (Or.inl (show R < gN S from by omega))) htR, zi_inL (a := m) (m := 16) (Eq.trans (zKE.Len k20 (Or.inl (show R < gN S from by omega))) hlR) rfl (by omega) (by omega)⟩ ?_
        refine zv_iinc (L' := [.ref r, .int (Int32.ofNat p), .ref R, .int (Int32.ofNat (m + 1)), .int (Int32.ofNat v)]) (i := 3) (x := Int32.ofNat (m + 1)) ht rfl rfl (zi_addE (a := m) (b := 1) rfl rfl) rfl ?_
        refine zv_c1 ht rfl rfl ?_
        exact (h6 c1 e1 b1 b2 b19 S20 v20 hF20 e20 k20 p20 g20 b20 c20)
      · exact (h4 c1 e1 b1 b2 b19 S21 q21 hF21 e21 k21 x21 g21)
    · replace b19 : m = 16 := (zi_eqE (a := m) (b := 16) rfl rfl (by omega) (by omega)).mp (Classical.not_not.mp b19)
      refine zv_c1 ht rfl rfl ?_
      refine zv_cl ht rfl rfl rfl (zv_tgv (hR.1.2.2.2.1) rfl) (by omega) (Nat.le_of_ble_eq_true rfl) (x_form (S := S) (tp := tp) (sz := sz) (r := r) hF (by omega) hR (by omega) (fun S22 hF22 k22 x22 g22 => ?_))
      show zEv d 262 52 [.ref r, .int (Int32.ofNat p), .ref R, .int (Int32.ofNat m), .int (Int32.ofNat v)] [.ref (gN S)] S22 post
      exact zv_th ht rfl rfl rfl ⟨x22.1, (show gN S < gN S22 from by omega)⟩ rfl (h5 c1 e1 b1 b2 b19 S22 hF22 k22 x22 g22)

theorem th0 {d : Nat} {S : zS} (hF : zFin true S) (hd : 3 ≤ d) {tp : Nat → Nat} {sz at0 nd r : Nat} {rec : Nat → Nat → Nat → pE (zNd × Nat × Nat)} (p deep : Nat) (hR : xR tp sz S r at0 nd) (hs0 : sz ≤ 300) (ha0 : at0 ≤ sz) (hr1 : 1639 ≤ r) (hr2 : r < gN S) (hN2 : gN S < 1800000) (hp : p ≤ 300) (hdp : deep < 1000) {post : Outcome × zS → Prop} (h1 : ∀ S1 : zS, (zFin true S1) → (pWant tp sz 40 at0 = .ok (at0 + 1)) → (xFr (sNew S 113 12 12) S1) → (xR tp sz S1 r (at0 + 1) nd) → (gN (sNew S 113 12 12) ≤ gN S1 ∧ gN S1 ≤ gN (sNew S 113 12 12) + 0 ∧ gZ S1 ≤ gZ (sNew S 113 12 12) + 0) → ((at0 + 1) ≤ sz) → ∀ S3 : zS, ∀ v3 : Nat, ∀ at3 : Nat, (zFin true S3) → (pNum tp sz (at0 + 1) = .ok (v3, at3)) → (xFr S1 S3) → (xR tp sz S3 r at3 nd) → (gN S1 ≤ gN S3 ∧ gN S3 ≤ gN S1 + 0 ∧ gZ S3 ≤ gZ S1 + 0) → (at3 ≤ sz) → (1 ≤ v3 ∧ v3 < 2147483648) → ((at0 + 1) ≤ at3) → ∀ c5 : Nat, (pSee tp sz at3 = c5) → (c5 < 256) → (c5 = 44) → zEv d 263 35 [.ref r, .int (Int32.ofNat p), .int (Int32.ofNat deep), .ref (gN S), .int (Int32.ofNat 0), .int (Int32.ofNat v3)] [] S3 post) (h2 : ∀ S1 : zS, (zFin true S1) → (pWant tp sz 40 at0 = .ok (at0 + 1)) → (xFr (sNew S 113 12 12) S1) → (xR tp sz S1 r (at0 + 1) nd) → (gN (sNew S 113 12 12) ≤ gN S1 ∧ gN S1 ≤ gN (sNew S 113 12 12) + 0 ∧ gZ S1 ≤ gZ (sNew S 113 12 12) + 0) → ((at0 + 1) ≤ sz) → ∀ S3 : zS, ∀ v3 : Nat, ∀ at3 : Nat, (zFin true S3) → (pNum tp sz (at0 + 1) = .ok (v3, at3)) → (xFr S1 S3) → (xR tp sz S3 r at3 nd) → (gN S1 ≤ gN S3 ∧ gN S3 ≤ gN S1 + 0 ∧ gZ S3 ≤ gZ S1 + 0) → (at3 ≤ sz) → (1 ≤ v3 ∧ v3 < 2147483648) → ((at0 + 1) ≤ at3) → ∀ c5 : Nat, (pSee tp sz at3 = c5) → (c5 < 256) → (¬ (c5 = 44)) → ∀ S7 : zS, (zFin true S7) → (xFr S3 S7) → (xFl S7 (gN S3) 1 at3) → (gN S3 + 1 = gN S7 ∧ gZ S7 ≤ gZ S3 + 3) → post (.threw (gN S3), S7)) (h3 : ∀ S1 : zS, (zFin true S1) → (pWant tp sz 40 at0 = .ok (at0 + 1)) → (xFr (sNew S 113 12 12) S1) → (xR tp sz S1 r (at0 + 1) nd) → (gN (sNew S 113 12 12) ≤ gN S1 ∧ gN S1 ≤ gN (sNew S 113 12 12) + 0 ∧ gZ S1 ≤ gZ (sNew S 113 12 12) + 0) → ((at0 + 1) ≤ sz) → ∀ S4 : zS, ∀ q4 : Nat, ∀ z4 : Nat, (zFin true S4) → (pNum tp sz (at0 + 1) = .error (1, z4)) → (xFr S1 S4) → (xFl S4 q4 1 z4) → (gN S1 ≤ gN S4 ∧ gN S4 ≤ gN S1 + 1 ∧ gZ S4 ≤ gZ S1 + 3) → post (.threw q4, S4)) (h4 : ∀ S2 : zS, ∀ q2 : Nat, (zFin true S2) → (pWant tp sz 40 at0 = .error (1, at0)) → (xFr (sNew S 113 12 12) S2) → (xFl S2 q2 1 at0) → (gN (sNew S 113 12 12) ≤ gN S2 ∧ gN S2 ≤ gN (sNew S 113 12 12) + 1 ∧ gZ S2 ≤ gZ (sNew S 113 12 12) + 3) → post (.threw q2, S2)) : zCall d 263 [.ref r, .int (Int32.ofNat p), .int (Int32.ofNat deep)] S post := by
  have ht : ztab 263 = ztb263 := rfl
  show zEv d 263 0 [.ref r, .int (Int32.ofNat p), .int (Int32.ofNat deep), .retAddr 0, .retAddr 0, .retAddr 0] [] S post
  refine zv_c1 ht rfl rfl ?_
  refine zv_na (ty := 113) (j := 12) (r := []) ht rfl rfl rfl rfl (zi_natE (a := 12) rfl (by omega)) ⟨zi_len (a := 12) rfl (by omega), znew_okE (a := 12) rfl (by omega) (show 1639 ≤ gN S from by omega) (show gN S < 2000000 from by omega)⟩ ?_
  show zEv d 263 5 [.ref r, .int (Int32.ofNat p), .int (Int32.ofNat deep), .retAddr 0, .retAddr 0, .retAddr 0] [.ref (gN S)] (sNew S 113 12 12) post
  refine zv_c2 (L' := [.ref r, .int (Int32.ofNat p), .int (Int32.ofNat deep), .ref (gN S), .retAddr 0, .retAddr 0]) ht rfl rfl ?_
  refine zv_c1 ht rfl rfl ?_
  refine zv_c2 (L' := [.ref r, .int (Int32.ofNat p), .int (Int32.ofNat deep), .ref (gN S), .int 0, .retAddr 0]) ht rfl rfl ?_
  refine zv_c1 ht rfl rfl (zv_c1 ht rfl rfl ?_)
  refine zv_cl ht rfl rfl rfl (zv_tgv (Eq.trans (ztyp_new (S := S) (t := 113) (n := 12) (s := 12) (show r ≠ gN S from by omega)) hR.1.2.2.2.1) rfl) (by omega) (Nat.le_of_ble_eq_true rfl) (x_take (S := sNew S 113 12 12) (tp := tp) (sz := sz) (r := r) (w := 40) (zFin_new hF) (by omega) (xR.ke (Fs := []) hR (zKE.tr zKE.rf (zKE_new (show gN S ≤ gN S ∧ gN S < zLB from ⟨by omega, by have hLB : zLB = 4294967296 := rfl; omega⟩))) (by omega) (by decide)) (by omega) (by omega) (by omega) (fun S1 hF1 e1 k1 p1 g1 b1 => ?_) (fun S2 q2 hF2 e2 k2 x2 g2 => ?_))
  · show zEv d 263 15 [.ref r, .int (Int32.ofNat p), .int (Int32.ofNat deep), .ref (gN S), .int 0, .retAddr 0] [] S1 post
    refine zv_c1 ht rfl rfl ?_
    refine zv_cl ht rfl rfl rfl (zv_tgv (p1.1.2.2.2.1) rfl) (by omega) (Nat.le_of_ble_eq_true rfl) (x_number (S := S1) (tp := tp) (sz := sz) (r := r) hF1 (by omega) p1 (by omega) (fun S3 v3 at3 hF3 e3 k3 p3 g3 b3 c3 d3 => ?_) (fun S4 q4 z4 hF4 e4 k4 x4 g4 => ?_))
    · show zEv d 263 19 [.ref r, .int (Int32.ofNat p), .int (Int32.ofNat deep), .ref (gN S), .int 0, .retAddr 0] [.int (Int32.ofNat v3)] S3 post
      refine zv_c2 (L' := [.ref r, .int (Int32.ofNat p), .int (Int32.ofNat deep), .ref (gN S), .int 0, .int (Int32.ofNat v3)]) ht rfl rfl ?_
      refine zv_c1 ht rfl rfl ?_
      refine zv_cl ht rfl rfl rfl (zv_tgv (p3.1.2.2.2.1) rfl) (by omega) (Nat.le_of_ble_eq_true rfl) (x_here (S := S3) (tp := tp) (sz := sz) (r := r) hF3 p3 (fun c5 e5 b5 => ?_))
      show zEv d 263 25 [.ref r, .int (Int32.ofNat p), .int (Int32.ofNat deep), .ref (gN S), .int 0, .int (Int32.ofNat v3)] [.int (Int32.ofNat c5)] S3 post
      refine zv_c1 ht rfl rfl ?_
      refine zv_br ht rfl rfl rfl (fun b6 => ?_) (fun b6 => ?_)
      · replace b6 : c5 = 44 := (zi_eqE (a := c5) (b := 44) rfl rfl (by omega) (by omega)).mp b6
        exact (h1 S1 hF1 e1 k1 p1 g1 b1 S3 v3 at3 hF3 e3 k3 p3 g3 b3 c3 d3 c5 e5 b5 b6)
      · replace b6 : ¬ (c5 = 44) := fun h => b6 ((zi_eqE (a := c5) (b := 44) rfl rfl (by omega) (by omega)).mpr h)
        refine zv_c1 ht rfl rfl ?_
        refine zv_cl ht rfl rfl rfl (zv_tgv (p3.1.2.2.2.1) rfl) (by omega) (Nat.le_of_ble_eq_true rfl) (x_form (S := S3) (tp := tp) (sz := sz) (r := r) hF3 (by omega) p3 (by omega) (fun S7 hF7 k7 x7 g7 => ?_))
        show zEv d 263 34 [.ref r, .int (Int32.ofNat p), .int (Int32.ofNat deep), .ref (gN S), .int 0, .int (Int32.ofNat v3)] [.ref (gN S3)] S7 post
        exact zv_th ht rfl rfl rfl ⟨x7.1, (show gN S3 < gN S7 from by omega)⟩ rfl (h2 S1 hF1 e1 k1 p1 g1 b1 S3 v3 at3 hF3 e3 k3 p3 g3 b3 c3 d3 c5 e5 b5 b6 S7 hF7 k7 x7 g7)
    · exact (h3 S1 hF1 e1 k1 p1 g1 b1 S4 q4 z4 hF4 e4 k4 x4 g4)
  · exact (h4 S2 q2 hF2 e2 k2 x2 g2)

theorem th1 {d : Nat} {S : zS} (hF : zFin true S) (hd : 3 ≤ d) {tp : Nat → Nat} {sz at0 nd r : Nat} {rec : Nat → Nat → Nat → pE (zNd × Nat × Nat)} (p deep R m v : Nat) (hR : xR tp sz S r at0 nd) (hs0 : sz ≤ 300) (ha0 : at0 ≤ sz) (hr1 : 1639 ≤ r) (hr2 : r < gN S) (hN : gN S + 30 * (sz - at0) ≤ 1700000) (hp : p ≤ 300) (hdp : deep < 1000) (hnd : nd ≤ 80) (hmono : pMono rec) (hRd : ∀ dp, dp = deep + 1 → xRd tp sz (d - 1) dp rec) (hm : m ≤ 12) (hv : v < 2147483648) (htR : ztyp S R = 113) (hlR : zlen S R = 12) (hR1 : 1639 ≤ R) (hR2 : R < gN S) {post : Outcome × zS → Prop} (h1 : ∀ c1 : Nat, (pSee tp sz at0 = c1) → (c1 < 256) → (¬ (c1 = 44)) → (v ≤ m) → ∀ S4 : zS, (zFin true S4) → (pWant tp sz 41 at0 = .ok (at0 + 1)) → (xFr S S4) → (xR tp sz S4 r (at0 + 1) nd) → (gN S ≤ gN S4 ∧ gN S4 ≤ gN S + 0 ∧ gZ S4 ≤ gZ S + 0) → ((at0 + 1) ≤ sz) → zCall (d - 1) 253 [.ref r, .ref (gN S4)] (sP (sI (sI (sI (sP (sNew S4 18 0 (zslots 18)) 182 (gN S4) (some 0)) 144 (gN S4) (Int32.ofNat p)) 179 (gN S4) (Int32.ofNat v)) 180 (gN S4) (Int32.ofNat m)) 181 (gN S4) (some R)) (zAf d 263 119 [.ref r, .int (Int32.ofNat p), .int (Int32.ofNat deep), .ref R, .int (Int32.ofNat m), .int (Int32.ofNat v)] [] post)) (s2 : ∀ c1 : Nat, (pSee tp sz at0 = c1) → (c1 < 256) → (c1 = 44) → (¬ (m = 12)) → ∀ S16 : zS, ∀ a16 : Nat, ∀ y16 : zNd, ∀ at16 : Nat, ∀ nd16 : Nat, (zFin true S16) → (rec (deep + 1) (at0 + 1) nd = .ok (y16, at16, nd16)) → (xFr (sI S 133 r (Int32.ofNat (at0 + 1))) S16) → (xTl (gN S) S16 y16 a16) → (xR tp sz S16 r at16 nd16) → (gN S ≤ gN S16 ∧ gN S16 + 30 * (sz - at16) ≤ gN S + 30 * (sz - (at0 + 1)) ∧ gZ S16 + 150 * (sz - at16) ≤ gZ S + 150 * (sz - (at0 + 1))) → (at16 ≤ sz ∧ gN S ≤ a16 ∧ a16 < gN S16 ∧ (at0 + 1) < at16 ∧ nd16 ≤ 80) → zput (ztyp S16 R) (ztyp S16 a16) = true) (h3 : ∀ c1 : Nat, (pSee tp sz at0 = c1) → (c1 < 256) → (¬ (c1 = 44)) → (v ≤ m) → ∀ S5 : zS, ∀ q5 : Nat, (zFin true S5) → (pWant tp sz 41 at0 = .error (1, at0)) → (xFr S S5) → (xFl S5 q5 1 at0) → (gN S ≤ gN S5 ∧ gN S5 ≤ gN S + 1 ∧ gZ S5 ≤ gZ S + 3) → post (.threw q5, S5)) (h4 : ∀ c1 : Nat, (pSee tp sz at0 = c1) → (c1 < 256) → (¬ (c1 = 44)) → (¬ (v ≤ m)) → ∀ S14 : zS, (zFin true S14) → (xFr S S14) → (xFl S14 (gN S) 1 at0) → (gN S + 1 = gN S14 ∧ gZ S14 ≤ gZ S + 3) → post (.threw (gN S), S14)) (h5 : ∀ c1 : Nat, (pSee tp sz at0 = c1) → (c1 < 256) → (c1 = 44) → (¬ (m = 12)) → ∀ S17 : zS, ∀ q17 : Nat, ∀ kk17 : Nat, ∀ z17 : Nat, (zFin true S17) → (rec (deep + 1) (at0 + 1) nd = .error (kk17, z17)) → (xFr (sI S 133 r (Int32.ofNat (at0 + 1))) S17) → (xFl S17 q17 kk17 z17) → (gN S ≤ gN S17 ∧ gN S17 ≤ gN S + 30 * (sz - (at0 + 1)) + 60 ∧ gZ S17 ≤ gZ S + 150 * (sz - (at0 + 1)) + 2000) → post (.threw q17, S17)) (h6 : ∀ c1 : Nat, (pSee tp sz at0 = c1) → (c1 < 256) → (c1 = 44) → (m = 12) → ∀ S18 : zS, (zFin true S18) → (xFr S S18) → (xFl S18 (gN S) 1 at0) → (gN S + 1 = gN S18 ∧ gZ S18 ≤ gZ S + 3) → post (.threw (gN S), S18)) (h7 : ∀ c1 : Nat, (pSee tp sz at0 = c1) → (c1 < 256) → (c1 = 44) → (¬ (m = 12)) → ∀ S16 : zS, ∀ a16 : Nat, ∀ y16 : zNd, ∀ at16 : Nat, ∀ nd16 : Nat, (zFin true S16) → (rec (deep + 1) (at0 + 1) nd = .ok (y16, at16, nd16)) → (xFr (sI S 133 r (Int32.ofNat (at0 + 1))) S16) → (xTl (gN S) S16 y16 a16) → (xR tp sz S16 r at16 nd16) → (gN S ≤ gN S16 ∧ gN S16 + 30 * (sz - at16) ≤ gN S + 30 * (sz - (at0 + 1)) ∧ gZ S16 + 150 * (sz - at16) ≤ gZ S + 150 * (sz - (at0 + 1))) → (at16 ≤ sz ∧ gN S ≤ a16 ∧ a16 < gN S16 ∧ (at0 + 1) < at16 ∧ nd16 ≤ 80) → zEv d 263 35 [.ref r, .int (Int32.ofNat p), .int (Int32.ofNat deep), .ref R, .int (Int32.ofNat (m + 1)), .int (Int32.ofNat v)] [] (sQ S16 R m (some a16)) post) : zEv d 263 35 [.ref r, .int (Int32.ofNat p), .int (Int32.ofNat deep), .ref R, .int (Int32.ofNat m), .int (Int32.ofNat v)] [] S post := by
  have ht : ztab 263 = ztb263 := rfl
  refine zv_c1 ht rfl rfl ?_
  refine zv_cl ht rfl rfl rfl (zv_tgv (hR.1.2.2.2.1) rfl) (by omega) (Nat.le_of_ble_eq_true rfl) (x_here (S := S) (tp := tp) (sz := sz) (r := r) hF hR (fun c1 e1 b1 => ?_))
  show zEv d 263 39 [.ref r, .int (Int32.ofNat p), .int (Int32.ofNat deep), .ref R, .int (Int32.ofNat m), .int (Int32.ofNat v)] [.int (Int32.ofNat c1)] S post
  refine zv_c1 ht rfl rfl ?_
  refine zv_br ht rfl rfl rfl (fun b2 => ?_) (fun b2 => ?_)
  · replace b2 : ¬ (c1 = 44) := fun h => b2 ((zi_eqE (a := c1) (b := 44) rfl rfl (by omega) (by omega)).mpr h)
    refine zv_c1 ht rfl rfl (zv_c1 ht rfl rfl ?_)
    refine zv_br ht rfl rfl rfl (fun b3 => ?_) (fun b3 => ?_)
    · replace b3 : v ≤ m := (zi_leE (a := v) (b := m) rfl rfl (by omega) (by omega)).mp b3
      refine zv_c1 ht rfl rfl (zv_c1 ht rfl rfl ?_)
      refine zv_cl ht rfl rfl rfl (zv_tgv (hR.1.2.2.2.1) rfl) (by omega) (Nat.le_of_ble_eq_true rfl) (x_take (S := S) (tp := tp) (sz := sz) (r := r) (w := 41) hF (by omega) hR (by omega) (by omega) (by omega) (fun S4 hF4 e4 k4 p4 g4 b4 => ?_) (fun S5 q5 hF5 e5 k5 x5 g5 => ?_))
      · show zEv d 263 101 [.ref r, .int (Int32.ofNat p), .int (Int32.ofNat deep), .ref R, .int (Int32.ofNat m), .int (Int32.ofNat v)] [] S4 post
        refine zv_c1 ht rfl rfl ?_
        refine zv_ci (st' := [.ref (gN S4), .ref r]) (S' := sNew S4 18 0 (zslots 18)) ht rfl rfl (znew_ok (show 1639 ≤ gN S4 from by omega) (show gN S4 < 2000000 from by omega)) ?_
        refine zv_c1 ht rfl rfl (zv_c1 ht rfl rfl ?_)
        refine zv_g3 (q := 0) ht rfl (zFin_new hF4) rfl rfl (zhas_of (Eq.trans (ztyp_new (S := S4) (t := 18) (n := 0) (s := zslots 18) (show r ≠ gN S4 from by omega)) p4.1.2.2.2.1) rfl) (Eq.trans (gP_new (S := S4) (t := 18) (n := 0) (s := zslots 18) (show r ≠ gN S4 from by omega)) p4.1.2.2.2.2) ?_
        refine zv_c1 ht rfl rfl (zv_c1 ht rfl rfl (zv_c1 ht rfl rfl (zv_c1 ht rfl rfl ?_)))
        have C7 : ∀ (pst6 : Outcome × zS → Prop), (pst6 (.returned none, sP (sI (sI (sI (sP (sNew S4 18 0 (zslots 18)) 182 (gN S4) (some 0)) 144 (gN S4) (Int32.ofNat p)) 179 (gN S4) (Int32.ofNat v)) 180 (gN S4) (Int32.ofNat m)) 181 (gN S4) (some R))) → zCall (d - 1) 349 [.ref (gN S4), .ref 0, .int (Int32.ofNat p), .int (Int32.ofNat v), .int (Int32.ofNat m), .ref R] (sNew S4 18 0 (zslots 18)) pst6 := by
          intro pst6 k13
          have ht8 : ztab 349 = ztb349 := rfl
          show zEv (d - 1) 349 0 [.ref (gN S4), .ref 0, .int (Int32.ofNat p), .int (Int32.ofNat v), .int (Int32.ofNat m), .ref R] [] (sNew S4 18 0 (zslots 18)) pst6
          refine zv_c1 ht8 rfl rfl (zv_c1 ht8 rfl rfl ?_)
          refine zv_ci (S' := sP (sNew S4 18 0 (zslots 18)) 182 (gN S4) (some 0)) ht8 rfl rfl ⟨(zhas_of (ztyp_new_at (S := S4) (t := 18) (n := 0) (s := zslots 18) (show 1639 ≤ gN S4 from by omega)) rfl), (show gN S4 < gN S4 + 1 from by omega)⟩ ?_
          refine zv_c1 ht8 rfl rfl (zv_c1 ht8 rfl rfl (zv_c1 ht8 rfl rfl ?_))
          have C10 : ∀ (pst9 : Outcome × zS → Prop), (pst9 (.returned none, sI (sP (sNew S4 18 0 (zslots 18)) 182 (gN S4) (some 0)) 144 (gN S4) (Int32.ofNat p))) → zCall ((d - 1) - 1) 280 [.ref (gN S4), .ref 0, .int (Int32.ofNat p)] (sP (sNew S4 18 0 (zslots 18)) 182 (gN S4) (some 0)) pst9 := by
            intro pst9 k12
            have ht11 : ztab 280 = ztb280 := rfl
            show zEv ((d - 1) - 1) 280 0 [.ref (gN S4), .ref 0, .int (Int32.ofNat p)] [] (sP (sNew S4 18 0 (zslots 18)) 182 (gN S4) (some 0)) pst9
            refine zv_c1 ht11 rfl rfl (zv_c1 ht11 rfl rfl ?_)
            refine zv_ci (S' := sP (sNew S4 18 0 (zslots 18)) 182 (gN S4) (some 0)) ht11 rfl rfl (zk5 (ztyp_new_at (S := S4) (t := 18) (n := 0) (s := zslots 18) (show 1639 ≤ gN S4 from by omega)) rfl (show gN S4 < gN S4 + 1 from by omega) rfl gP_sP_at) ?_
            refine zv_c1 ht11 rfl rfl (zv_c1 ht11 rfl rfl (zv_c1 ht11 rfl rfl (zv_c1 ht11 rfl rfl ?_)))
            refine zv_ci (S' := sI (sP (sNew S4 18 0 (zslots 18)) 182 (gN S4) (some 0)) 144 (gN S4) (Int32.ofNat p)) ht11 rfl rfl ⟨(zhas_of (ztyp_new_at (S := S4) (t := 18) (n := 0) (s := zslots 18) (show 1639 ≤ gN S4 from by omega)) rfl), (show gN S4 < gN S4 + 1 from by omega)⟩ ?_
            exact zv_rt ht11 rfl rfl rfl rfl k12
          refine zv_cl ht8 rfl rfl rfl rfl (by omega) (Nat.le_of_ble_eq_true rfl) (C10 _ ?_)
          show zEv (d - 1) 349 11 [.ref (gN S4), .ref 0, .int (Int32.ofNat p), .int (Int32.ofNat v), .int (Int32.ofNat m), .ref R] [] (sI (sP (sNew S4 18 0 (zslots 18)) 182 (gN S4) (some 0)) 144 (gN S4) (Int32.ofNat p)) pst6
          refine zv_c1 ht8 rfl rfl (zv_c1 ht8 rfl rfl ?_)
          refine zv_ci (S' := sI (sI (sP (sNew S4 18 0 (zslots 18)) 182 (gN S4) (some 0)) 144 (gN S4) (Int32.ofNat p)) 179 (gN S4) (Int32.ofNat v)) ht8 rfl rfl ⟨(zhas_of (ztyp_new_at (S := S4) (t := 18) (n := 0) (s := zslots 18) (show 1639 ≤ gN S4 from by omega)) rfl), (show gN S4 < gN S4 + 1 from by omega)⟩ ?_
          refine zv_c1 ht8 rfl rfl (zv_c1 ht8 rfl rfl ?_)
          refine zv_ci (S' := sI (sI (sI (sP (sNew S4 18 0 (zslots 18)) 182 (gN S4) (some 0)) 144 (gN S4) (Int32.ofNat p)) 179 (gN S4) (Int32.ofNat v)) 180 (gN S4) (Int32.ofNat m)) ht8 rfl rfl ⟨(zhas_of (ztyp_new_at (S := S4) (t := 18) (n := 0) (s := zslots 18) (show 1639 ≤ gN S4 from by omega)) rfl), (show gN S4 < gN S4 + 1 from by omega)⟩ ?_
          refine zv_c1 ht8 rfl rfl (zv_c1 ht8 rfl rfl ?_)
          refine zv_ci (S' := sP (sI (sI (sI (sP (sNew S4 18 0 (zslots 18)) 182 (gN S4) (some 0)) 144 (gN S4) (Int32.ofNat p)) 179 (gN S4) (Int32.ofNat v)) 180 (gN S4) (Int32.ofNat m)) 181 (gN S4) (some R)) ht8 rfl rfl ⟨(zhas_of (ztyp_new_at (S := S4) (t := 18) (n := 0) (s := zslots 18) (show 1639 ≤ gN S4 from by omega)) rfl), (show gN S4 < gN S4 + 1 from by omega)⟩ ?_
          exact zv_rt ht8 rfl rfl rfl rfl k13
        refine zv_cl ht rfl rfl rfl rfl (by omega) (Nat.le_of_ble_eq_true rfl) (C7 _ ?_)
        show zEv d 263 119 [.ref r, .int (Int32.ofNat p), .int (Int32.ofNat deep), .ref R, .int (Int32.ofNat m), .int (Int32.ofNat v)] [.ref (gN S4), .ref r] (sP (sI (sI (sI (sP (sNew S4 18 0 (zslots 18)) 182 (gN S4) (some 0)) 144 (gN S4) (Int32.ofNat p)) 179 (gN S4) (Int32.ofNat v)) 180 (gN S4) (Int32.ofNat m)) 181 (gN S4) (some R)) post
        refine zv_cl ht rfl rfl rfl (zv_tgv (Eq.trans (ztyp_new (S := S4) (t := 18) (n := 0) (s := zslots 18) (show r ≠ gN S4 from by omega)) p4.1.2.2.2.1) rfl) (by omega) (Nat.le_of_ble_eq_true rfl) (h1 c1 e1 b1 b2 b3 S4 hF4 e4 k4 p4 g4 b4)
      · exact (h3 c1 e1 b1 b2 b3 S5 q5 hF5 e5 k5 x5 g5)
    · replace b3 : ¬ (v ≤ m) := fun h => b3 ((zi_leE (a := v) (b := m) rfl rfl (by omega) (by omega)).mpr h)
      refine zv_c1 ht rfl rfl ?_
      refine zv_cl ht rfl rfl rfl (zv_tgv (hR.1.2.2.2.1) rfl) (by omega) (Nat.le_of_ble_eq_true rfl) (x_form (S := S) (tp := tp) (sz := sz) (r := r) hF (by omega) hR (by omega) (fun S14 hF14 k14 x14 g14 => ?_))
      show zEv d 263 94 [.ref r, .int (Int32.ofNat p), .int (Int32.ofNat deep), .ref R, .int (Int32.ofNat m), .int (Int32.ofNat v)] [.ref (gN S)] S14 post
      exact zv_th ht rfl rfl rfl ⟨x14.1, (show gN S < gN S14 from by omega)⟩ rfl (h4 c1 e1 b1 b2 b3 S14 hF14 k14 x14 g14)
  · replace b2 : c1 = 44 := (zi_eqE (a := c1) (b := 44) rfl rfl (by omega) (by omega)).mp (Classical.not_not.mp b2)
    refine zv_c1 ht rfl rfl (zv_c1 ht rfl rfl ?_)
    refine zv_br ht rfl rfl rfl (fun b15 => ?_) (fun b15 => ?_)
    · replace b15 : ¬ (m = 12) := fun h => b15 ((zi_eqE (a := m) (b := 12) rfl rfl (by omega) (by omega)).mpr h)
      refine zv_c1 ht rfl rfl (zv_c1 ht rfl rfl ?_)
      refine zv_ei (x := Int32.ofNat at0) ht rfl rfl (zhas_of (hR.1.2.2.2.1) rfl) hR.1.1 ?_
      refine zv_c1 ht rfl rfl ?_
      refine zv_e1 (x := Int32.ofNat (at0 + 1)) ht rfl rfl (zi_addE (a := at0) (b := 1) rfl rfl) ?_
      refine zv_ci (S' := sI S 133 r (Int32.ofNat (at0 + 1))) ht rfl rfl ⟨(zhas_of (hR.1.2.2.2.1) rfl), (show r < gN S from by omega)⟩ ?_
      refine zv_c1 ht rfl rfl (zv_c1 ht rfl rfl (zv_c1 ht rfl rfl (zv_c1 ht rfl rfl (zv_c1 ht rfl rfl ?_))))
      refine zv_e1 (x := Int32.ofNat (deep + 1)) ht rfl rfl (zi_addE (a := deep) (b := 1) rfl rfl) ?_
      refine zv_cl ht rfl rfl rfl (zv_tgv (hR.1.2.2.2.1) rfl) (by omega) (Nat.le_of_ble_eq_true rfl) (xEnd.useM (g := gN S) (z := gZ S) rfl rfl (fun q hq => hmono _ _ _ q (by omega) hq) (xRd.use (hRd (deep + 1) (by omega)) (S := sI S 133 r (Int32.ofNat (at0 + 1))) (r := r) hF (xR_at hR (by omega)) (by omega) (by omega)) (fun S16 a16 y16 at16 nd16 hF16 e16 k16 t16 p16 g16 c16 => ?_) (fun S17 q17 kk17 z17 hF17 e17 k17 x17 g17 => ?_))
      · show zEv d 263 76 [.ref r, .int (Int32.ofNat p), .int (Int32.ofNat deep), .ref R, .int (Int32.ofNat m), .int (Int32.ofNat v)] [.ref a16, .int (Int32.ofNat m), .ref R] S16 post
        refine zv_as (j := m) (q := a16) ht rfl rfl rfl rfl (zi_natE (a := m) rfl (by omega)) ⟨⟨(s2 c1 e1 b1 b2 b15 S16 a16 y16 at16 nd16 hF16 e16 k16 t16 p16 g16 c16), (show a16 < gN S16 from by omega)⟩, zi_inL (a := m) (m := 12) (Eq.trans (zKE.Len k16 (Or.inl (show R < gN S from by omega))) hlR) rfl (by omega) (by omega)⟩ ?_
        refine zv_iinc (L' := [.ref r, .int (Int32.ofNat p), .int (Int32.ofNat deep), .ref R, .int (Int32.ofNat (m + 1)), .int (Int32.ofNat v)]) (i := 4) (x := Int32.ofNat (m + 1)) ht rfl rfl (zi_addE (a := m) (b := 1) rfl rfl) rfl ?_
        refine zv_c1 ht rfl rfl ?_
        exact (h7 c1 e1 b1 b2 b15 S16 a16 y16 at16 nd16 hF16 e16 k16 t16 p16 g16 c16)
      · exact (h5 c1 e1 b1 b2 b15 S17 q17 kk17 z17 hF17 e17 k17 x17 g17)
    · replace b15 : m = 12 := (zi_eqE (a := m) (b := 12) rfl rfl (by omega) (by omega)).mp (Classical.not_not.mp b15)
      refine zv_c1 ht rfl rfl ?_
      refine zv_cl ht rfl rfl rfl (zv_tgv (hR.1.2.2.2.1) rfl) (by omega) (Nat.le_of_ble_eq_true rfl) (x_form (S := S) (tp := tp) (sz := sz) (r := r) hF (by omega) hR (by omega) (fun S18 hF18 k18 x18 g18 => ?_))
      show zEv d 263 55 [.ref r, .int (Int32.ofNat p), .int (Int32.ofNat deep), .ref R, .int (Int32.ofNat m), .int (Int32.ofNat v)] [.ref (gN S)] S18 post
      exact zv_th ht rfl rfl rfl ⟨x18.1, (show gN S < gN S18 from by omega)⟩ rfl (h6 c1 e1 b1 b2 b15 S18 hF18 k18 x18 g18)

theorem jaU {d : Nat} {S : zS} (hF : zFin true S) (hd : 1 ≤ d) (r a : Nat) (hta : ztyp S a = 17) {post : Outcome × zS → Prop} (h1 : zCall (d - 1) 340 [.ref a] S (zAf d 253 1 [.ref r, .ref a] [] post)) : zCall d 253 [.ref r, .ref a] S post := by
  have ht : ztab 253 = ztb253 := rfl
  show zEv d 253 0 [.ref r, .ref a] [] S post
  refine zv_c1 ht rfl rfl ?_
  refine zv_cl ht rfl rfl rfl (zv_tgm (hta) rfl) (by omega) (Nat.le_of_ble_eq_true rfl) h1

theorem jaH {d : Nat} {S : zS} (hF : zFin true S) (hd : 1 ≤ d) (r a : Nat) (hta : ztyp S a = 18) {post : Outcome × zS → Prop} (h1 : zCall (d - 1) 348 [.ref a] S (zAf d 253 1 [.ref r, .ref a] [] post)) : zCall d 253 [.ref r, .ref a] S post := by
  have ht : ztab 253 = ztb253 := rfl
  show zEv d 253 0 [.ref r, .ref a] [] S post
  refine zv_c1 ht rfl rfl ?_
  refine zv_cl ht rfl rfl rfl (zv_tgm (hta) rfl) (by omega) (Nat.le_of_ble_eq_true rfl) h1

theorem ja4 {d : Nat} {S : zS} (hF : zFin true S) (a : Nat) {post : Outcome × zS → Prop} (h1 : post (.returned (some (.ref a)), S)) : zEv d 253 4 [.retAddr 0, .ref a] [] S post := by
  have ht : ztab 253 = ztb253 := rfl
  refine zv_c1 ht rfl rfl ?_
  exact zv_rt ht rfl rfl rfl rfl h1

theorem mu113 {d : Nat} {S : zS} (hF : zFin true S) (a : Nat) {post : Outcome × zS → Prop} (h1 : post (.returned (some (.ref a)), S)) : zEv d 262 113 [.retAddr 0, .retAddr 0, .retAddr 0, .retAddr 0, .retAddr 0] [.ref a] S post := by
  have ht : ztab 262 = ztb262 := rfl
  exact zv_rt ht rfl rfl rfl rfl h1

theorem th122 {d : Nat} {S : zS} (hF : zFin true S) (a : Nat) {post : Outcome × zS → Prop} (h1 : post (.returned (some (.ref a)), S)) : zEv d 263 122 [.retAddr 0, .retAddr 0, .retAddr 0, .retAddr 0, .retAddr 0, .retAddr 0] [.ref a] S post := by
  have ht : ztab 263 = ztb263 := rfl
  exact zv_rt ht rfl rfl rfl rfl h1


