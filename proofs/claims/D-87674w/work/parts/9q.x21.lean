set_option maxRecDepth 100000
/-! ===== the house reads a word and what it begins ===== -/
theorem plw15 {d : Nat} {S : zS} (hF : zFin true S) (hd : 5 ≤ d) {tp : Nat → Nat} {sz at0 nd r : Nat} {rec : Nat → Nat → Nat → pE (zNd × Nat × Nat)} {K : Nat} {w : Nat} (deep : Nat) (hR : xR tp sz S r at0 nd) (hs0 : sz ≤ 300) (ha0 : at0 ≤ sz) (hr1 : 1639 ≤ r) (hr2 : r < gN S) (hN : gN S + 30 * (sz - at0) ≤ 1700000) (hdp : deep < 1000) (hnd : nd ≤ 80) (hK : K + 3 ≤ d) (hK2 : 12 ≤ d) (hmono : pMono rec) (hRd : ∀ dp d', deep ≤ 24 → dp = deep + 1 → K ≤ d' → xRd tp sz d' dp rec) (hw : zDs S w (ztn 15)) (hwN : w < gN S) (hwl : at0 + 1 ≤ sz) {post : Outcome × zS → Prop} (h1 : ∀ S1 : zS, (zFin true S1) → (xFw S S1) → (xWd S1 w (ztn 15)) → (xR tp sz S1 r at0 nd) → (gN S1 = gN S ∧ gZ S1 = gZ S) → ∀ S2 : zS, ∀ nd2 : Nat, (zFin true S2) → (pRead at0 deep nd false = .ok nd2) → (xFr S1 S2) → (xR tp sz S2 r at0 nd2) → (gN S1 ≤ gN S2 ∧ gN S2 ≤ gN S1 + 0 ∧ gZ S2 ≤ gZ S1 + 0) → (at0 ≤ sz) → (nd2 ≤ 80) → (deep ≤ 24) → ∀ S19 : zS, (zFin true S19) → (pJ (tN 0 0 [] at0 []) = .ok (tN 0 0 [] at0 [])) → (xJd (sI (sI (sP (sNew (sI S2 133 r (Int32.ofNat (at0 + 1))) 16 0 (zslots 16)) 174 (gN S2) (some 0)) 144 (gN S2) (Int32.ofNat at0)) 173 (gN S2) 0) (gN S2) S19) → (xTl (gN S) S19 (tN 0 0 [] at0 []) (gN S2)) → (xR tp sz S19 r (at0 + 1) nd2) → (gN S19 = gN S2 + 1 ∧ gZ S19 = gZ S2 + 19) → post (.returned (some (.ref (gN S2))), S19)) (h2 : ∀ S1 : zS, (zFin true S1) → (xFw S S1) → (xWd S1 w (ztn 15)) → (xR tp sz S1 r at0 nd) → (gN S1 = gN S ∧ gZ S1 = gZ S) → ∀ S2 : zS, ∀ nd2 : Nat, (zFin true S2) → (pRead at0 deep nd false = .ok nd2) → (xFr S1 S2) → (xR tp sz S2 r at0 nd2) → (gN S1 ≤ gN S2 ∧ gN S2 ≤ gN S1 + 0 ∧ gZ S2 ≤ gZ S1 + 0) → (at0 ≤ sz) → (nd2 ≤ 80) → (deep ≤ 24) → ∀ S20 : zS, ∀ q20 : Nat, (zFin true S20) → (pJ (tN 0 0 [] at0 []) = .error (3, at0)) → (xFn (sI (sI (sP (sNew (sI S2 133 r (Int32.ofNat (at0 + 1))) 16 0 (zslots 16)) 174 (gN S2) (some 0)) 144 (gN S2) (Int32.ofNat at0)) 173 (gN S2) 0) (gN S2) S20) → (xFl S20 q20 3 at0) → (gN S20 = gN S2 + 1 + 1 ∧ gZ S20 ≤ gZ S2 + 19 + 3) → post (.threw q20, S20)) (h3 : ∀ S1 : zS, (zFin true S1) → (xFw S S1) → (xWd S1 w (ztn 15)) → (xR tp sz S1 r at0 nd) → (gN S1 = gN S ∧ gZ S1 = gZ S) → ∀ S3 : zS, ∀ q3 : Nat, (zFin true S3) → (pRead at0 deep nd false = .error (2, at0)) → (xFr S1 S3) → (xFl S3 q3 2 at0) → (gN S1 ≤ gN S3 ∧ gN S3 ≤ gN S1 + 1 ∧ gZ S3 ≤ gZ S1 + 3) → post (.threw q3, S3)) : zCall d 261 [.ref r, .ref w, .int (Int32.ofNat deep)] S post := by
  have ht : ztab 261 = ztb261 := rfl
  show zEv d 261 0 [.ref r, .ref w, .int (Int32.ofNat deep), .retAddr 0, .retAddr 0, .retAddr 0] [] S post
  refine zv_c1 ht rfl rfl ?_
  refine zv_ei (x := Int32.ofNat at0) ht rfl rfl (zhas_of (hR.1.2.2.2.1) rfl) hR.1.1 ?_
  refine zv_c2 (L' := [.ref r, .ref w, .int (Int32.ofNat deep), .int (Int32.ofNat at0), .retAddr 0, .retAddr 0]) ht rfl rfl ?_
  refine zv_c1 ht rfl rfl ?_
  refine zv_c2 (L' := [.ref r, .ref w, .int (Int32.ofNat deep), .int (Int32.ofNat at0), .ref w, .retAddr 0]) ht rfl rfl ?_
  refine zv_c1 ht rfl rfl ?_
  refine zv_c2 (L' := [.ref r, .ref w, .int (Int32.ofNat deep), .int (Int32.ofNat at0), .ref w, .int (-1)]) ht rfl rfl ?_
  refine zv_c1 ht rfl rfl ?_
  refine zv_cl ht rfl rfl rfl (zv_tgv ((zStr.t (zDs.wd hw).1)) rfl) (by omega) (Nat.le_of_ble_eq_true rfl) (x_hash (S := S) (tp := tp) (sz := sz) (r := r) hF (by omega) hw hR (v := 48) (by decide) (fun S1 hF1 k1 w1 p1 g1 => ?_))
  show zEv d 261 16 [.ref r, .ref w, .int (Int32.ofNat deep), .int (Int32.ofNat at0), .ref w, .int (-1)] [.int 48] S1 post
  refine zv_sw ht rfl rfl rfl rfl rfl ?_
  refine And.intro (fun h => absurd h (by decide)) (fun _ => ?_)
  refine And.intro (fun _ => ?_) (fun h => absurd (by decide) h)
  refine zv_c1 ht rfl rfl (zv_c1 ht rfl rfl ?_)
  refine zv_cl ht rfl rfl rfl (zv_tgv (Eq.trans (zKE.T (xFw.fr k1) (Or.inl (show w < gN S from by omega))) (zStr.t (zDs.wd hw).1)) rfl) (by omega) (Nat.le_of_ble_eq_true rfl) (x_eqW (S := S1) hF1 (by omega) w1.1 (xR.lit p1 15 (by decide)) (v := 1) (zbo_pos rfl) ?_)
  show zEv d 261 131 [.ref r, .ref w, .int (Int32.ofNat deep), .int (Int32.ofNat at0), .ref w, .int (-1)] [.int 1] S1 post
  refine zv_br ht rfl rfl rfl (fun h => absurd h (by decide)) (fun _ => ?_)
  refine zv_c1 ht rfl rfl ?_
  refine zv_c2 (L' := [.ref r, .ref w, .int (Int32.ofNat deep), .int (Int32.ofNat at0), .ref w, .int 0]) ht rfl rfl ?_
  refine zv_c1 ht rfl rfl (zv_c1 ht rfl rfl ?_)
  refine zv_sw ht rfl rfl rfl rfl rfl ?_
  refine And.intro (fun _ => ?_) (fun h => absurd (by decide) h)
  refine zv_c1 ht rfl rfl (zv_c1 ht rfl rfl (zv_c1 ht rfl rfl (zv_c1 ht rfl rfl ?_)))
  refine zv_cl ht rfl rfl rfl (zv_tgv (p1.1.2.2.2.1) rfl) (by omega) (Nat.le_of_ble_eq_true rfl) (x_begins (S := S1) (tp := tp) (sz := sz) (r := r) (p := at0) (dp := deep) (m := 1) (dq := deep) (two := false) hF1 (by omega) p1 (by omega) (by omega) (by omega) (by omega) rfl rfl (fun S2 nd2 hF2 e2 k2 p2 g2 b2 c2 d2 => ?_) (fun S3 q3 hF3 e3 k3 x3 g3 => ?_))
  · show zEv d 261 391 [.ref r, .ref w, .int (Int32.ofNat deep), .int (Int32.ofNat at0), .ref w, .int 0] [] S2 post
    refine zv_c1 ht rfl rfl (zv_c1 ht rfl rfl ?_)
    refine zv_ei (x := Int32.ofNat at0) ht rfl rfl (zhas_of (p2.1.2.2.2.1) rfl) p2.1.1 ?_
    refine zv_c1 ht rfl rfl ?_
    refine zv_e1 (x := Int32.ofNat (at0 + 1)) ht rfl rfl (zi_addE (a := at0) (b := 1) rfl rfl) ?_
    refine zv_ci (S' := sI S2 133 r (Int32.ofNat (at0 + 1))) ht rfl rfl ⟨(zhas_of (p2.1.2.2.2.1) rfl), (show r < gN S2 from by omega)⟩ ?_
    refine zv_c1 ht rfl rfl ?_
    refine zv_ci (st' := [.ref (gN S2), .ref r]) (S' := sNew (sI S2 133 r (Int32.ofNat (at0 + 1))) 16 0 (zslots 16)) ht rfl rfl (znew_ok (show 1639 ≤ gN S2 from by omega) (show gN S2 < 2000000 from by omega)) ?_
    refine zv_c1 ht rfl rfl (zv_c1 ht rfl rfl ?_)
    refine zv_g3 (q := 0) ht rfl (zFin_new hF2) rfl rfl (zhas_of (Eq.trans (ztyp_new (S := sI S2 133 r (Int32.ofNat (at0 + 1))) (t := 16) (n := 0) (s := zslots 16) (show r ≠ gN S2 from by omega)) p2.1.2.2.2.1) rfl) (Eq.trans (gP_new (S := sI S2 133 r (Int32.ofNat (at0 + 1))) (t := 16) (n := 0) (s := zslots 16) (show r ≠ gN S2 from by omega)) p2.1.2.2.2.2) ?_
    refine zv_c1 ht rfl rfl (zv_c1 ht rfl rfl (zv_c1 ht rfl rfl ?_))
    refine zv_cl ht rfl rfl rfl (zv_tgv (Eq.trans (ztyp_new (S := sI S2 133 r (Int32.ofNat (at0 + 1))) (t := 16) (n := 0) (s := zslots 16) (show w ≠ gN S2 from by omega)) (Eq.trans (zKE.T k2 (Or.inl (show w < gN S1 from by omega))) (Eq.trans (zKE.T (xFw.fr k1) (Or.inl (show w < gN S from by omega))) (zStr.t (zDs.wd hw).1)))) rfl) (by omega) (Nat.le_of_ble_eq_true rfl) (x_char (S := sNew (sI S2 133 r (Int32.ofNat (at0 + 1))) 16 0 (zslots 16)) (zFin_new hF2) (by omega) (xWd.k w1 (zKE.tr (zKE.tr (zKE.tr zKE.rf (zKE.w k2 (show gN S1 ≤ gN S1 from by omega) (fun _ h => h) (fun _ h => h))) (zKE_sI (Or.inl (by decide)))) (zKE_new (show gN S1 ≤ gN S2 ∧ gN S2 < zLB from ⟨by omega, by have hLB : zLB = 4294967296 := rfl; omega⟩)))).1 (i := 0) (by decide) (c := 48) (by decide) ?_)
    show zEv d 261 416 [.ref r, .ref w, .int (Int32.ofNat deep), .int (Int32.ofNat at0), .ref w, .int 0] [.int 48, .int (Int32.ofNat at0), .ref 0, .ref (gN S2), .ref (gN S2), .ref r] (sNew (sI S2 133 r (Int32.ofNat (at0 + 1))) 16 0 (zslots 16)) post
    refine zv_c1 ht rfl rfl ?_
    refine zv_br ht rfl rfl rfl (fun _ => ?_) (fun h => absurd (by decide) h)
    refine zv_c1 ht rfl rfl ?_
    have C5 : ∀ (pst4 : Outcome × zS → Prop), (pst4 (.returned none, sI (sI (sP (sNew (sI S2 133 r (Int32.ofNat (at0 + 1))) 16 0 (zslots 16)) 174 (gN S2) (some 0)) 144 (gN S2) (Int32.ofNat at0)) 173 (gN S2) 0)) → zCall (d - 1) 334 [.ref (gN S2), .ref 0, .int (Int32.ofNat at0), .int 0] (sNew (sI S2 133 r (Int32.ofNat (at0 + 1))) 16 0 (zslots 16)) pst4 := by
      intro pst4 k15
      have ht6 : ztab 334 = ztb334 := rfl
      show zEv (d - 1) 334 0 [.ref (gN S2), .ref 0, .int (Int32.ofNat at0), .int 0] [] (sNew (sI S2 133 r (Int32.ofNat (at0 + 1))) 16 0 (zslots 16)) pst4
      refine zv_c1 ht6 rfl rfl (zv_c1 ht6 rfl rfl ?_)
      refine zv_ci (S' := sP (sNew (sI S2 133 r (Int32.ofNat (at0 + 1))) 16 0 (zslots 16)) 174 (gN S2) (some 0)) ht6 rfl rfl ⟨(zhas_of (ztyp_new_at (S := sI S2 133 r (Int32.ofNat (at0 + 1))) (t := 16) (n := 0) (s := zslots 16) (show 1639 ≤ gN S2 from by omega)) rfl), (show gN S2 < gN S2 + 1 from by omega)⟩ ?_
      refine zv_c1 ht6 rfl rfl (zv_c1 ht6 rfl rfl (zv_c1 ht6 rfl rfl ?_))
      have C8 : ∀ (pst7 : Outcome × zS → Prop), (pst7 (.returned none, sI (sP (sNew (sI S2 133 r (Int32.ofNat (at0 + 1))) 16 0 (zslots 16)) 174 (gN S2) (some 0)) 144 (gN S2) (Int32.ofNat at0))) → zCall ((d - 1) - 1) 306 [.ref (gN S2), .ref 0, .int (Int32.ofNat at0)] (sP (sNew (sI S2 133 r (Int32.ofNat (at0 + 1))) 16 0 (zslots 16)) 174 (gN S2) (some 0)) pst7 := by
        intro pst7 k14
        have ht9 : ztab 306 = ztb306 := rfl
        show zEv ((d - 1) - 1) 306 0 [.ref (gN S2), .ref 0, .int (Int32.ofNat at0)] [] (sP (sNew (sI S2 133 r (Int32.ofNat (at0 + 1))) 16 0 (zslots 16)) 174 (gN S2) (some 0)) pst7
        refine zv_c1 ht9 rfl rfl (zv_c1 ht9 rfl rfl ?_)
        refine zv_ci (S' := sP (sNew (sI S2 133 r (Int32.ofNat (at0 + 1))) 16 0 (zslots 16)) 174 (gN S2) (some 0)) ht9 rfl rfl (zk5 (ztyp_new_at (S := sI S2 133 r (Int32.ofNat (at0 + 1))) (t := 16) (n := 0) (s := zslots 16) (show 1639 ≤ gN S2 from by omega)) rfl (show gN S2 < gN S2 + 1 from by omega) rfl gP_sP_at) ?_
        refine zv_c1 ht9 rfl rfl (zv_c1 ht9 rfl rfl (zv_c1 ht9 rfl rfl ?_))
        have C11 : ∀ (pst10 : Outcome × zS → Prop), (pst10 (.returned none, sI (sP (sNew (sI S2 133 r (Int32.ofNat (at0 + 1))) 16 0 (zslots 16)) 174 (gN S2) (some 0)) 144 (gN S2) (Int32.ofNat at0))) → zCall (((d - 1) - 1) - 1) 280 [.ref (gN S2), .ref 0, .int (Int32.ofNat at0)] (sP (sNew (sI S2 133 r (Int32.ofNat (at0 + 1))) 16 0 (zslots 16)) 174 (gN S2) (some 0)) pst10 := by
          intro pst10 k13
          have ht12 : ztab 280 = ztb280 := rfl
          show zEv (((d - 1) - 1) - 1) 280 0 [.ref (gN S2), .ref 0, .int (Int32.ofNat at0)] [] (sP (sNew (sI S2 133 r (Int32.ofNat (at0 + 1))) 16 0 (zslots 16)) 174 (gN S2) (some 0)) pst10
          refine zv_c1 ht12 rfl rfl (zv_c1 ht12 rfl rfl ?_)
          refine zv_ci (S' := sP (sNew (sI S2 133 r (Int32.ofNat (at0 + 1))) 16 0 (zslots 16)) 174 (gN S2) (some 0)) ht12 rfl rfl (zk5 (ztyp_new_at (S := sI S2 133 r (Int32.ofNat (at0 + 1))) (t := 16) (n := 0) (s := zslots 16) (show 1639 ≤ gN S2 from by omega)) rfl (show gN S2 < gN S2 + 1 from by omega) rfl gP_sP_at) ?_
          refine zv_c1 ht12 rfl rfl (zv_c1 ht12 rfl rfl (zv_c1 ht12 rfl rfl (zv_c1 ht12 rfl rfl ?_)))
          refine zv_ci (S' := sI (sP (sNew (sI S2 133 r (Int32.ofNat (at0 + 1))) 16 0 (zslots 16)) 174 (gN S2) (some 0)) 144 (gN S2) (Int32.ofNat at0)) ht12 rfl rfl ⟨(zhas_of (ztyp_new_at (S := sI S2 133 r (Int32.ofNat (at0 + 1))) (t := 16) (n := 0) (s := zslots 16) (show 1639 ≤ gN S2 from by omega)) rfl), (show gN S2 < gN S2 + 1 from by omega)⟩ ?_
          exact zv_rt ht12 rfl rfl rfl rfl k13
        refine zv_cl ht9 rfl rfl rfl rfl (by omega) (Nat.le_of_ble_eq_true rfl) (C11 _ ?_)
        show zEv ((d - 1) - 1) 306 11 [.ref (gN S2), .ref 0, .int (Int32.ofNat at0)] [] (sI (sP (sNew (sI S2 133 r (Int32.ofNat (at0 + 1))) 16 0 (zslots 16)) 174 (gN S2) (some 0)) 144 (gN S2) (Int32.ofNat at0)) pst7
        exact zv_rt ht9 rfl rfl rfl rfl k14
      refine zv_cl ht6 rfl rfl rfl rfl (by omega) (Nat.le_of_ble_eq_true rfl) (C8 _ ?_)
      show zEv (d - 1) 334 11 [.ref (gN S2), .ref 0, .int (Int32.ofNat at0), .int 0] [] (sI (sP (sNew (sI S2 133 r (Int32.ofNat (at0 + 1))) 16 0 (zslots 16)) 174 (gN S2) (some 0)) 144 (gN S2) (Int32.ofNat at0)) pst4
      refine zv_c1 ht6 rfl rfl (zv_c1 ht6 rfl rfl ?_)
      refine zv_ci (S' := sI (sI (sP (sNew (sI S2 133 r (Int32.ofNat (at0 + 1))) 16 0 (zslots 16)) 174 (gN S2) (some 0)) 144 (gN S2) (Int32.ofNat at0)) 173 (gN S2) 0) ht6 rfl rfl ⟨⟨(zhas_of (ztyp_new_at (S := sI S2 133 r (Int32.ofNat (at0 + 1))) (t := 16) (n := 0) (s := zslots 16) (show 1639 ≤ gN S2 from by omega)) rfl), (show gN S2 < gN S2 + 1 from by omega)⟩, (by decide)⟩ ?_
      exact zv_rt ht6 rfl rfl rfl rfl k15
    refine zv_cl ht rfl rfl rfl rfl (by omega) (Nat.le_of_ble_eq_true rfl) (C5 _ ?_)
    show zEv d 261 429 [.ref r, .ref w, .int (Int32.ofNat deep), .int (Int32.ofNat at0), .ref w, .int 0] [.ref (gN S2), .ref r] (sI (sI (sP (sNew (sI S2 133 r (Int32.ofNat (at0 + 1))) 16 0 (zslots 16)) 174 (gN S2) (some 0)) 144 (gN S2) (Int32.ofNat at0)) 173 (gN S2) 0) post
    have C17 : ∀ (pst16 : Outcome × zS → Prop), (∀ S19 : zS, (zFin true S19) → (pJ (tN 0 0 [] at0 []) = .ok (tN 0 0 [] at0 [])) → (xJd (sI (sI (sP (sNew (sI S2 133 r (Int32.ofNat (at0 + 1))) 16 0 (zslots 16)) 174 (gN S2) (some 0)) 144 (gN S2) (Int32.ofNat at0)) 173 (gN S2) 0) (gN S2) S19) → (xTl (gN S) S19 (tN 0 0 [] at0 []) (gN S2)) → (xR tp sz S19 r (at0 + 1) nd2) → (gN S19 = gN S2 + 1 ∧ gZ S19 = gZ S2 + 19) → pst16 (.returned (some (.ref (gN S2))), S19)) → (∀ S20 : zS, ∀ q20 : Nat, (zFin true S20) → (pJ (tN 0 0 [] at0 []) = .error (3, at0)) → (xFn (sI (sI (sP (sNew (sI S2 133 r (Int32.ofNat (at0 + 1))) 16 0 (zslots 16)) 174 (gN S2) (some 0)) 144 (gN S2) (Int32.ofNat at0)) 173 (gN S2) 0) (gN S2) S20) → (xFl S20 q20 3 at0) → (gN S20 = gN S2 + 1 + 1 ∧ gZ S20 ≤ gZ S2 + 19 + 3) → pst16 (.threw q20, S20)) → zCall (d - 1) 253 [.ref r, .ref (gN S2)] (sI (sI (sP (sNew (sI S2 133 r (Int32.ofNat (at0 + 1))) 16 0 (zslots 16)) 174 (gN S2) (some 0)) 144 (gN S2) (Int32.ofNat at0)) 173 (gN S2) 0) pst16 := by
      intro pst16 k21 k22
      have ht18 : ztab 253 = ztb253 := rfl
      show zEv (d - 1) 253 0 [.ref r, .ref (gN S2)] [] (sI (sI (sP (sNew (sI S2 133 r (Int32.ofNat (at0 + 1))) 16 0 (zslots 16)) 174 (gN S2) (some 0)) 144 (gN S2) (Int32.ofNat at0)) 173 (gN S2) 0) pst16
      refine zv_c1 ht18 rfl rfl ?_
      refine zv_cl ht18 rfl rfl rfl (zv_tgm (ztyp_new_at (S := sI S2 133 r (Int32.ofNat (at0 + 1))) (t := 16) (n := 0) (s := zslots 16) (show 1639 ≤ gN S2 from by omega)) rfl) (by omega) (Nat.le_of_ble_eq_true rfl) (x_judgeR (S := sI (sI (sP (sNew (sI S2 133 r (Int32.ofNat (at0 + 1))) 16 0 (zslots 16)) 174 (gN S2) (some 0)) 144 (gN S2) (Int32.ofNat at0)) 173 (gN S2) 0) (tp := tp) (sz := sz) (r := r) (a := gN S2) (k := 0) (v := 0) (p := at0) (ks := []) (js := []) (cs := []) (g := gN S2 + 1) (lo := gN S) (zFin_sP (zFin_new hF2) rfl) (by omega) (by omega) (by omega) (by omega) (by omega) rfl (xOwn_B (by decide) (ztyp_new_at (S := sI S2 133 r (Int32.ofNat (at0 + 1))) (t := 16) (n := 0) (s := zslots 16) (show 1639 ≤ gN S2 from by omega)) (gI_sI_at)) rfl (by decide) (by omega) (gI_sI_at) (gI_new_at (S := sI S2 133 r (Int32.ofNat (at0 + 1))) (t := 16) (n := 0) (s := zslots 16)) (gI_new_at (S := sI S2 133 r (Int32.ofNat (at0 + 1))) (t := 16) (n := 0) (s := zslots 16)) (xR.ke (Fs := []) (xR_at p2 (by omega)) (zKE.tr (zKE.tr (zKE.tr (zKE.tr zKE.rf (zKE_new (show gN (sI S2 133 r (Int32.ofNat (at0 + 1))) ≤ gN S2 ∧ gN S2 < zLB from ⟨by omega, by have hLB : zLB = 4294967296 := rfl; omega⟩))) (zKE_sP (Or.inr (Or.inr ⟨by omega, by have hLB : zLB = 4294967296 := rfl; omega⟩)))) (zKE_sI (Or.inr (Or.inr ⟨by omega, by have hLB : zLB = 4294967296 := rfl; omega⟩)))) (zKE_sI (Or.inr (Or.inr ⟨by omega, by have hLB : zLB = 4294967296 := rfl; omega⟩)))) (by omega) (by decide)) (by omega) (fun S19 hF19 e19 j19 t19 p19 g19 => ?_) (fun S20 q20 hF20 e20 k20 x20 g20 => ?_))
      · show zEv (d - 1) 253 4 [.ref r, .ref (gN S2)] [] S19 pst16
        refine zv_c1 ht18 rfl rfl ?_
        exact zv_rt ht18 rfl rfl rfl rfl (k21 S19 hF19 e19 j19 t19 p19 g19)
      · exact (k22 S20 q20 hF20 e20 k20 x20 g20)
    refine zv_cl ht rfl rfl rfl (zv_tgv (Eq.trans (ztyp_new (S := sI S2 133 r (Int32.ofNat (at0 + 1))) (t := 16) (n := 0) (s := zslots 16) (show r ≠ gN S2 from by omega)) p2.1.2.2.2.1) rfl) (by omega) (Nat.le_of_ble_eq_true rfl) (C17 _ (fun S19 hF19 e19 j19 t19 p19 g19 => ?_) (fun S20 q20 hF20 e20 k20 x20 g20 => ?_))
    · show zEv d 261 432 [.ref r, .ref w, .int (Int32.ofNat deep), .int (Int32.ofNat at0), .ref w, .int 0] [.ref (gN S2)] S19 post
      exact zv_rt ht rfl rfl rfl rfl (h1 S1 hF1 k1 w1 p1 g1 S2 nd2 hF2 e2 k2 p2 g2 b2 c2 d2 S19 hF19 e19 j19 t19 p19 g19)
    · exact (h2 S1 hF1 k1 w1 p1 g1 S2 nd2 hF2 e2 k2 p2 g2 b2 c2 d2 S20 q20 hF20 e20 k20 x20 g20)
  · exact (h3 S1 hF1 k1 w1 p1 g1 S3 q3 hF3 e3 k3 x3 g3)

theorem plw16 {d : Nat} {S : zS} (hF : zFin true S) (hd : 5 ≤ d) {tp : Nat → Nat} {sz at0 nd r : Nat} {rec : Nat → Nat → Nat → pE (zNd × Nat × Nat)} {K : Nat} {w : Nat} (deep : Nat) (hR : xR tp sz S r at0 nd) (hs0 : sz ≤ 300) (ha0 : at0 ≤ sz) (hr1 : 1639 ≤ r) (hr2 : r < gN S) (hN : gN S + 30 * (sz - at0) ≤ 1700000) (hdp : deep < 1000) (hnd : nd ≤ 80) (hK : K + 3 ≤ d) (hK2 : 12 ≤ d) (hmono : pMono rec) (hRd : ∀ dp d', deep ≤ 24 → dp = deep + 1 → K ≤ d' → xRd tp sz d' dp rec) (hw : zDs S w (ztn 16)) (hwN : w < gN S) (hwl : at0 + 1 ≤ sz) {post : Outcome × zS → Prop} (h1 : ∀ S1 : zS, (zFin true S1) → (xFw S S1) → (xWd S1 w (ztn 16)) → (xR tp sz S1 r at0 nd) → (gN S1 = gN S ∧ gZ S1 = gZ S) → ∀ S2 : zS, ∀ nd2 : Nat, (zFin true S2) → (pRead at0 deep nd false = .ok nd2) → (xFr S1 S2) → (xR tp sz S2 r at0 nd2) → (gN S1 ≤ gN S2 ∧ gN S2 ≤ gN S1 + 0 ∧ gZ S2 ≤ gZ S1 + 0) → (at0 ≤ sz) → (nd2 ≤ 80) → (deep ≤ 24) → ∀ S19 : zS, (zFin true S19) → (pJ (tN 1 0 [] at0 []) = .ok (tN 1 0 [] at0 [])) → (xJd (sI (sI (sP (sNew (sI S2 133 r (Int32.ofNat (at0 + 1))) 16 0 (zslots 16)) 174 (gN S2) (some 0)) 144 (gN S2) (Int32.ofNat at0)) 173 (gN S2) 1) (gN S2) S19) → (xTl (gN S) S19 (tN 1 0 [] at0 []) (gN S2)) → (xR tp sz S19 r (at0 + 1) nd2) → (gN S19 = gN S2 + 1 ∧ gZ S19 = gZ S2 + 19) → post (.returned (some (.ref (gN S2))), S19)) (h2 : ∀ S1 : zS, (zFin true S1) → (xFw S S1) → (xWd S1 w (ztn 16)) → (xR tp sz S1 r at0 nd) → (gN S1 = gN S ∧ gZ S1 = gZ S) → ∀ S2 : zS, ∀ nd2 : Nat, (zFin true S2) → (pRead at0 deep nd false = .ok nd2) → (xFr S1 S2) → (xR tp sz S2 r at0 nd2) → (gN S1 ≤ gN S2 ∧ gN S2 ≤ gN S1 + 0 ∧ gZ S2 ≤ gZ S1 + 0) → (at0 ≤ sz) → (nd2 ≤ 80) → (deep ≤ 24) → ∀ S20 : zS, ∀ q20 : Nat, (zFin true S20) → (pJ (tN 1 0 [] at0 []) = .error (3, at0)) → (xFn (sI (sI (sP (sNew (sI S2 133 r (Int32.ofNat (at0 + 1))) 16 0 (zslots 16)) 174 (gN S2) (some 0)) 144 (gN S2) (Int32.ofNat at0)) 173 (gN S2) 1) (gN S2) S20) → (xFl S20 q20 3 at0) → (gN S20 = gN S2 + 1 + 1 ∧ gZ S20 ≤ gZ S2 + 19 + 3) → post (.threw q20, S20)) (h3 : ∀ S1 : zS, (zFin true S1) → (xFw S S1) → (xWd S1 w (ztn 16)) → (xR tp sz S1 r at0 nd) → (gN S1 = gN S ∧ gZ S1 = gZ S) → ∀ S3 : zS, ∀ q3 : Nat, (zFin true S3) → (pRead at0 deep nd false = .error (2, at0)) → (xFr S1 S3) → (xFl S3 q3 2 at0) → (gN S1 ≤ gN S3 ∧ gN S3 ≤ gN S1 + 1 ∧ gZ S3 ≤ gZ S1 + 3) → post (.threw q3, S3)) : zCall d 261 [.ref r, .ref w, .int (Int32.ofNat deep)] S post := by
  have ht : ztab 261 = ztb261 := rfl
  show zEv d 261 0 [.ref r, .ref w, .int (Int32.ofNat deep), .retAddr 0, .retAddr 0, .retAddr 0] [] S post
  refine zv_c1 ht rfl rfl ?_
  refine zv_ei (x := Int32.ofNat at0) ht rfl rfl (zhas_of (hR.1.2.2.2.1) rfl) hR.1.1 ?_
  refine zv_c2 (L' := [.ref r, .ref w, .int (Int32.ofNat deep), .int (Int32.ofNat at0), .retAddr 0, .retAddr 0]) ht rfl rfl ?_
  refine zv_c1 ht rfl rfl ?_
  refine zv_c2 (L' := [.ref r, .ref w, .int (Int32.ofNat deep), .int (Int32.ofNat at0), .ref w, .retAddr 0]) ht rfl rfl ?_
  refine zv_c1 ht rfl rfl ?_
  refine zv_c2 (L' := [.ref r, .ref w, .int (Int32.ofNat deep), .int (Int32.ofNat at0), .ref w, .int (-1)]) ht rfl rfl ?_
  refine zv_c1 ht rfl rfl ?_
  refine zv_cl ht rfl rfl rfl (zv_tgv ((zStr.t (zDs.wd hw).1)) rfl) (by omega) (Nat.le_of_ble_eq_true rfl) (x_hash (S := S) (tp := tp) (sz := sz) (r := r) hF (by omega) hw hR (v := 49) (by decide) (fun S1 hF1 k1 w1 p1 g1 => ?_))
  show zEv d 261 16 [.ref r, .ref w, .int (Int32.ofNat deep), .int (Int32.ofNat at0), .ref w, .int (-1)] [.int 49] S1 post
  refine zv_sw ht rfl rfl rfl rfl rfl ?_
  refine And.intro (fun h => absurd h (by decide)) (fun _ => ?_)
  refine And.intro (fun h => absurd h (by decide)) (fun _ => ?_)
  refine And.intro (fun _ => ?_) (fun h => absurd (by decide) h)
  refine zv_c1 ht rfl rfl (zv_c1 ht rfl rfl ?_)
  refine zv_cl ht rfl rfl rfl (zv_tgv (Eq.trans (zKE.T (xFw.fr k1) (Or.inl (show w < gN S from by omega))) (zStr.t (zDs.wd hw).1)) rfl) (by omega) (Nat.le_of_ble_eq_true rfl) (x_eqW (S := S1) hF1 (by omega) w1.1 (xR.lit p1 16 (by decide)) (v := 1) (zbo_pos rfl) ?_)
  show zEv d 261 147 [.ref r, .ref w, .int (Int32.ofNat deep), .int (Int32.ofNat at0), .ref w, .int (-1)] [.int 1] S1 post
  refine zv_br ht rfl rfl rfl (fun h => absurd h (by decide)) (fun _ => ?_)
  refine zv_c1 ht rfl rfl ?_
  refine zv_c2 (L' := [.ref r, .ref w, .int (Int32.ofNat deep), .int (Int32.ofNat at0), .ref w, .int 1]) ht rfl rfl ?_
  refine zv_c1 ht rfl rfl (zv_c1 ht rfl rfl ?_)
  refine zv_sw ht rfl rfl rfl rfl rfl ?_
  refine And.intro (fun h => absurd h (by decide)) (fun _ => ?_)
  refine And.intro (fun _ => ?_) (fun h => absurd (by decide) h)
  refine zv_c1 ht rfl rfl (zv_c1 ht rfl rfl (zv_c1 ht rfl rfl (zv_c1 ht rfl rfl ?_)))
  refine zv_cl ht rfl rfl rfl (zv_tgv (p1.1.2.2.2.1) rfl) (by omega) (Nat.le_of_ble_eq_true rfl) (x_begins (S := S1) (tp := tp) (sz := sz) (r := r) (p := at0) (dp := deep) (m := 1) (dq := deep) (two := false) hF1 (by omega) p1 (by omega) (by omega) (by omega) (by omega) rfl rfl (fun S2 nd2 hF2 e2 k2 p2 g2 b2 c2 d2 => ?_) (fun S3 q3 hF3 e3 k3 x3 g3 => ?_))
  · show zEv d 261 391 [.ref r, .ref w, .int (Int32.ofNat deep), .int (Int32.ofNat at0), .ref w, .int 1] [] S2 post
    refine zv_c1 ht rfl rfl (zv_c1 ht rfl rfl ?_)
    refine zv_ei (x := Int32.ofNat at0) ht rfl rfl (zhas_of (p2.1.2.2.2.1) rfl) p2.1.1 ?_
    refine zv_c1 ht rfl rfl ?_
    refine zv_e1 (x := Int32.ofNat (at0 + 1)) ht rfl rfl (zi_addE (a := at0) (b := 1) rfl rfl) ?_
    refine zv_ci (S' := sI S2 133 r (Int32.ofNat (at0 + 1))) ht rfl rfl ⟨(zhas_of (p2.1.2.2.2.1) rfl), (show r < gN S2 from by omega)⟩ ?_
    refine zv_c1 ht rfl rfl ?_
    refine zv_ci (st' := [.ref (gN S2), .ref r]) (S' := sNew (sI S2 133 r (Int32.ofNat (at0 + 1))) 16 0 (zslots 16)) ht rfl rfl (znew_ok (show 1639 ≤ gN S2 from by omega) (show gN S2 < 2000000 from by omega)) ?_
    refine zv_c1 ht rfl rfl (zv_c1 ht rfl rfl ?_)
    refine zv_g3 (q := 0) ht rfl (zFin_new hF2) rfl rfl (zhas_of (Eq.trans (ztyp_new (S := sI S2 133 r (Int32.ofNat (at0 + 1))) (t := 16) (n := 0) (s := zslots 16) (show r ≠ gN S2 from by omega)) p2.1.2.2.2.1) rfl) (Eq.trans (gP_new (S := sI S2 133 r (Int32.ofNat (at0 + 1))) (t := 16) (n := 0) (s := zslots 16) (show r ≠ gN S2 from by omega)) p2.1.2.2.2.2) ?_
    refine zv_c1 ht rfl rfl (zv_c1 ht rfl rfl (zv_c1 ht rfl rfl ?_))
    refine zv_cl ht rfl rfl rfl (zv_tgv (Eq.trans (ztyp_new (S := sI S2 133 r (Int32.ofNat (at0 + 1))) (t := 16) (n := 0) (s := zslots 16) (show w ≠ gN S2 from by omega)) (Eq.trans (zKE.T k2 (Or.inl (show w < gN S1 from by omega))) (Eq.trans (zKE.T (xFw.fr k1) (Or.inl (show w < gN S from by omega))) (zStr.t (zDs.wd hw).1)))) rfl) (by omega) (Nat.le_of_ble_eq_true rfl) (x_char (S := sNew (sI S2 133 r (Int32.ofNat (at0 + 1))) 16 0 (zslots 16)) (zFin_new hF2) (by omega) (xWd.k w1 (zKE.tr (zKE.tr (zKE.tr zKE.rf (zKE.w k2 (show gN S1 ≤ gN S1 from by omega) (fun _ h => h) (fun _ h => h))) (zKE_sI (Or.inl (by decide)))) (zKE_new (show gN S1 ≤ gN S2 ∧ gN S2 < zLB from ⟨by omega, by have hLB : zLB = 4294967296 := rfl; omega⟩)))).1 (i := 0) (by decide) (c := 49) (by decide) ?_)
    show zEv d 261 416 [.ref r, .ref w, .int (Int32.ofNat deep), .int (Int32.ofNat at0), .ref w, .int 1] [.int 49, .int (Int32.ofNat at0), .ref 0, .ref (gN S2), .ref (gN S2), .ref r] (sNew (sI S2 133 r (Int32.ofNat (at0 + 1))) 16 0 (zslots 16)) post
    refine zv_c1 ht rfl rfl ?_
    refine zv_br ht rfl rfl rfl (fun h => absurd h (by decide)) (fun _ => ?_)
    refine zv_c1 ht rfl rfl (zv_c1 ht rfl rfl ?_)
    have C5 : ∀ (pst4 : Outcome × zS → Prop), (pst4 (.returned none, sI (sI (sP (sNew (sI S2 133 r (Int32.ofNat (at0 + 1))) 16 0 (zslots 16)) 174 (gN S2) (some 0)) 144 (gN S2) (Int32.ofNat at0)) 173 (gN S2) 1)) → zCall (d - 1) 334 [.ref (gN S2), .ref 0, .int (Int32.ofNat at0), .int 1] (sNew (sI S2 133 r (Int32.ofNat (at0 + 1))) 16 0 (zslots 16)) pst4 := by
      intro pst4 k15
      have ht6 : ztab 334 = ztb334 := rfl
      show zEv (d - 1) 334 0 [.ref (gN S2), .ref 0, .int (Int32.ofNat at0), .int 1] [] (sNew (sI S2 133 r (Int32.ofNat (at0 + 1))) 16 0 (zslots 16)) pst4
      refine zv_c1 ht6 rfl rfl (zv_c1 ht6 rfl rfl ?_)
      refine zv_ci (S' := sP (sNew (sI S2 133 r (Int32.ofNat (at0 + 1))) 16 0 (zslots 16)) 174 (gN S2) (some 0)) ht6 rfl rfl ⟨(zhas_of (ztyp_new_at (S := sI S2 133 r (Int32.ofNat (at0 + 1))) (t := 16) (n := 0) (s := zslots 16) (show 1639 ≤ gN S2 from by omega)) rfl), (show gN S2 < gN S2 + 1 from by omega)⟩ ?_
      refine zv_c1 ht6 rfl rfl (zv_c1 ht6 rfl rfl (zv_c1 ht6 rfl rfl ?_))
      have C8 : ∀ (pst7 : Outcome × zS → Prop), (pst7 (.returned none, sI (sP (sNew (sI S2 133 r (Int32.ofNat (at0 + 1))) 16 0 (zslots 16)) 174 (gN S2) (some 0)) 144 (gN S2) (Int32.ofNat at0))) → zCall ((d - 1) - 1) 306 [.ref (gN S2), .ref 0, .int (Int32.ofNat at0)] (sP (sNew (sI S2 133 r (Int32.ofNat (at0 + 1))) 16 0 (zslots 16)) 174 (gN S2) (some 0)) pst7 := by
        intro pst7 k14
        have ht9 : ztab 306 = ztb306 := rfl
        show zEv ((d - 1) - 1) 306 0 [.ref (gN S2), .ref 0, .int (Int32.ofNat at0)] [] (sP (sNew (sI S2 133 r (Int32.ofNat (at0 + 1))) 16 0 (zslots 16)) 174 (gN S2) (some 0)) pst7
        refine zv_c1 ht9 rfl rfl (zv_c1 ht9 rfl rfl ?_)
        refine zv_ci (S' := sP (sNew (sI S2 133 r (Int32.ofNat (at0 + 1))) 16 0 (zslots 16)) 174 (gN S2) (some 0)) ht9 rfl rfl (zk5 (ztyp_new_at (S := sI S2 133 r (Int32.ofNat (at0 + 1))) (t := 16) (n := 0) (s := zslots 16) (show 1639 ≤ gN S2 from by omega)) rfl (show gN S2 < gN S2 + 1 from by omega) rfl gP_sP_at) ?_
        refine zv_c1 ht9 rfl rfl (zv_c1 ht9 rfl rfl (zv_c1 ht9 rfl rfl ?_))
        have C11 : ∀ (pst10 : Outcome × zS → Prop), (pst10 (.returned none, sI (sP (sNew (sI S2 133 r (Int32.ofNat (at0 + 1))) 16 0 (zslots 16)) 174 (gN S2) (some 0)) 144 (gN S2) (Int32.ofNat at0))) → zCall (((d - 1) - 1) - 1) 280 [.ref (gN S2), .ref 0, .int (Int32.ofNat at0)] (sP (sNew (sI S2 133 r (Int32.ofNat (at0 + 1))) 16 0 (zslots 16)) 174 (gN S2) (some 0)) pst10 := by
          intro pst10 k13
          have ht12 : ztab 280 = ztb280 := rfl
          show zEv (((d - 1) - 1) - 1) 280 0 [.ref (gN S2), .ref 0, .int (Int32.ofNat at0)] [] (sP (sNew (sI S2 133 r (Int32.ofNat (at0 + 1))) 16 0 (zslots 16)) 174 (gN S2) (some 0)) pst10
          refine zv_c1 ht12 rfl rfl (zv_c1 ht12 rfl rfl ?_)
          refine zv_ci (S' := sP (sNew (sI S2 133 r (Int32.ofNat (at0 + 1))) 16 0 (zslots 16)) 174 (gN S2) (some 0)) ht12 rfl rfl (zk5 (ztyp_new_at (S := sI S2 133 r (Int32.ofNat (at0 + 1))) (t := 16) (n := 0) (s := zslots 16) (show 1639 ≤ gN S2 from by omega)) rfl (show gN S2 < gN S2 + 1 from by omega) rfl gP_sP_at) ?_
          refine zv_c1 ht12 rfl rfl (zv_c1 ht12 rfl rfl (zv_c1 ht12 rfl rfl (zv_c1 ht12 rfl rfl ?_)))
          refine zv_ci (S' := sI (sP (sNew (sI S2 133 r (Int32.ofNat (at0 + 1))) 16 0 (zslots 16)) 174 (gN S2) (some 0)) 144 (gN S2) (Int32.ofNat at0)) ht12 rfl rfl ⟨(zhas_of (ztyp_new_at (S := sI S2 133 r (Int32.ofNat (at0 + 1))) (t := 16) (n := 0) (s := zslots 16) (show 1639 ≤ gN S2 from by omega)) rfl), (show gN S2 < gN S2 + 1 from by omega)⟩ ?_
          exact zv_rt ht12 rfl rfl rfl rfl k13
        refine zv_cl ht9 rfl rfl rfl rfl (by omega) (Nat.le_of_ble_eq_true rfl) (C11 _ ?_)
        show zEv ((d - 1) - 1) 306 11 [.ref (gN S2), .ref 0, .int (Int32.ofNat at0)] [] (sI (sP (sNew (sI S2 133 r (Int32.ofNat (at0 + 1))) 16 0 (zslots 16)) 174 (gN S2) (some 0)) 144 (gN S2) (Int32.ofNat at0)) pst7
        exact zv_rt ht9 rfl rfl rfl rfl k14
      refine zv_cl ht6 rfl rfl rfl rfl (by omega) (Nat.le_of_ble_eq_true rfl) (C8 _ ?_)
      show zEv (d - 1) 334 11 [.ref (gN S2), .ref 0, .int (Int32.ofNat at0), .int 1] [] (sI (sP (sNew (sI S2 133 r (Int32.ofNat (at0 + 1))) 16 0 (zslots 16)) 174 (gN S2) (some 0)) 144 (gN S2) (Int32.ofNat at0)) pst4
      refine zv_c1 ht6 rfl rfl (zv_c1 ht6 rfl rfl ?_)
      refine zv_ci (S' := sI (sI (sP (sNew (sI S2 133 r (Int32.ofNat (at0 + 1))) 16 0 (zslots 16)) 174 (gN S2) (some 0)) 144 (gN S2) (Int32.ofNat at0)) 173 (gN S2) 1) ht6 rfl rfl ⟨⟨(zhas_of (ztyp_new_at (S := sI S2 133 r (Int32.ofNat (at0 + 1))) (t := 16) (n := 0) (s := zslots 16) (show 1639 ≤ gN S2 from by omega)) rfl), (show gN S2 < gN S2 + 1 from by omega)⟩, (by decide)⟩ ?_
      exact zv_rt ht6 rfl rfl rfl rfl k15
    refine zv_cl ht rfl rfl rfl rfl (by omega) (Nat.le_of_ble_eq_true rfl) (C5 _ ?_)
    show zEv d 261 429 [.ref r, .ref w, .int (Int32.ofNat deep), .int (Int32.ofNat at0), .ref w, .int 1] [.ref (gN S2), .ref r] (sI (sI (sP (sNew (sI S2 133 r (Int32.ofNat (at0 + 1))) 16 0 (zslots 16)) 174 (gN S2) (some 0)) 144 (gN S2) (Int32.ofNat at0)) 173 (gN S2) 1) post
    have C17 : ∀ (pst16 : Outcome × zS → Prop), (∀ S19 : zS, (zFin true S19) → (pJ (tN 1 0 [] at0 []) = .ok (tN 1 0 [] at0 [])) → (xJd (sI (sI (sP (sNew (sI S2 133 r (Int32.ofNat (at0 + 1))) 16 0 (zslots 16)) 174 (gN S2) (some 0)) 144 (gN S2) (Int32.ofNat at0)) 173 (gN S2) 1) (gN S2) S19) → (xTl (gN S) S19 (tN 1 0 [] at0 []) (gN S2)) → (xR tp sz S19 r (at0 + 1) nd2) → (gN S19 = gN S2 + 1 ∧ gZ S19 = gZ S2 + 19) → pst16 (.returned (some (.ref (gN S2))), S19)) → (∀ S20 : zS, ∀ q20 : Nat, (zFin true S20) → (pJ (tN 1 0 [] at0 []) = .error (3, at0)) → (xFn (sI (sI (sP (sNew (sI S2 133 r (Int32.ofNat (at0 + 1))) 16 0 (zslots 16)) 174 (gN S2) (some 0)) 144 (gN S2) (Int32.ofNat at0)) 173 (gN S2) 1) (gN S2) S20) → (xFl S20 q20 3 at0) → (gN S20 = gN S2 + 1 + 1 ∧ gZ S20 ≤ gZ S2 + 19 + 3) → pst16 (.threw q20, S20)) → zCall (d - 1) 253 [.ref r, .ref (gN S2)] (sI (sI (sP (sNew (sI S2 133 r (Int32.ofNat (at0 + 1))) 16 0 (zslots 16)) 174 (gN S2) (some 0)) 144 (gN S2) (Int32.ofNat at0)) 173 (gN S2) 1) pst16 := by
      intro pst16 k21 k22
      have ht18 : ztab 253 = ztb253 := rfl
      show zEv (d - 1) 253 0 [.ref r, .ref (gN S2)] [] (sI (sI (sP (sNew (sI S2 133 r (Int32.ofNat (at0 + 1))) 16 0 (zslots 16)) 174 (gN S2) (some 0)) 144 (gN S2) (Int32.ofNat at0)) 173 (gN S2) 1) pst16
      refine zv_c1 ht18 rfl rfl ?_
      refine zv_cl ht18 rfl rfl rfl (zv_tgm (ztyp_new_at (S := sI S2 133 r (Int32.ofNat (at0 + 1))) (t := 16) (n := 0) (s := zslots 16) (show 1639 ≤ gN S2 from by omega)) rfl) (by omega) (Nat.le_of_ble_eq_true rfl) (x_judgeR (S := sI (sI (sP (sNew (sI S2 133 r (Int32.ofNat (at0 + 1))) 16 0 (zslots 16)) 174 (gN S2) (some 0)) 144 (gN S2) (Int32.ofNat at0)) 173 (gN S2) 1) (tp := tp) (sz := sz) (r := r) (a := gN S2) (k := 1) (v := 0) (p := at0) (ks := []) (js := []) (cs := []) (g := gN S2 + 1) (lo := gN S) (zFin_sP (zFin_new hF2) rfl) (by omega) (by omega) (by omega) (by omega) (by omega) rfl (xOwn_B (by decide) (ztyp_new_at (S := sI S2 133 r (Int32.ofNat (at0 + 1))) (t := 16) (n := 0) (s := zslots 16) (show 1639 ≤ gN S2 from by omega)) (gI_sI_at)) rfl (by decide) (by omega) (gI_sI_at) (gI_new_at (S := sI S2 133 r (Int32.ofNat (at0 + 1))) (t := 16) (n := 0) (s := zslots 16)) (gI_new_at (S := sI S2 133 r (Int32.ofNat (at0 + 1))) (t := 16) (n := 0) (s := zslots 16)) (xR.ke (Fs := []) (xR_at p2 (by omega)) (zKE.tr (zKE.tr (zKE.tr (zKE.tr zKE.rf (zKE_new (show gN (sI S2 133 r (Int32.ofNat (at0 + 1))) ≤ gN S2 ∧ gN S2 < zLB from ⟨by omega, by have hLB : zLB = 4294967296 := rfl; omega⟩))) (zKE_sP (Or.inr (Or.inr ⟨by omega, by have hLB : zLB = 4294967296 := rfl; omega⟩)))) (zKE_sI (Or.inr (Or.inr ⟨by omega, by have hLB : zLB = 4294967296 := rfl; omega⟩)))) (zKE_sI (Or.inr (Or.inr ⟨by omega, by have hLB : zLB = 4294967296 := rfl; omega⟩)))) (by omega) (by decide)) (by omega) (fun S19 hF19 e19 j19 t19 p19 g19 => ?_) (fun S20 q20 hF20 e20 k20 x20 g20 => ?_))
      · show zEv (d - 1) 253 4 [.ref r, .ref (gN S2)] [] S19 pst16
        refine zv_c1 ht18 rfl rfl ?_
        exact zv_rt ht18 rfl rfl rfl rfl (k21 S19 hF19 e19 j19 t19 p19 g19)
      · exact (k22 S20 q20 hF20 e20 k20 x20 g20)
    refine zv_cl ht rfl rfl rfl (zv_tgv (Eq.trans (ztyp_new (S := sI S2 133 r (Int32.ofNat (at0 + 1))) (t := 16) (n := 0) (s := zslots 16) (show r ≠ gN S2 from by omega)) p2.1.2.2.2.1) rfl) (by omega) (Nat.le_of_ble_eq_true rfl) (C17 _ (fun S19 hF19 e19 j19 t19 p19 g19 => ?_) (fun S20 q20 hF20 e20 k20 x20 g20 => ?_))
    · show zEv d 261 432 [.ref r, .ref w, .int (Int32.ofNat deep), .int (Int32.ofNat at0), .ref w, .int 1] [.ref (gN S2)] S19 post
      exact zv_rt ht rfl rfl rfl rfl (h1 S1 hF1 k1 w1 p1 g1 S2 nd2 hF2 e2 k2 p2 g2 b2 c2 d2 S19 hF19 e19 j19 t19 p19 g19)
    · exact (h2 S1 hF1 k1 w1 p1 g1 S2 nd2 hF2 e2 k2 p2 g2 b2 c2 d2 S20 q20 hF20 e20 k20 x20 g20)
  · exact (h3 S1 hF1 k1 w1 p1 g1 S3 q3 hF3 e3 k3 x3 g3)

theorem plw18 {d : Nat} {S : zS} (hF : zFin true S) (hd : 7 ≤ d) {tp : Nat → Nat} {sz at0 nd r : Nat} {rec : Nat → Nat → Nat → pE (zNd × Nat × Nat)} {K : Nat} {w : Nat} (deep : Nat) (hR : xR tp sz S r at0 nd) (hs0 : sz ≤ 300) (ha0 : at0 ≤ sz) (hr1 : 1639 ≤ r) (hr2 : r < gN S) (hN : gN S + 30 * (sz - at0) ≤ 1700000) (hdp : deep < 1000) (hnd : nd ≤ 80) (hK : K + 3 ≤ d) (hK2 : 12 ≤ d) (hmono : pMono rec) (hRd : ∀ dp d', deep ≤ 24 → dp = deep + 1 → K ≤ d' → xRd tp sz d' dp rec) (hw : zDs S w (ztn 18)) (hwN : w < gN S) (hwl : at0 + 4 ≤ sz) {post : Outcome × zS → Prop} (h1 : ∀ S1 : zS, (zFin true S1) → (xFw S S1) → (xWd S1 w (ztn 18)) → (xR tp sz S1 r at0 nd) → (gN S1 = gN S ∧ gZ S1 = gZ S) → ∀ S2 : zS, ∀ nd2 : Nat, (zFin true S2) → (pRead at0 deep nd false = .ok nd2) → (xFr S1 S2) → (xR tp sz S2 r at0 nd2) → (gN S1 ≤ gN S2 ∧ gN S2 ≤ gN S1 + 0 ∧ gZ S2 ≤ gZ S1 + 0) → (at0 ≤ sz) → (nd2 ≤ 80) → (deep ≤ 24) → ∀ S4 : zS, ∀ a4 : Nat, ∀ y4 : zNd, ∀ at4 : Nat, ∀ nd4 : Nat, (zFin true S4) → (pW tp sz rec 2 at0 deep (at0 + 4) nd2 = .ok (y4, at4, nd4)) → (xFr (sI S2 133 r (Int32.ofNat (at0 + 4))) S4) → (xTl (gN S2) S4 y4 a4) → (xR tp sz S4 r at4 nd4) → (gN S2 ≤ gN S4 ∧ gN S4 + 30 * (sz - at4) ≤ gN S2 + 30 * (sz - (at0 + 4)) ∧ gZ S4 + 150 * (sz - at4) ≤ gZ S2 + 150 * (sz - (at0 + 4))) → (at4 ≤ sz ∧ gN S2 ≤ a4 ∧ a4 < gN S4) → post (.returned (some (.ref a4)), S4)) (h2 : ∀ S1 : zS, (zFin true S1) → (xFw S S1) → (xWd S1 w (ztn 18)) → (xR tp sz S1 r at0 nd) → (gN S1 = gN S ∧ gZ S1 = gZ S) → ∀ S2 : zS, ∀ nd2 : Nat, (zFin true S2) → (pRead at0 deep nd false = .ok nd2) → (xFr S1 S2) → (xR tp sz S2 r at0 nd2) → (gN S1 ≤ gN S2 ∧ gN S2 ≤ gN S1 + 0 ∧ gZ S2 ≤ gZ S1 + 0) → (at0 ≤ sz) → (nd2 ≤ 80) → (deep ≤ 24) → ∀ S5 : zS, ∀ q5 : Nat, ∀ kk5 : Nat, ∀ z5 : Nat, (zFin true S5) → (pW tp sz rec 2 at0 deep (at0 + 4) nd2 = .error (kk5, z5)) → (xFr (sI S2 133 r (Int32.ofNat (at0 + 4))) S5) → (xFl S5 q5 kk5 z5) → (gN S2 ≤ gN S5 ∧ gN S5 ≤ gN S2 + 30 * (sz - (at0 + 4)) + 60 ∧ gZ S5 ≤ gZ S2 + 150 * (sz - (at0 + 4)) + 2000) → post (.threw q5, S5)) (h3 : ∀ S1 : zS, (zFin true S1) → (xFw S S1) → (xWd S1 w (ztn 18)) → (xR tp sz S1 r at0 nd) → (gN S1 = gN S ∧ gZ S1 = gZ S) → ∀ S3 : zS, ∀ q3 : Nat, (zFin true S3) → (pRead at0 deep nd false = .error (2, at0)) → (xFr S1 S3) → (xFl S3 q3 2 at0) → (gN S1 ≤ gN S3 ∧ gN S3 ≤ gN S1 + 1 ∧ gZ S3 ≤ gZ S1 + 3) → post (.threw q3, S3)) : zCall d 261 [.ref r, .ref w, .int (Int32.ofNat deep)] S post := by
  have ht : ztab 261 = ztb261 := rfl
  show zEv d 261 0 [.ref r, .ref w, .int (Int32.ofNat deep), .retAddr 0, .retAddr 0, .retAddr 0] [] S post
  refine zv_c1 ht rfl rfl ?_
  refine zv_ei (x := Int32.ofNat at0) ht rfl rfl (zhas_of (hR.1.2.2.2.1) rfl) hR.1.1 ?_
  refine zv_c2 (L' := [.ref r, .ref w, .int (Int32.ofNat deep), .int (Int32.ofNat at0), .retAddr 0, .retAddr 0]) ht rfl rfl ?_
  refine zv_c1 ht rfl rfl ?_
  refine zv_c2 (L' := [.ref r, .ref w, .int (Int32.ofNat deep), .int (Int32.ofNat at0), .ref w, .retAddr 0]) ht rfl rfl ?_
  refine zv_c1 ht rfl rfl ?_
  refine zv_c2 (L' := [.ref r, .ref w, .int (Int32.ofNat deep), .int (Int32.ofNat at0), .ref w, .int (-1)]) ht rfl rfl ?_
  refine zv_c1 ht rfl rfl ?_
  refine zv_cl ht rfl rfl rfl (zv_tgv ((zStr.t (zDs.wd hw).1)) rfl) (by omega) (Nat.le_of_ble_eq_true rfl) (x_hash (S := S) (tp := tp) (sz := sz) (r := r) hF (by omega) hw hR (v := 3442471) (by decide) (fun S1 hF1 k1 w1 p1 g1 => ?_))
  show zEv d 261 16 [.ref r, .ref w, .int (Int32.ofNat deep), .int (Int32.ofNat at0), .ref w, .int (-1)] [.int 3442471] S1 post
  refine zv_sw ht rfl rfl rfl rfl rfl ?_
  refine And.intro (fun h => absurd h (by decide)) (fun _ => ?_)
  refine And.intro (fun h => absurd h (by decide)) (fun _ => ?_)
  refine And.intro (fun h => absurd h (by decide)) (fun _ => ?_)
  refine And.intro (fun h => absurd h (by decide)) (fun _ => ?_)
  refine And.intro (fun h => absurd h (by decide)) (fun _ => ?_)
  refine And.intro (fun h => absurd h (by decide)) (fun _ => ?_)
  refine And.intro (fun _ => ?_) (fun h => absurd (by decide) h)
  refine zv_c1 ht rfl rfl (zv_c1 ht rfl rfl ?_)
  refine zv_cl ht rfl rfl rfl (zv_tgv (Eq.trans (zKE.T (xFw.fr k1) (Or.inl (show w < gN S from by omega))) (zStr.t (zDs.wd hw).1)) rfl) (by omega) (Nat.le_of_ble_eq_true rfl) (x_eqW (S := S1) hF1 (by omega) w1.1 (xR.lit p1 18 (by decide)) (v := 1) (zbo_pos rfl) ?_)
  show zEv d 261 195 [.ref r, .ref w, .int (Int32.ofNat deep), .int (Int32.ofNat at0), .ref w, .int (-1)] [.int 1] S1 post
  refine zv_br ht rfl rfl rfl (fun h => absurd h (by decide)) (fun _ => ?_)
  refine zv_c1 ht rfl rfl ?_
  refine zv_c2 (L' := [.ref r, .ref w, .int (Int32.ofNat deep), .int (Int32.ofNat at0), .ref w, .int 4]) ht rfl rfl ?_
  refine zv_c1 ht rfl rfl (zv_c1 ht rfl rfl ?_)
  refine zv_sw ht rfl rfl rfl rfl rfl ?_
  refine And.intro (fun h => absurd h (by decide)) (fun _ => ?_)
  refine And.intro (fun h => absurd h (by decide)) (fun _ => ?_)
  refine And.intro (fun h => absurd h (by decide)) (fun _ => ?_)
  refine And.intro (fun h => absurd h (by decide)) (fun _ => ?_)
  refine And.intro (fun _ => ?_) (fun h => absurd (by decide) h)
  refine zv_c1 ht rfl rfl (zv_c1 ht rfl rfl (zv_c1 ht rfl rfl (zv_c1 ht rfl rfl ?_)))
  refine zv_cl ht rfl rfl rfl (zv_tgv (p1.1.2.2.2.1) rfl) (by omega) (Nat.le_of_ble_eq_true rfl) (x_begins (S := S1) (tp := tp) (sz := sz) (r := r) (p := at0) (dp := deep) (m := 1) (dq := deep) (two := false) hF1 (by omega) p1 (by omega) (by omega) (by omega) (by omega) rfl rfl (fun S2 nd2 hF2 e2 k2 p2 g2 b2 c2 d2 => ?_) (fun S3 q3 hF3 e3 k3 x3 g3 => ?_))
  · show zEv d 261 499 [.ref r, .ref w, .int (Int32.ofNat deep), .int (Int32.ofNat at0), .ref w, .int 4] [] S2 post
    refine zv_c1 ht rfl rfl (zv_c1 ht rfl rfl ?_)
    refine zv_ei (x := Int32.ofNat at0) ht rfl rfl (zhas_of (p2.1.2.2.2.1) rfl) p2.1.1 ?_
    refine zv_c1 ht rfl rfl ?_
    refine zv_e1 (x := Int32.ofNat (at0 + 4)) ht rfl rfl (zi_addE (a := at0) (b := 4) rfl rfl) ?_
    refine zv_ci (S' := sI S2 133 r (Int32.ofNat (at0 + 4))) ht rfl rfl ⟨(zhas_of (p2.1.2.2.2.1) rfl), (show r < gN S2 from by omega)⟩ ?_
    refine zv_c1 ht rfl rfl (zv_c1 ht rfl rfl (zv_c1 ht rfl rfl (zv_c1 ht rfl rfl ?_)))
    refine zv_cl ht rfl rfl rfl (zv_tgv (Eq.trans (zKE.T k2 (Or.inl (show w < gN S1 from by omega))) (Eq.trans (zKE.T (xFw.fr k1) (Or.inl (show w < gN S from by omega))) (zStr.t (zDs.wd hw).1))) rfl) (by omega) (Nat.le_of_ble_eq_true rfl) (x_char (S := sI S2 133 r (Int32.ofNat (at0 + 4))) hF2 (by omega) (xWd.k w1 (zKE.tr (zKE.tr zKE.rf (zKE.w k2 (show gN S1 ≤ gN S1 from by omega) (fun _ h => h) (fun _ h => h))) (zKE_sI (Or.inl (by decide))))).1 (i := 3) (by decide) (c := 107) (by decide) ?_)
    show zEv d 261 516 [.ref r, .ref w, .int (Int32.ofNat deep), .int (Int32.ofNat at0), .ref w, .int 4] [.int 107, .int (Int32.ofNat at0), .ref r] (sI S2 133 r (Int32.ofNat (at0 + 4))) post
    refine zv_c1 ht rfl rfl ?_
    refine zv_br ht rfl rfl rfl (fun _ => ?_) (fun h => absurd (by decide) h)
    refine zv_c1 ht rfl rfl ?_
    refine zv_cl ht rfl rfl rfl (zv_tgv (p2.1.2.2.2.1) rfl) (by omega) (Nat.le_of_ble_eq_true rfl) (xEnd.use (g := gN S2) (z := gZ S2) rfl rfl (x_keyN (S := sI S2 133 r (Int32.ofNat (at0 + 4))) (r := r) (rec := rec) (deep := deep) (p := at0) (k := 2) hF2 (by omega) (xR_at p2 (by omega)) (by omega) (by omega) (by omega)) (fun S4 a4 y4 at4 nd4 hF4 e4 k4 t4 p4 g4 c4 => ?_) (fun S5 q5 kk5 z5 hF5 e5 k5 x5 g5 => ?_))
    · show zEv d 261 529 [.ref r, .ref w, .int (Int32.ofNat deep), .int (Int32.ofNat at0), .ref w, .int 4] [.ref a4] S4 post
      exact zv_rt ht rfl rfl rfl rfl (h1 S1 hF1 k1 w1 p1 g1 S2 nd2 hF2 e2 k2 p2 g2 b2 c2 d2 S4 a4 y4 at4 nd4 hF4 e4 k4 t4 p4 g4 c4)
    · exact (h2 S1 hF1 k1 w1 p1 g1 S2 nd2 hF2 e2 k2 p2 g2 b2 c2 d2 S5 q5 kk5 z5 hF5 e5 k5 x5 g5)
  · exact (h3 S1 hF1 k1 w1 p1 g1 S3 q3 hF3 e3 k3 x3 g3)

theorem plw19 {d : Nat} {S : zS} (hF : zFin true S) (hd : 7 ≤ d) {tp : Nat → Nat} {sz at0 nd r : Nat} {rec : Nat → Nat → Nat → pE (zNd × Nat × Nat)} {K : Nat} {w : Nat} (deep : Nat) (hR : xR tp sz S r at0 nd) (hs0 : sz ≤ 300) (ha0 : at0 ≤ sz) (hr1 : 1639 ≤ r) (hr2 : r < gN S) (hN : gN S + 30 * (sz - at0) ≤ 1700000) (hdp : deep < 1000) (hnd : nd ≤ 80) (hK : K + 3 ≤ d) (hK2 : 12 ≤ d) (hmono : pMono rec) (hRd : ∀ dp d', deep ≤ 24 → dp = deep + 1 → K ≤ d' → xRd tp sz d' dp rec) (hw : zDs S w (ztn 19)) (hwN : w < gN S) (hwl : at0 + 4 ≤ sz) {post : Outcome × zS → Prop} (h1 : ∀ S1 : zS, (zFin true S1) → (xFw S S1) → (xWd S1 w (ztn 19)) → (xR tp sz S1 r at0 nd) → (gN S1 = gN S ∧ gZ S1 = gZ S) → ∀ S2 : zS, ∀ nd2 : Nat, (zFin true S2) → (pRead at0 deep nd false = .ok nd2) → (xFr S1 S2) → (xR tp sz S2 r at0 nd2) → (gN S1 ≤ gN S2 ∧ gN S2 ≤ gN S1 + 0 ∧ gZ S2 ≤ gZ S1 + 0) → (at0 ≤ sz) → (nd2 ≤ 80) → (deep ≤ 24) → ∀ S4 : zS, ∀ a4 : Nat, ∀ y4 : zNd, ∀ at4 : Nat, ∀ nd4 : Nat, (zFin true S4) → (pW tp sz rec 3 at0 deep (at0 + 4) nd2 = .ok (y4, at4, nd4)) → (xFr (sI S2 133 r (Int32.ofNat (at0 + 4))) S4) → (xTl (gN S2) S4 y4 a4) → (xR tp sz S4 r at4 nd4) → (gN S2 ≤ gN S4 ∧ gN S4 + 30 * (sz - at4) ≤ gN S2 + 30 * (sz - (at0 + 4)) ∧ gZ S4 + 150 * (sz - at4) ≤ gZ S2 + 150 * (sz - (at0 + 4))) → (at4 ≤ sz ∧ gN S2 ≤ a4 ∧ a4 < gN S4) → post (.returned (some (.ref a4)), S4)) (h2 : ∀ S1 : zS, (zFin true S1) → (xFw S S1) → (xWd S1 w (ztn 19)) → (xR tp sz S1 r at0 nd) → (gN S1 = gN S ∧ gZ S1 = gZ S) → ∀ S2 : zS, ∀ nd2 : Nat, (zFin true S2) → (pRead at0 deep nd false = .ok nd2) → (xFr S1 S2) → (xR tp sz S2 r at0 nd2) → (gN S1 ≤ gN S2 ∧ gN S2 ≤ gN S1 + 0 ∧ gZ S2 ≤ gZ S1 + 0) → (at0 ≤ sz) → (nd2 ≤ 80) → (deep ≤ 24) → ∀ S5 : zS, ∀ q5 : Nat, ∀ kk5 : Nat, ∀ z5 : Nat, (zFin true S5) → (pW tp sz rec 3 at0 deep (at0 + 4) nd2 = .error (kk5, z5)) → (xFr (sI S2 133 r (Int32.ofNat (at0 + 4))) S5) → (xFl S5 q5 kk5 z5) → (gN S2 ≤ gN S5 ∧ gN S5 ≤ gN S2 + 30 * (sz - (at0 + 4)) + 60 ∧ gZ S5 ≤ gZ S2 + 150 * (sz - (at0 + 4)) + 2000) → post (.threw q5, S5)) (h3 : ∀ S1 : zS, (zFin true S1) → (xFw S S1) → (xWd S1 w (ztn 19)) → (xR tp sz S1 r at0 nd) → (gN S1 = gN S ∧ gZ S1 = gZ S) → ∀ S3 : zS, ∀ q3 : Nat, (zFin true S3) → (pRead at0 deep nd false = .error (2, at0)) → (xFr S1 S3) → (xFl S3 q3 2 at0) → (gN S1 ≤ gN S3 ∧ gN S3 ≤ gN S1 + 1 ∧ gZ S3 ≤ gZ S1 + 3) → post (.threw q3, S3)) : zCall d 261 [.ref r, .ref w, .int (Int32.ofNat deep)] S post := by
  have ht : ztab 261 = ztb261 := rfl
  show zEv d 261 0 [.ref r, .ref w, .int (Int32.ofNat deep), .retAddr 0, .retAddr 0, .retAddr 0] [] S post
  refine zv_c1 ht rfl rfl ?_
  refine zv_ei (x := Int32.ofNat at0) ht rfl rfl (zhas_of (hR.1.2.2.2.1) rfl) hR.1.1 ?_
  refine zv_c2 (L' := [.ref r, .ref w, .int (Int32.ofNat deep), .int (Int32.ofNat at0), .retAddr 0, .retAddr 0]) ht rfl rfl ?_
  refine zv_c1 ht rfl rfl ?_
  refine zv_c2 (L' := [.ref r, .ref w, .int (Int32.ofNat deep), .int (Int32.ofNat at0), .ref w, .retAddr 0]) ht rfl rfl ?_
  refine zv_c1 ht rfl rfl ?_
  refine zv_c2 (L' := [.ref r, .ref w, .int (Int32.ofNat deep), .int (Int32.ofNat at0), .ref w, .int (-1)]) ht rfl rfl ?_
  refine zv_c1 ht rfl rfl ?_
  refine zv_cl ht rfl rfl rfl (zv_tgv ((zStr.t (zDs.wd hw).1)) rfl) (by omega) (Nat.le_of_ble_eq_true rfl) (x_hash (S := S) (tp := tp) (sz := sz) (r := r) hF (by omega) hw hR (v := 3442468) (by decide) (fun S1 hF1 k1 w1 p1 g1 => ?_))
  show zEv d 261 16 [.ref r, .ref w, .int (Int32.ofNat deep), .int (Int32.ofNat at0), .ref w, .int (-1)] [.int 3442468] S1 post
  refine zv_sw ht rfl rfl rfl rfl rfl ?_
  refine And.intro (fun h => absurd h (by decide)) (fun _ => ?_)
  refine And.intro (fun h => absurd h (by decide)) (fun _ => ?_)
  refine And.intro (fun h => absurd h (by decide)) (fun _ => ?_)
  refine And.intro (fun h => absurd h (by decide)) (fun _ => ?_)
  refine And.intro (fun h => absurd h (by decide)) (fun _ => ?_)
  refine And.intro (fun _ => ?_) (fun h => absurd (by decide) h)
  refine zv_c1 ht rfl rfl (zv_c1 ht rfl rfl ?_)
  refine zv_cl ht rfl rfl rfl (zv_tgv (Eq.trans (zKE.T (xFw.fr k1) (Or.inl (show w < gN S from by omega))) (zStr.t (zDs.wd hw).1)) rfl) (by omega) (Nat.le_of_ble_eq_true rfl) (x_eqW (S := S1) hF1 (by omega) w1.1 (xR.lit p1 19 (by decide)) (v := 1) (zbo_pos rfl) ?_)
  show zEv d 261 211 [.ref r, .ref w, .int (Int32.ofNat deep), .int (Int32.ofNat at0), .ref w, .int (-1)] [.int 1] S1 post
  refine zv_br ht rfl rfl rfl (fun h => absurd h (by decide)) (fun _ => ?_)
  refine zv_c1 ht rfl rfl ?_
  refine zv_c2 (L' := [.ref r, .ref w, .int (Int32.ofNat deep), .int (Int32.ofNat at0), .ref w, .int 5]) ht rfl rfl ?_
  refine zv_c1 ht rfl rfl (zv_c1 ht rfl rfl ?_)
  refine zv_sw ht rfl rfl rfl rfl rfl ?_
  refine And.intro (fun h => absurd h (by decide)) (fun _ => ?_)
  refine And.intro (fun h => absurd h (by decide)) (fun _ => ?_)
  refine And.intro (fun h => absurd h (by decide)) (fun _ => ?_)
  refine And.intro (fun h => absurd h (by decide)) (fun _ => ?_)
  refine And.intro (fun h => absurd h (by decide)) (fun _ => ?_)
  refine And.intro (fun _ => ?_) (fun h => absurd (by decide) h)
  refine zv_c1 ht rfl rfl (zv_c1 ht rfl rfl (zv_c1 ht rfl rfl (zv_c1 ht rfl rfl ?_)))
  refine zv_cl ht rfl rfl rfl (zv_tgv (p1.1.2.2.2.1) rfl) (by omega) (Nat.le_of_ble_eq_true rfl) (x_begins (S := S1) (tp := tp) (sz := sz) (r := r) (p := at0) (dp := deep) (m := 1) (dq := deep) (two := false) hF1 (by omega) p1 (by omega) (by omega) (by omega) (by omega) rfl rfl (fun S2 nd2 hF2 e2 k2 p2 g2 b2 c2 d2 => ?_) (fun S3 q3 hF3 e3 k3 x3 g3 => ?_))
  · show zEv d 261 499 [.ref r, .ref w, .int (Int32.ofNat deep), .int (Int32.ofNat at0), .ref w, .int 5] [] S2 post
    refine zv_c1 ht rfl rfl (zv_c1 ht rfl rfl ?_)
    refine zv_ei (x := Int32.ofNat at0) ht rfl rfl (zhas_of (p2.1.2.2.2.1) rfl) p2.1.1 ?_
    refine zv_c1 ht rfl rfl ?_
    refine zv_e1 (x := Int32.ofNat (at0 + 4)) ht rfl rfl (zi_addE (a := at0) (b := 4) rfl rfl) ?_
    refine zv_ci (S' := sI S2 133 r (Int32.ofNat (at0 + 4))) ht rfl rfl ⟨(zhas_of (p2.1.2.2.2.1) rfl), (show r < gN S2 from by omega)⟩ ?_
    refine zv_c1 ht rfl rfl (zv_c1 ht rfl rfl (zv_c1 ht rfl rfl (zv_c1 ht rfl rfl ?_)))
    refine zv_cl ht rfl rfl rfl (zv_tgv (Eq.trans (zKE.T k2 (Or.inl (show w < gN S1 from by omega))) (Eq.trans (zKE.T (xFw.fr k1) (Or.inl (show w < gN S from by omega))) (zStr.t (zDs.wd hw).1))) rfl) (by omega) (Nat.le_of_ble_eq_true rfl) (x_char (S := sI S2 133 r (Int32.ofNat (at0 + 4))) hF2 (by omega) (xWd.k w1 (zKE.tr (zKE.tr zKE.rf (zKE.w k2 (show gN S1 ≤ gN S1 from by omega) (fun _ h => h) (fun _ h => h))) (zKE_sI (Or.inl (by decide))))).1 (i := 3) (by decide) (c := 104) (by decide) ?_)
    show zEv d 261 516 [.ref r, .ref w, .int (Int32.ofNat deep), .int (Int32.ofNat at0), .ref w, .int 5] [.int 104, .int (Int32.ofNat at0), .ref r] (sI S2 133 r (Int32.ofNat (at0 + 4))) post
    refine zv_c1 ht rfl rfl ?_
    refine zv_br ht rfl rfl rfl (fun h => absurd h (by decide)) (fun _ => ?_)
    refine zv_c1 ht rfl rfl (zv_c1 ht rfl rfl ?_)
    refine zv_cl ht rfl rfl rfl (zv_tgv (p2.1.2.2.2.1) rfl) (by omega) (Nat.le_of_ble_eq_true rfl) (xEnd.use (g := gN S2) (z := gZ S2) rfl rfl (x_keyN (S := sI S2 133 r (Int32.ofNat (at0 + 4))) (r := r) (rec := rec) (deep := deep) (p := at0) (k := 3) hF2 (by omega) (xR_at p2 (by omega)) (by omega) (by omega) (by omega)) (fun S4 a4 y4 at4 nd4 hF4 e4 k4 t4 p4 g4 c4 => ?_) (fun S5 q5 kk5 z5 hF5 e5 k5 x5 g5 => ?_))
    · show zEv d 261 529 [.ref r, .ref w, .int (Int32.ofNat deep), .int (Int32.ofNat at0), .ref w, .int 5] [.ref a4] S4 post
      exact zv_rt ht rfl rfl rfl rfl (h1 S1 hF1 k1 w1 p1 g1 S2 nd2 hF2 e2 k2 p2 g2 b2 c2 d2 S4 a4 y4 at4 nd4 hF4 e4 k4 t4 p4 g4 c4)
    · exact (h2 S1 hF1 k1 w1 p1 g1 S2 nd2 hF2 e2 k2 p2 g2 b2 c2 d2 S5 q5 kk5 z5 hF5 e5 k5 x5 g5)
  · exact (h3 S1 hF1 k1 w1 p1 g1 S3 q3 hF3 e3 k3 x3 g3)

theorem plw6 {d : Nat} {S : zS} (hF : zFin true S) (hd : 7 ≤ d) {tp : Nat → Nat} {sz at0 nd r : Nat} {rec : Nat → Nat → Nat → pE (zNd × Nat × Nat)} {K : Nat} {w : Nat} (deep : Nat) (hR : xR tp sz S r at0 nd) (hs0 : sz ≤ 300) (ha0 : at0 ≤ sz) (hr1 : 1639 ≤ r) (hr2 : r < gN S) (hN : gN S + 30 * (sz - at0) ≤ 1700000) (hdp : deep < 1000) (hnd : nd ≤ 80) (hK : K + 3 ≤ d) (hK2 : 12 ≤ d) (hmono : pMono rec) (hRd : ∀ dp d', deep ≤ 24 → dp = deep + 1 → K ≤ d' → xRd tp sz d' dp rec) (hw : zDs S w (ztn 6)) (hwN : w < gN S) (hwl : at0 + 5 ≤ sz) {post : Outcome × zS → Prop} (h1 : ∀ S1 : zS, (zFin true S1) → (xFw S S1) → (xWd S1 w (ztn 6)) → (xR tp sz S1 r at0 nd) → (gN S1 = gN S ∧ gZ S1 = gZ S) → ∀ S2 : zS, ∀ nd2 : Nat, (zFin true S2) → (pRead at0 deep nd false = .ok nd2) → (xFr S1 S2) → (xR tp sz S2 r at0 nd2) → (gN S1 ≤ gN S2 ∧ gN S2 ≤ gN S1 + 0 ∧ gZ S2 ≤ gZ S1 + 0) → (at0 ≤ sz) → (nd2 ≤ 80) → (deep ≤ 24) → ∀ S4 : zS, ∀ a4 : Nat, ∀ y4 : zNd, ∀ at4 : Nat, ∀ nd4 : Nat, (zFin true S4) → (pW tp sz rec 4 at0 deep (at0 + 5) nd2 = .ok (y4, at4, nd4)) → (xFr (sI S2 133 r (Int32.ofNat (at0 + 5))) S4) → (xTl (gN S2) S4 y4 a4) → (xR tp sz S4 r at4 nd4) → (gN S2 ≤ gN S4 ∧ gN S4 + 30 * (sz - at4) ≤ gN S2 + 30 * (sz - (at0 + 5)) ∧ gZ S4 + 150 * (sz - at4) ≤ gZ S2 + 150 * (sz - (at0 + 5))) → (at4 ≤ sz ∧ gN S2 ≤ a4 ∧ a4 < gN S4) → post (.returned (some (.ref a4)), S4)) (h2 : ∀ S1 : zS, (zFin true S1) → (xFw S S1) → (xWd S1 w (ztn 6)) → (xR tp sz S1 r at0 nd) → (gN S1 = gN S ∧ gZ S1 = gZ S) → ∀ S2 : zS, ∀ nd2 : Nat, (zFin true S2) → (pRead at0 deep nd false = .ok nd2) → (xFr S1 S2) → (xR tp sz S2 r at0 nd2) → (gN S1 ≤ gN S2 ∧ gN S2 ≤ gN S1 + 0 ∧ gZ S2 ≤ gZ S1 + 0) → (at0 ≤ sz) → (nd2 ≤ 80) → (deep ≤ 24) → ∀ S5 : zS, ∀ q5 : Nat, ∀ kk5 : Nat, ∀ z5 : Nat, (zFin true S5) → (pW tp sz rec 4 at0 deep (at0 + 5) nd2 = .error (kk5, z5)) → (xFr (sI S2 133 r (Int32.ofNat (at0 + 5))) S5) → (xFl S5 q5 kk5 z5) → (gN S2 ≤ gN S5 ∧ gN S5 ≤ gN S2 + 30 * (sz - (at0 + 5)) + 60 ∧ gZ S5 ≤ gZ S2 + 150 * (sz - (at0 + 5)) + 2000) → post (.threw q5, S5)) (h3 : ∀ S1 : zS, (zFin true S1) → (xFw S S1) → (xWd S1 w (ztn 6)) → (xR tp sz S1 r at0 nd) → (gN S1 = gN S ∧ gZ S1 = gZ S) → ∀ S3 : zS, ∀ q3 : Nat, (zFin true S3) → (pRead at0 deep nd false = .error (2, at0)) → (xFr S1 S3) → (xFl S3 q3 2 at0) → (gN S1 ≤ gN S3 ∧ gN S3 ≤ gN S1 + 1 ∧ gZ S3 ≤ gZ S1 + 3) → post (.threw q3, S3)) : zCall d 261 [.ref r, .ref w, .int (Int32.ofNat deep)] S post := by
  have ht : ztab 261 = ztb261 := rfl
  show zEv d 261 0 [.ref r, .ref w, .int (Int32.ofNat deep), .retAddr 0, .retAddr 0, .retAddr 0] [] S post
  refine zv_c1 ht rfl rfl ?_
  refine zv_ei (x := Int32.ofNat at0) ht rfl rfl (zhas_of (hR.1.2.2.2.1) rfl) hR.1.1 ?_
  refine zv_c2 (L' := [.ref r, .ref w, .int (Int32.ofNat deep), .int (Int32.ofNat at0), .retAddr 0, .retAddr 0]) ht rfl rfl ?_
  refine zv_c1 ht rfl rfl ?_
  refine zv_c2 (L' := [.ref r, .ref w, .int (Int32.ofNat deep), .int (Int32.ofNat at0), .ref w, .retAddr 0]) ht rfl rfl ?_
  refine zv_c1 ht rfl rfl ?_
  refine zv_c2 (L' := [.ref r, .ref w, .int (Int32.ofNat deep), .int (Int32.ofNat at0), .ref w, .int (-1)]) ht rfl rfl ?_
  refine zv_c1 ht rfl rfl ?_
  refine zv_cl ht rfl rfl rfl (zv_tgv ((zStr.t (zDs.wd hw).1)) rfl) (by omega) (Nat.le_of_ble_eq_true rfl) (x_hash (S := S) (tp := tp) (sz := sz) (r := r) hF (by omega) hw hR (v := 105827604) (by decide) (fun S1 hF1 k1 w1 p1 g1 => ?_))
  show zEv d 261 16 [.ref r, .ref w, .int (Int32.ofNat deep), .int (Int32.ofNat at0), .ref w, .int (-1)] [.int 105827604] S1 post
  refine zv_sw ht rfl rfl rfl rfl rfl ?_
  refine And.intro (fun h => absurd h (by decide)) (fun _ => ?_)
  refine And.intro (fun h => absurd h (by decide)) (fun _ => ?_)
  refine And.intro (fun h => absurd h (by decide)) (fun _ => ?_)
  refine And.intro (fun h => absurd h (by decide)) (fun _ => ?_)
  refine And.intro (fun h => absurd h (by decide)) (fun _ => ?_)
  refine And.intro (fun h => absurd h (by decide)) (fun _ => ?_)
  refine And.intro (fun h => absurd h (by decide)) (fun _ => ?_)
  refine And.intro (fun h => absurd h (by decide)) (fun _ => ?_)
  refine And.intro (fun h => absurd h (by decide)) (fun _ => ?_)
  refine And.intro (fun h => absurd h (by decide)) (fun _ => ?_)
  refine And.intro (fun h => absurd h (by decide)) (fun _ => ?_)
  refine And.intro (fun _ => ?_) (fun h => absurd (by decide) h)
  refine zv_c1 ht rfl rfl (zv_c1 ht rfl rfl ?_)
  refine zv_cl ht rfl rfl rfl (zv_tgv (Eq.trans (zKE.T (xFw.fr k1) (Or.inl (show w < gN S from by omega))) (zStr.t (zDs.wd hw).1)) rfl) (by omega) (Nat.le_of_ble_eq_true rfl) (x_eqW (S := S1) hF1 (by omega) w1.1 (xR.lit p1 6 (by decide)) (v := 1) (zbo_pos rfl) ?_)
  show zEv d 261 227 [.ref r, .ref w, .int (Int32.ofNat deep), .int (Int32.ofNat at0), .ref w, .int (-1)] [.int 1] S1 post
  refine zv_br ht rfl rfl rfl (fun h => absurd h (by decide)) (fun _ => ?_)
  refine zv_c1 ht rfl rfl ?_
  refine zv_c2 (L' := [.ref r, .ref w, .int (Int32.ofNat deep), .int (Int32.ofNat at0), .ref w, .int 6]) ht rfl rfl ?_
  refine zv_c1 ht rfl rfl (zv_c1 ht rfl rfl ?_)
  refine zv_sw ht rfl rfl rfl rfl rfl ?_
  refine And.intro (fun h => absurd h (by decide)) (fun _ => ?_)
  refine And.intro (fun h => absurd h (by decide)) (fun _ => ?_)
  refine And.intro (fun h => absurd h (by decide)) (fun _ => ?_)
  refine And.intro (fun h => absurd h (by decide)) (fun _ => ?_)
  refine And.intro (fun h => absurd h (by decide)) (fun _ => ?_)
  refine And.intro (fun h => absurd h (by decide)) (fun _ => ?_)
  refine And.intro (fun _ => ?_) (fun h => absurd (by decide) h)
  refine zv_c1 ht rfl rfl (zv_c1 ht rfl rfl (zv_c1 ht rfl rfl (zv_c1 ht rfl rfl ?_)))
  refine zv_cl ht rfl rfl rfl (zv_tgv (p1.1.2.2.2.1) rfl) (by omega) (Nat.le_of_ble_eq_true rfl) (x_begins (S := S1) (tp := tp) (sz := sz) (r := r) (p := at0) (dp := deep) (m := 1) (dq := deep) (two := false) hF1 (by omega) p1 (by omega) (by omega) (by omega) (by omega) rfl rfl (fun S2 nd2 hF2 e2 k2 p2 g2 b2 c2 d2 => ?_) (fun S3 q3 hF3 e3 k3 x3 g3 => ?_))
  · show zEv d 261 537 [.ref r, .ref w, .int (Int32.ofNat deep), .int (Int32.ofNat at0), .ref w, .int 6] [] S2 post
    refine zv_c1 ht rfl rfl (zv_c1 ht rfl rfl ?_)
    refine zv_ei (x := Int32.ofNat at0) ht rfl rfl (zhas_of (p2.1.2.2.2.1) rfl) p2.1.1 ?_
    refine zv_c1 ht rfl rfl ?_
    refine zv_e1 (x := Int32.ofNat (at0 + 5)) ht rfl rfl (zi_addE (a := at0) (b := 5) rfl rfl) ?_
    refine zv_ci (S' := sI S2 133 r (Int32.ofNat (at0 + 5))) ht rfl rfl ⟨(zhas_of (p2.1.2.2.2.1) rfl), (show r < gN S2 from by omega)⟩ ?_
    refine zv_c1 ht rfl rfl (zv_c1 ht rfl rfl (zv_c1 ht rfl rfl (zv_c1 ht rfl rfl ?_)))
    refine zv_cl ht rfl rfl rfl (zv_tgv (Eq.trans (zKE.T k2 (Or.inl (show w < gN S1 from by omega))) (Eq.trans (zKE.T (xFw.fr k1) (Or.inl (show w < gN S from by omega))) (zStr.t (zDs.wd hw).1))) rfl) (by omega) (Nat.le_of_ble_eq_true rfl) (x_char (S := sI S2 133 r (Int32.ofNat (at0 + 5))) hF2 (by omega) (xWd.k w1 (zKE.tr (zKE.tr zKE.rf (zKE.w k2 (show gN S1 ≤ gN S1 from by omega) (fun _ h => h) (fun _ h => h))) (zKE_sI (Or.inl (by decide))))).1 (i := 0) (by decide) (c := 111) (by decide) ?_)
    show zEv d 261 554 [.ref r, .ref w, .int (Int32.ofNat deep), .int (Int32.ofNat at0), .ref w, .int 6] [.int 111, .int (Int32.ofNat at0), .ref r] (sI S2 133 r (Int32.ofNat (at0 + 5))) post
    refine zv_c1 ht rfl rfl ?_
    refine zv_br ht rfl rfl rfl (fun h => absurd h (by decide)) (fun _ => ?_)
    refine zv_c1 ht rfl rfl (zv_c1 ht rfl rfl ?_)
    refine zv_cl ht rfl rfl rfl (zv_tgv (p2.1.2.2.2.1) rfl) (by omega) (Nat.le_of_ble_eq_true rfl) (xEnd.use (g := gN S2) (z := gZ S2) rfl rfl (x_lock (S := sI S2 133 r (Int32.ofNat (at0 + 5))) (r := r) (rec := rec) (deep := deep) (p := at0) (k := 4) hF2 (by omega) (xR_at p2 (by omega)) (by omega) (by omega) (by omega)) (fun S4 a4 y4 at4 nd4 hF4 e4 k4 t4 p4 g4 c4 => ?_) (fun S5 q5 kk5 z5 hF5 e5 k5 x5 g5 => ?_))
    · show zEv d 261 567 [.ref r, .ref w, .int (Int32.ofNat deep), .int (Int32.ofNat at0), .ref w, .int 6] [.ref a4] S4 post
      exact zv_rt ht rfl rfl rfl rfl (h1 S1 hF1 k1 w1 p1 g1 S2 nd2 hF2 e2 k2 p2 g2 b2 c2 d2 S4 a4 y4 at4 nd4 hF4 e4 k4 t4 p4 g4 c4)
    · exact (h2 S1 hF1 k1 w1 p1 g1 S2 nd2 hF2 e2 k2 p2 g2 b2 c2 d2 S5 q5 kk5 z5 hF5 e5 k5 x5 g5)
  · exact (h3 S1 hF1 k1 w1 p1 g1 S3 q3 hF3 e3 k3 x3 g3)

theorem plw7 {d : Nat} {S : zS} (hF : zFin true S) (hd : 7 ≤ d) {tp : Nat → Nat} {sz at0 nd r : Nat} {rec : Nat → Nat → Nat → pE (zNd × Nat × Nat)} {K : Nat} {w : Nat} (deep : Nat) (hR : xR tp sz S r at0 nd) (hs0 : sz ≤ 300) (ha0 : at0 ≤ sz) (hr1 : 1639 ≤ r) (hr2 : r < gN S) (hN : gN S + 30 * (sz - at0) ≤ 1700000) (hdp : deep < 1000) (hnd : nd ≤ 80) (hK : K + 3 ≤ d) (hK2 : 12 ≤ d) (hmono : pMono rec) (hRd : ∀ dp d', deep ≤ 24 → dp = deep + 1 → K ≤ d' → xRd tp sz d' dp rec) (hw : zDs S w (ztn 7)) (hwN : w < gN S) (hwl : at0 + 5 ≤ sz) {post : Outcome × zS → Prop} (h1 : ∀ S1 : zS, (zFin true S1) → (xFw S S1) → (xWd S1 w (ztn 7)) → (xR tp sz S1 r at0 nd) → (gN S1 = gN S ∧ gZ S1 = gZ S) → ∀ S2 : zS, ∀ nd2 : Nat, (zFin true S2) → (pRead at0 deep nd false = .ok nd2) → (xFr S1 S2) → (xR tp sz S2 r at0 nd2) → (gN S1 ≤ gN S2 ∧ gN S2 ≤ gN S1 + 0 ∧ gZ S2 ≤ gZ S1 + 0) → (at0 ≤ sz) → (nd2 ≤ 80) → (deep ≤ 24) → ∀ S4 : zS, ∀ a4 : Nat, ∀ y4 : zNd, ∀ at4 : Nat, ∀ nd4 : Nat, (zFin true S4) → (pW tp sz rec 5 at0 deep (at0 + 5) nd2 = .ok (y4, at4, nd4)) → (xFr (sI S2 133 r (Int32.ofNat (at0 + 5))) S4) → (xTl (gN S2) S4 y4 a4) → (xR tp sz S4 r at4 nd4) → (gN S2 ≤ gN S4 ∧ gN S4 + 30 * (sz - at4) ≤ gN S2 + 30 * (sz - (at0 + 5)) ∧ gZ S4 + 150 * (sz - at4) ≤ gZ S2 + 150 * (sz - (at0 + 5))) → (at4 ≤ sz ∧ gN S2 ≤ a4 ∧ a4 < gN S4) → post (.returned (some (.ref a4)), S4)) (h2 : ∀ S1 : zS, (zFin true S1) → (xFw S S1) → (xWd S1 w (ztn 7)) → (xR tp sz S1 r at0 nd) → (gN S1 = gN S ∧ gZ S1 = gZ S) → ∀ S2 : zS, ∀ nd2 : Nat, (zFin true S2) → (pRead at0 deep nd false = .ok nd2) → (xFr S1 S2) → (xR tp sz S2 r at0 nd2) → (gN S1 ≤ gN S2 ∧ gN S2 ≤ gN S1 + 0 ∧ gZ S2 ≤ gZ S1 + 0) → (at0 ≤ sz) → (nd2 ≤ 80) → (deep ≤ 24) → ∀ S5 : zS, ∀ q5 : Nat, ∀ kk5 : Nat, ∀ z5 : Nat, (zFin true S5) → (pW tp sz rec 5 at0 deep (at0 + 5) nd2 = .error (kk5, z5)) → (xFr (sI S2 133 r (Int32.ofNat (at0 + 5))) S5) → (xFl S5 q5 kk5 z5) → (gN S2 ≤ gN S5 ∧ gN S5 ≤ gN S2 + 30 * (sz - (at0 + 5)) + 60 ∧ gZ S5 ≤ gZ S2 + 150 * (sz - (at0 + 5)) + 2000) → post (.threw q5, S5)) (h3 : ∀ S1 : zS, (zFin true S1) → (xFw S S1) → (xWd S1 w (ztn 7)) → (xR tp sz S1 r at0 nd) → (gN S1 = gN S ∧ gZ S1 = gZ S) → ∀ S3 : zS, ∀ q3 : Nat, (zFin true S3) → (pRead at0 deep nd false = .error (2, at0)) → (xFr S1 S3) → (xFl S3 q3 2 at0) → (gN S1 ≤ gN S3 ∧ gN S3 ≤ gN S1 + 1 ∧ gZ S3 ≤ gZ S1 + 3) → post (.threw q3, S3)) : zCall d 261 [.ref r, .ref w, .int (Int32.ofNat deep)] S post := by
  have ht : ztab 261 = ztb261 := rfl
  show zEv d 261 0 [.ref r, .ref w, .int (Int32.ofNat deep), .retAddr 0, .retAddr 0, .retAddr 0] [] S post
  refine zv_c1 ht rfl rfl ?_
  refine zv_ei (x := Int32.ofNat at0) ht rfl rfl (zhas_of (hR.1.2.2.2.1) rfl) hR.1.1 ?_
  refine zv_c2 (L' := [.ref r, .ref w, .int (Int32.ofNat deep), .int (Int32.ofNat at0), .retAddr 0, .retAddr 0]) ht rfl rfl ?_
  refine zv_c1 ht rfl rfl ?_
  refine zv_c2 (L' := [.ref r, .ref w, .int (Int32.ofNat deep), .int (Int32.ofNat at0), .ref w, .retAddr 0]) ht rfl rfl ?_
  refine zv_c1 ht rfl rfl ?_
  refine zv_c2 (L' := [.ref r, .ref w, .int (Int32.ofNat deep), .int (Int32.ofNat at0), .ref w, .int (-1)]) ht rfl rfl ?_
  refine zv_c1 ht rfl rfl ?_
  refine zv_cl ht rfl rfl rfl (zv_tgv ((zStr.t (zDs.wd hw).1)) rfl) (by omega) (Nat.le_of_ble_eq_true rfl) (x_hash (S := S) (tp := tp) (sz := sz) (r := r) hF (by omega) hw hR (v := 92734940) (by decide) (fun S1 hF1 k1 w1 p1 g1 => ?_))
  show zEv d 261 16 [.ref r, .ref w, .int (Int32.ofNat deep), .int (Int32.ofNat at0), .ref w, .int (-1)] [.int 92734940] S1 post
  refine zv_sw ht rfl rfl rfl rfl rfl ?_
  refine And.intro (fun h => absurd h (by decide)) (fun _ => ?_)
  refine And.intro (fun h => absurd h (by decide)) (fun _ => ?_)
  refine And.intro (fun h => absurd h (by decide)) (fun _ => ?_)
  refine And.intro (fun h => absurd h (by decide)) (fun _ => ?_)
  refine And.intro (fun h => absurd h (by decide)) (fun _ => ?_)
  refine And.intro (fun h => absurd h (by decide)) (fun _ => ?_)
  refine And.intro (fun h => absurd h (by decide)) (fun _ => ?_)
  refine And.intro (fun _ => ?_) (fun h => absurd (by decide) h)
  refine zv_c1 ht rfl rfl (zv_c1 ht rfl rfl ?_)
  refine zv_cl ht rfl rfl rfl (zv_tgv (Eq.trans (zKE.T (xFw.fr k1) (Or.inl (show w < gN S from by omega))) (zStr.t (zDs.wd hw).1)) rfl) (by omega) (Nat.le_of_ble_eq_true rfl) (x_eqW (S := S1) hF1 (by omega) w1.1 (xR.lit p1 7 (by decide)) (v := 1) (zbo_pos rfl) ?_)
  show zEv d 261 244 [.ref r, .ref w, .int (Int32.ofNat deep), .int (Int32.ofNat at0), .ref w, .int (-1)] [.int 1] S1 post
  refine zv_br ht rfl rfl rfl (fun h => absurd h (by decide)) (fun _ => ?_)
  refine zv_c1 ht rfl rfl ?_
  refine zv_c2 (L' := [.ref r, .ref w, .int (Int32.ofNat deep), .int (Int32.ofNat at0), .ref w, .int 7]) ht rfl rfl ?_
  refine zv_c1 ht rfl rfl (zv_c1 ht rfl rfl ?_)
  refine zv_sw ht rfl rfl rfl rfl rfl ?_
  refine And.intro (fun h => absurd h (by decide)) (fun _ => ?_)
  refine And.intro (fun h => absurd h (by decide)) (fun _ => ?_)
  refine And.intro (fun h => absurd h (by decide)) (fun _ => ?_)
  refine And.intro (fun h => absurd h (by decide)) (fun _ => ?_)
  refine And.intro (fun h => absurd h (by decide)) (fun _ => ?_)
  refine And.intro (fun h => absurd h (by decide)) (fun _ => ?_)
  refine And.intro (fun h => absurd h (by decide)) (fun _ => ?_)
  refine And.intro (fun _ => ?_) (fun h => absurd (by decide) h)
  refine zv_c1 ht rfl rfl (zv_c1 ht rfl rfl (zv_c1 ht rfl rfl (zv_c1 ht rfl rfl ?_)))
  refine zv_cl ht rfl rfl rfl (zv_tgv (p1.1.2.2.2.1) rfl) (by omega) (Nat.le_of_ble_eq_true rfl) (x_begins (S := S1) (tp := tp) (sz := sz) (r := r) (p := at0) (dp := deep) (m := 1) (dq := deep) (two := false) hF1 (by omega) p1 (by omega) (by omega) (by omega) (by omega) rfl rfl (fun S2 nd2 hF2 e2 k2 p2 g2 b2 c2 d2 => ?_) (fun S3 q3 hF3 e3 k3 x3 g3 => ?_))
  · show zEv d 261 537 [.ref r, .ref w, .int (Int32.ofNat deep), .int (Int32.ofNat at0), .ref w, .int 7] [] S2 post
    refine zv_c1 ht rfl rfl (zv_c1 ht rfl rfl ?_)
    refine zv_ei (x := Int32.ofNat at0) ht rfl rfl (zhas_of (p2.1.2.2.2.1) rfl) p2.1.1 ?_
    refine zv_c1 ht rfl rfl ?_
    refine zv_e1 (x := Int32.ofNat (at0 + 5)) ht rfl rfl (zi_addE (a := at0) (b := 5) rfl rfl) ?_
    refine zv_ci (S' := sI S2 133 r (Int32.ofNat (at0 + 5))) ht rfl rfl ⟨(zhas_of (p2.1.2.2.2.1) rfl), (show r < gN S2 from by omega)⟩ ?_
    refine zv_c1 ht rfl rfl (zv_c1 ht rfl rfl (zv_c1 ht rfl rfl (zv_c1 ht rfl rfl ?_)))
    refine zv_cl ht rfl rfl rfl (zv_tgv (Eq.trans (zKE.T k2 (Or.inl (show w < gN S1 from by omega))) (Eq.trans (zKE.T (xFw.fr k1) (Or.inl (show w < gN S from by omega))) (zStr.t (zDs.wd hw).1))) rfl) (by omega) (Nat.le_of_ble_eq_true rfl) (x_char (S := sI S2 133 r (Int32.ofNat (at0 + 5))) hF2 (by omega) (xWd.k w1 (zKE.tr (zKE.tr zKE.rf (zKE.w k2 (show gN S1 ≤ gN S1 from by omega) (fun _ h => h) (fun _ h => h))) (zKE_sI (Or.inl (by decide))))).1 (i := 0) (by decide) (c := 97) (by decide) ?_)
    show zEv d 261 554 [.ref r, .ref w, .int (Int32.ofNat deep), .int (Int32.ofNat at0), .ref w, .int 7] [.int 97, .int (Int32.ofNat at0), .ref r] (sI S2 133 r (Int32.ofNat (at0 + 5))) post
    refine zv_c1 ht rfl rfl ?_
    refine zv_br ht rfl rfl rfl (fun _ => ?_) (fun h => absurd (by decide) h)
    refine zv_c1 ht rfl rfl ?_
    refine zv_cl ht rfl rfl rfl (zv_tgv (p2.1.2.2.2.1) rfl) (by omega) (Nat.le_of_ble_eq_true rfl) (xEnd.use (g := gN S2) (z := gZ S2) rfl rfl (x_lock (S := sI S2 133 r (Int32.ofNat (at0 + 5))) (r := r) (rec := rec) (deep := deep) (p := at0) (k := 5) hF2 (by omega) (xR_at p2 (by omega)) (by omega) (by omega) (by omega)) (fun S4 a4 y4 at4 nd4 hF4 e4 k4 t4 p4 g4 c4 => ?_) (fun S5 q5 kk5 z5 hF5 e5 k5 x5 g5 => ?_))
    · show zEv d 261 567 [.ref r, .ref w, .int (Int32.ofNat deep), .int (Int32.ofNat at0), .ref w, .int 7] [.ref a4] S4 post
      exact zv_rt ht rfl rfl rfl rfl (h1 S1 hF1 k1 w1 p1 g1 S2 nd2 hF2 e2 k2 p2 g2 b2 c2 d2 S4 a4 y4 at4 nd4 hF4 e4 k4 t4 p4 g4 c4)
    · exact (h2 S1 hF1 k1 w1 p1 g1 S2 nd2 hF2 e2 k2 p2 g2 b2 c2 d2 S5 q5 kk5 z5 hF5 e5 k5 x5 g5)
  · exact (h3 S1 hF1 k1 w1 p1 g1 S3 q3 hF3 e3 k3 x3 g3)

theorem plw11 {d : Nat} {S : zS} (hF : zFin true S) (hd : 12 ≤ d) {tp : Nat → Nat} {sz at0 nd r : Nat} {rec : Nat → Nat → Nat → pE (zNd × Nat × Nat)} {K : Nat} {w : Nat} (deep : Nat) (hR : xR tp sz S r at0 nd) (hs0 : sz ≤ 300) (ha0 : at0 ≤ sz) (hr1 : 1639 ≤ r) (hr2 : r < gN S) (hN : gN S + 30 * (sz - at0) ≤ 1700000) (hdp : deep < 1000) (hnd : nd ≤ 80) (hK : K + 3 ≤ d) (hK2 : 12 ≤ d) (hmono : pMono rec) (hRd : ∀ dp d', deep ≤ 24 → dp = deep + 1 → K ≤ d' → xRd tp sz d' dp rec) (hw : zDs S w (ztn 11)) (hwN : w < gN S) (hwl : at0 + 6 ≤ sz) {post : Outcome × zS → Prop} (h1 : ∀ S1 : zS, (zFin true S1) → (xFw S S1) → (xWd S1 w (ztn 11)) → (xR tp sz S1 r at0 nd) → (gN S1 = gN S ∧ gZ S1 = gZ S) → ∀ S2 : zS, ∀ a2 : Nat, ∀ y2 : zNd, ∀ at2 : Nat, ∀ nd2 : Nat, (zFin true S2) → (pNm tp sz rec 6 at0 (at0 + 6) deep nd = .ok (y2, at2, nd2)) → (xFr S1 S2) → (xTl (gN S1) S2 y2 a2) → (xR tp sz S2 r at2 nd2) → (gN S1 ≤ gN S2 ∧ gN S2 + 30 * (sz - at2) ≤ gN S1 + 30 * (sz - (at0 + 6)) + 2 ∧ gZ S2 + 150 * (sz - at2) ≤ gZ S1 + 150 * (sz - (at0 + 6)) + 60) → (at2 ≤ sz ∧ gN S1 ≤ a2 ∧ a2 < gN S2) → post (.returned (some (.ref a2)), S2)) (h2 : ∀ S1 : zS, (zFin true S1) → (xFw S S1) → (xWd S1 w (ztn 11)) → (xR tp sz S1 r at0 nd) → (gN S1 = gN S ∧ gZ S1 = gZ S) → ∀ S3 : zS, ∀ q3 : Nat, ∀ kk3 : Nat, ∀ z3 : Nat, (zFin true S3) → (pNm tp sz rec 6 at0 (at0 + 6) deep nd = .error (kk3, z3)) → (xFr S1 S3) → (xFl S3 q3 kk3 z3) → (gN S1 ≤ gN S3 ∧ gN S3 ≤ gN S1 + 30 * (sz - (at0 + 6)) + 2 + 60 ∧ gZ S3 ≤ gZ S1 + 150 * (sz - (at0 + 6)) + 60 + 2000) → post (.threw q3, S3)) : zCall d 261 [.ref r, .ref w, .int (Int32.ofNat deep)] S post := by
  have ht : ztab 261 = ztb261 := rfl
  show zEv d 261 0 [.ref r, .ref w, .int (Int32.ofNat deep), .retAddr 0, .retAddr 0, .retAddr 0] [] S post
  refine zv_c1 ht rfl rfl ?_
  refine zv_ei (x := Int32.ofNat at0) ht rfl rfl (zhas_of (hR.1.2.2.2.1) rfl) hR.1.1 ?_
  refine zv_c2 (L' := [.ref r, .ref w, .int (Int32.ofNat deep), .int (Int32.ofNat at0), .retAddr 0, .retAddr 0]) ht rfl rfl ?_
  refine zv_c1 ht rfl rfl ?_
  refine zv_c2 (L' := [.ref r, .ref w, .int (Int32.ofNat deep), .int (Int32.ofNat at0), .ref w, .retAddr 0]) ht rfl rfl ?_
  refine zv_c1 ht rfl rfl ?_
  refine zv_c2 (L' := [.ref r, .ref w, .int (Int32.ofNat deep), .int (Int32.ofNat at0), .ref w, .int (-1)]) ht rfl rfl ?_
  refine zv_c1 ht rfl rfl ?_
  refine zv_cl ht rfl rfl rfl (zv_tgv ((zStr.t (zDs.wd hw).1)) rfl) (by omega) (Nat.le_of_ble_eq_true rfl) (x_hash (S := S) (tp := tp) (sz := sz) (r := r) hF (by omega) hw hR (v := (-903629273)) (by decide) (fun S1 hF1 k1 w1 p1 g1 => ?_))
  show zEv d 261 16 [.ref r, .ref w, .int (Int32.ofNat deep), .int (Int32.ofNat at0), .ref w, .int (-1)] [.int (-903629273)] S1 post
  refine zv_sw ht rfl rfl rfl rfl rfl ?_
  refine And.intro (fun h => absurd h (by decide)) (fun _ => ?_)
  refine And.intro (fun h => absurd h (by decide)) (fun _ => ?_)
  refine And.intro (fun h => absurd h (by decide)) (fun _ => ?_)
  refine And.intro (fun h => absurd h (by decide)) (fun _ => ?_)
  refine And.intro (fun h => absurd h (by decide)) (fun _ => ?_)
  refine And.intro (fun h => absurd h (by decide)) (fun _ => ?_)
  refine And.intro (fun h => absurd h (by decide)) (fun _ => ?_)
  refine And.intro (fun h => absurd h (by decide)) (fun _ => ?_)
  refine And.intro (fun h => absurd h (by decide)) (fun _ => ?_)
  refine And.intro (fun h => absurd h (by decide)) (fun _ => ?_)
  refine And.intro (fun h => absurd h (by decide)) (fun _ => ?_)
  refine And.intro (fun h => absurd h (by decide)) (fun _ => ?_)
  refine zv_c1 ht rfl rfl ?_
  refine zv_sw ht rfl rfl rfl rfl rfl ?_
  refine And.intro (fun h => absurd h (by decide)) (fun _ => ?_)
  refine And.intro (fun h => absurd h (by decide)) (fun _ => ?_)
  refine And.intro (fun h => absurd h (by decide)) (fun _ => ?_)
  refine And.intro (fun h => absurd h (by decide)) (fun _ => ?_)
  refine And.intro (fun h => absurd h (by decide)) (fun _ => ?_)
  refine And.intro (fun h => absurd h (by decide)) (fun _ => ?_)
  refine And.intro (fun h => absurd h (by decide)) (fun _ => ?_)
  refine And.intro (fun h => absurd h (by decide)) (fun _ => ?_)
  refine And.intro (fun h => absurd h (by decide)) (fun _ => ?_)
  refine And.intro (fun h => absurd h (by decide)) (fun _ => ?_)
  refine And.intro (fun h => absurd h (by decide)) (fun _ => ?_)
  refine And.intro (fun h => absurd h (by decide)) (fun _ => ?_)
  refine zv_c1 ht rfl rfl (zv_c1 ht rfl rfl (zv_c1 ht rfl rfl (zv_c1 ht rfl rfl ?_)))
  refine zv_cl ht rfl rfl rfl (zv_tgv (p1.1.2.2.2.1) rfl) (by omega) (Nat.le_of_ble_eq_true rfl) (xEc.use (g := gN S1) (cN := gN S1 + 30 * (sz - (at0 + 6)) + 2) (cZ := gZ S1 + 150 * (sz - (at0 + 6)) + 60) rfl (x_ot11 (S := S1) (r := r) (rec := rec) (K := K) hF1 (by omega) (by omega) hmono p1 (by omega) (by omega) (by omega) hRd w1 (by omega)) (fun S2 a2 y2 at2 nd2 hF2 e2 k2 t2 p2 g2 c2 => ?_) (fun S3 q3 kk3 z3 hF3 e3 k3 x3 g3 => ?_))
  · show zEv d 261 673 [.ref r, .ref w, .int (Int32.ofNat deep), .int (Int32.ofNat at0), .ref w, .int (-1)] [.ref a2] S2 post
    exact zv_rt ht rfl rfl rfl rfl (h1 S1 hF1 k1 w1 p1 g1 S2 a2 y2 at2 nd2 hF2 e2 k2 t2 p2 g2 c2)
  · exact (h2 S1 hF1 k1 w1 p1 g1 S3 q3 kk3 z3 hF3 e3 k3 x3 g3)

theorem plw12 {d : Nat} {S : zS} (hF : zFin true S) (hd : 12 ≤ d) {tp : Nat → Nat} {sz at0 nd r : Nat} {rec : Nat → Nat → Nat → pE (zNd × Nat × Nat)} {K : Nat} {w : Nat} (deep : Nat) (hR : xR tp sz S r at0 nd) (hs0 : sz ≤ 300) (ha0 : at0 ≤ sz) (hr1 : 1639 ≤ r) (hr2 : r < gN S) (hN : gN S + 30 * (sz - at0) ≤ 1700000) (hdp : deep < 1000) (hnd : nd ≤ 80) (hK : K + 3 ≤ d) (hK2 : 12 ≤ d) (hmono : pMono rec) (hRd : ∀ dp d', deep ≤ 24 → dp = deep + 1 → K ≤ d' → xRd tp sz d' dp rec) (hw : zDs S w (ztn 12)) (hwN : w < gN S) (hwl : at0 + 7 ≤ sz) {post : Outcome × zS → Prop} (h1 : ∀ S1 : zS, (zFin true S1) → (xFw S S1) → (xWd S1 w (ztn 12)) → (xR tp sz S1 r at0 nd) → (gN S1 = gN S ∧ gZ S1 = gZ S) → ∀ S2 : zS, ∀ a2 : Nat, ∀ y2 : zNd, ∀ at2 : Nat, ∀ nd2 : Nat, (zFin true S2) → (pNm tp sz rec 7 at0 (at0 + 7) deep nd = .ok (y2, at2, nd2)) → (xFr S1 S2) → (xTl (gN S1) S2 y2 a2) → (xR tp sz S2 r at2 nd2) → (gN S1 ≤ gN S2 ∧ gN S2 + 30 * (sz - at2) ≤ gN S1 + 30 * (sz - (at0 + 7)) + 2 ∧ gZ S2 + 150 * (sz - at2) ≤ gZ S1 + 150 * (sz - (at0 + 7)) + 60) → (at2 ≤ sz ∧ gN S1 ≤ a2 ∧ a2 < gN S2) → post (.returned (some (.ref a2)), S2)) (h2 : ∀ S1 : zS, (zFin true S1) → (xFw S S1) → (xWd S1 w (ztn 12)) → (xR tp sz S1 r at0 nd) → (gN S1 = gN S ∧ gZ S1 = gZ S) → ∀ S3 : zS, ∀ q3 : Nat, ∀ kk3 : Nat, ∀ z3 : Nat, (zFin true S3) → (pNm tp sz rec 7 at0 (at0 + 7) deep nd = .error (kk3, z3)) → (xFr S1 S3) → (xFl S3 q3 kk3 z3) → (gN S1 ≤ gN S3 ∧ gN S3 ≤ gN S1 + 30 * (sz - (at0 + 7)) + 2 + 60 ∧ gZ S3 ≤ gZ S1 + 150 * (sz - (at0 + 7)) + 60 + 2000) → post (.threw q3, S3)) : zCall d 261 [.ref r, .ref w, .int (Int32.ofNat deep)] S post := by
  have ht : ztab 261 = ztb261 := rfl
  show zEv d 261 0 [.ref r, .ref w, .int (Int32.ofNat deep), .retAddr 0, .retAddr 0, .retAddr 0] [] S post
  refine zv_c1 ht rfl rfl ?_
  refine zv_ei (x := Int32.ofNat at0) ht rfl rfl (zhas_of (hR.1.2.2.2.1) rfl) hR.1.1 ?_
  refine zv_c2 (L' := [.ref r, .ref w, .int (Int32.ofNat deep), .int (Int32.ofNat at0), .retAddr 0, .retAddr 0]) ht rfl rfl ?_
  refine zv_c1 ht rfl rfl ?_
  refine zv_c2 (L' := [.ref r, .ref w, .int (Int32.ofNat deep), .int (Int32.ofNat at0), .ref w, .retAddr 0]) ht rfl rfl ?_
  refine zv_c1 ht rfl rfl ?_
  refine zv_c2 (L' := [.ref r, .ref w, .int (Int32.ofNat deep), .int (Int32.ofNat at0), .ref w, .int (-1)]) ht rfl rfl ?_
  refine zv_c1 ht rfl rfl ?_
  refine zv_cl ht rfl rfl rfl (zv_tgv ((zStr.t (zDs.wd hw).1)) rfl) (by omega) (Nat.le_of_ble_eq_true rfl) (x_hash (S := S) (tp := tp) (sz := sz) (r := r) hF (by omega) hw hR (v := 697482885) (by decide) (fun S1 hF1 k1 w1 p1 g1 => ?_))
  show zEv d 261 16 [.ref r, .ref w, .int (Int32.ofNat deep), .int (Int32.ofNat at0), .ref w, .int (-1)] [.int 697482885] S1 post
  refine zv_sw ht rfl rfl rfl rfl rfl ?_
  refine And.intro (fun h => absurd h (by decide)) (fun _ => ?_)
  refine And.intro (fun h => absurd h (by decide)) (fun _ => ?_)
  refine And.intro (fun h => absurd h (by decide)) (fun _ => ?_)
  refine And.intro (fun h => absurd h (by decide)) (fun _ => ?_)
  refine And.intro (fun h => absurd h (by decide)) (fun _ => ?_)
  refine And.intro (fun h => absurd h (by decide)) (fun _ => ?_)
  refine And.intro (fun h => absurd h (by decide)) (fun _ => ?_)
  refine And.intro (fun h => absurd h (by decide)) (fun _ => ?_)
  refine And.intro (fun h => absurd h (by decide)) (fun _ => ?_)
  refine And.intro (fun h => absurd h (by decide)) (fun _ => ?_)
  refine And.intro (fun h => absurd h (by decide)) (fun _ => ?_)
  refine And.intro (fun h => absurd h (by decide)) (fun _ => ?_)
  refine zv_c1 ht rfl rfl ?_
  refine zv_sw ht rfl rfl rfl rfl rfl ?_
  refine And.intro (fun h => absurd h (by decide)) (fun _ => ?_)
  refine And.intro (fun h => absurd h (by decide)) (fun _ => ?_)
  refine And.intro (fun h => absurd h (by decide)) (fun _ => ?_)
  refine And.intro (fun h => absurd h (by decide)) (fun _ => ?_)
  refine And.intro (fun h => absurd h (by decide)) (fun _ => ?_)
  refine And.intro (fun h => absurd h (by decide)) (fun _ => ?_)
  refine And.intro (fun h => absurd h (by decide)) (fun _ => ?_)
  refine And.intro (fun h => absurd h (by decide)) (fun _ => ?_)
  refine And.intro (fun h => absurd h (by decide)) (fun _ => ?_)
  refine And.intro (fun h => absurd h (by decide)) (fun _ => ?_)
  refine And.intro (fun h => absurd h (by decide)) (fun _ => ?_)
  refine And.intro (fun h => absurd h (by decide)) (fun _ => ?_)
  refine zv_c1 ht rfl rfl (zv_c1 ht rfl rfl (zv_c1 ht rfl rfl (zv_c1 ht rfl rfl ?_)))
  refine zv_cl ht rfl rfl rfl (zv_tgv (p1.1.2.2.2.1) rfl) (by omega) (Nat.le_of_ble_eq_true rfl) (xEc.use (g := gN S1) (cN := gN S1 + 30 * (sz - (at0 + 7)) + 2) (cZ := gZ S1 + 150 * (sz - (at0 + 7)) + 60) rfl (x_ot12 (S := S1) (r := r) (rec := rec) (K := K) hF1 (by omega) (by omega) hmono p1 (by omega) (by omega) (by omega) hRd w1 (by omega)) (fun S2 a2 y2 at2 nd2 hF2 e2 k2 t2 p2 g2 c2 => ?_) (fun S3 q3 kk3 z3 hF3 e3 k3 x3 g3 => ?_))
  · show zEv d 261 673 [.ref r, .ref w, .int (Int32.ofNat deep), .int (Int32.ofNat at0), .ref w, .int (-1)] [.ref a2] S2 post
    exact zv_rt ht rfl rfl rfl rfl (h1 S1 hF1 k1 w1 p1 g1 S2 a2 y2 at2 nd2 hF2 e2 k2 t2 p2 g2 c2)
  · exact (h2 S1 hF1 k1 w1 p1 g1 S3 q3 kk3 z3 hF3 e3 k3 x3 g3)

theorem plw13 {d : Nat} {S : zS} (hF : zFin true S) (hd : 12 ≤ d) {tp : Nat → Nat} {sz at0 nd r : Nat} {rec : Nat → Nat → Nat → pE (zNd × Nat × Nat)} {K : Nat} {w : Nat} (deep : Nat) (hR : xR tp sz S r at0 nd) (hs0 : sz ≤ 300) (ha0 : at0 ≤ sz) (hr1 : 1639 ≤ r) (hr2 : r < gN S) (hN : gN S + 30 * (sz - at0) ≤ 1700000) (hdp : deep < 1000) (hnd : nd ≤ 80) (hK : K + 3 ≤ d) (hK2 : 12 ≤ d) (hmono : pMono rec) (hRd : ∀ dp d', deep ≤ 24 → dp = deep + 1 → K ≤ d' → xRd tp sz d' dp rec) (hw : zDs S w (ztn 13)) (hwN : w < gN S) (hwl : at0 + 9 ≤ sz) {post : Outcome × zS → Prop} (h1 : ∀ S1 : zS, (zFin true S1) → (xFw S S1) → (xWd S1 w (ztn 13)) → (xR tp sz S1 r at0 nd) → (gN S1 = gN S ∧ gZ S1 = gZ S) → ∀ S2 : zS, ∀ a2 : Nat, ∀ y2 : zNd, ∀ at2 : Nat, ∀ nd2 : Nat, (zFin true S2) → (pNm tp sz rec 8 at0 (at0 + 9) deep nd = .ok (y2, at2, nd2)) → (xFr S1 S2) → (xTl (gN S1) S2 y2 a2) → (xR tp sz S2 r at2 nd2) → (gN S1 ≤ gN S2 ∧ gN S2 + 30 * (sz - at2) ≤ gN S1 + 30 * (sz - (at0 + 9)) + 2 ∧ gZ S2 + 150 * (sz - at2) ≤ gZ S1 + 150 * (sz - (at0 + 9)) + 60) → (at2 ≤ sz ∧ gN S1 ≤ a2 ∧ a2 < gN S2) → post (.returned (some (.ref a2)), S2)) (h2 : ∀ S1 : zS, (zFin true S1) → (xFw S S1) → (xWd S1 w (ztn 13)) → (xR tp sz S1 r at0 nd) → (gN S1 = gN S ∧ gZ S1 = gZ S) → ∀ S3 : zS, ∀ q3 : Nat, ∀ kk3 : Nat, ∀ z3 : Nat, (zFin true S3) → (pNm tp sz rec 8 at0 (at0 + 9) deep nd = .error (kk3, z3)) → (xFr S1 S3) → (xFl S3 q3 kk3 z3) → (gN S1 ≤ gN S3 ∧ gN S3 ≤ gN S1 + 30 * (sz - (at0 + 9)) + 2 + 60 ∧ gZ S3 ≤ gZ S1 + 150 * (sz - (at0 + 9)) + 60 + 2000) → post (.threw q3, S3)) : zCall d 261 [.ref r, .ref w, .int (Int32.ofNat deep)] S post := by
  have ht : ztab 261 = ztb261 := rfl
  show zEv d 261 0 [.ref r, .ref w, .int (Int32.ofNat deep), .retAddr 0, .retAddr 0, .retAddr 0] [] S post
  refine zv_c1 ht rfl rfl ?_
  refine zv_ei (x := Int32.ofNat at0) ht rfl rfl (zhas_of (hR.1.2.2.2.1) rfl) hR.1.1 ?_
  refine zv_c2 (L' := [.ref r, .ref w, .int (Int32.ofNat deep), .int (Int32.ofNat at0), .retAddr 0, .retAddr 0]) ht rfl rfl ?_
  refine zv_c1 ht rfl rfl ?_
  refine zv_c2 (L' := [.ref r, .ref w, .int (Int32.ofNat deep), .int (Int32.ofNat at0), .ref w, .retAddr 0]) ht rfl rfl ?_
  refine zv_c1 ht rfl rfl ?_
  refine zv_c2 (L' := [.ref r, .ref w, .int (Int32.ofNat deep), .int (Int32.ofNat at0), .ref w, .int (-1)]) ht rfl rfl ?_
  refine zv_c1 ht rfl rfl ?_
  refine zv_cl ht rfl rfl rfl (zv_tgv ((zStr.t (zDs.wd hw).1)) rfl) (by omega) (Nat.le_of_ble_eq_true rfl) (x_hash (S := S) (tp := tp) (sz := sz) (r := r) hF (by omega) hw hR (v := 2031513288) (by decide) (fun S1 hF1 k1 w1 p1 g1 => ?_))
  show zEv d 261 16 [.ref r, .ref w, .int (Int32.ofNat deep), .int (Int32.ofNat at0), .ref w, .int (-1)] [.int 2031513288] S1 post
  refine zv_sw ht rfl rfl rfl rfl rfl ?_
  refine And.intro (fun h => absurd h (by decide)) (fun _ => ?_)
  refine And.intro (fun h => absurd h (by decide)) (fun _ => ?_)
  refine And.intro (fun h => absurd h (by decide)) (fun _ => ?_)
  refine And.intro (fun h => absurd h (by decide)) (fun _ => ?_)
  refine And.intro (fun h => absurd h (by decide)) (fun _ => ?_)
  refine And.intro (fun h => absurd h (by decide)) (fun _ => ?_)
  refine And.intro (fun h => absurd h (by decide)) (fun _ => ?_)
  refine And.intro (fun h => absurd h (by decide)) (fun _ => ?_)
  refine And.intro (fun h => absurd h (by decide)) (fun _ => ?_)
  refine And.intro (fun h => absurd h (by decide)) (fun _ => ?_)
  refine And.intro (fun h => absurd h (by decide)) (fun _ => ?_)
  refine And.intro (fun h => absurd h (by decide)) (fun _ => ?_)
  refine zv_c1 ht rfl rfl ?_
  refine zv_sw ht rfl rfl rfl rfl rfl ?_
  refine And.intro (fun h => absurd h (by decide)) (fun _ => ?_)
  refine And.intro (fun h => absurd h (by decide)) (fun _ => ?_)
  refine And.intro (fun h => absurd h (by decide)) (fun _ => ?_)
  refine And.intro (fun h => absurd h (by decide)) (fun _ => ?_)
  refine And.intro (fun h => absurd h (by decide)) (fun _ => ?_)
  refine And.intro (fun h => absurd h (by decide)) (fun _ => ?_)
  refine And.intro (fun h => absurd h (by decide)) (fun _ => ?_)
  refine And.intro (fun h => absurd h (by decide)) (fun _ => ?_)
  refine And.intro (fun h => absurd h (by decide)) (fun _ => ?_)
  refine And.intro (fun h => absurd h (by decide)) (fun _ => ?_)
  refine And.intro (fun h => absurd h (by decide)) (fun _ => ?_)
  refine And.intro (fun h => absurd h (by decide)) (fun _ => ?_)
  refine zv_c1 ht rfl rfl (zv_c1 ht rfl rfl (zv_c1 ht rfl rfl (zv_c1 ht rfl rfl ?_)))
  refine zv_cl ht rfl rfl rfl (zv_tgv (p1.1.2.2.2.1) rfl) (by omega) (Nat.le_of_ble_eq_true rfl) (xEc.use (g := gN S1) (cN := gN S1 + 30 * (sz - (at0 + 9)) + 2) (cZ := gZ S1 + 150 * (sz - (at0 + 9)) + 60) rfl (x_ot13 (S := S1) (r := r) (rec := rec) (K := K) hF1 (by omega) (by omega) hmono p1 (by omega) (by omega) (by omega) hRd w1 (by omega)) (fun S2 a2 y2 at2 nd2 hF2 e2 k2 t2 p2 g2 c2 => ?_) (fun S3 q3 kk3 z3 hF3 e3 k3 x3 g3 => ?_))
  · show zEv d 261 673 [.ref r, .ref w, .int (Int32.ofNat deep), .int (Int32.ofNat at0), .ref w, .int (-1)] [.ref a2] S2 post
    exact zv_rt ht rfl rfl rfl rfl (h1 S1 hF1 k1 w1 p1 g1 S2 a2 y2 at2 nd2 hF2 e2 k2 t2 p2 g2 c2)
  · exact (h2 S1 hF1 k1 w1 p1 g1 S3 q3 kk3 z3 hF3 e3 k3 x3 g3)

theorem plw14 {d : Nat} {S : zS} (hF : zFin true S) (hd : 12 ≤ d) {tp : Nat → Nat} {sz at0 nd r : Nat} {rec : Nat → Nat → Nat → pE (zNd × Nat × Nat)} {K : Nat} {w : Nat} (deep : Nat) (hR : xR tp sz S r at0 nd) (hs0 : sz ≤ 300) (ha0 : at0 ≤ sz) (hr1 : 1639 ≤ r) (hr2 : r < gN S) (hN : gN S + 30 * (sz - at0) ≤ 1700000) (hdp : deep < 1000) (hnd : nd ≤ 80) (hK : K + 3 ≤ d) (hK2 : 12 ≤ d) (hmono : pMono rec) (hRd : ∀ dp d', deep ≤ 24 → dp = deep + 1 → K ≤ d' → xRd tp sz d' dp rec) (hw : zDs S w (ztn 14)) (hwN : w < gN S) (hwl : at0 + 7 ≤ sz) {post : Outcome × zS → Prop} (h1 : ∀ S1 : zS, (zFin true S1) → (xFw S S1) → (xWd S1 w (ztn 14)) → (xR tp sz S1 r at0 nd) → (gN S1 = gN S ∧ gZ S1 = gZ S) → ∀ S2 : zS, ∀ a2 : Nat, ∀ y2 : zNd, ∀ at2 : Nat, ∀ nd2 : Nat, (zFin true S2) → (pNm tp sz rec 9 at0 (at0 + 7) deep nd = .ok (y2, at2, nd2)) → (xFr S1 S2) → (xTl (gN S1) S2 y2 a2) → (xR tp sz S2 r at2 nd2) → (gN S1 ≤ gN S2 ∧ gN S2 + 30 * (sz - at2) ≤ gN S1 + 30 * (sz - (at0 + 7)) + 2 ∧ gZ S2 + 150 * (sz - at2) ≤ gZ S1 + 150 * (sz - (at0 + 7)) + 60) → (at2 ≤ sz ∧ gN S1 ≤ a2 ∧ a2 < gN S2) → post (.returned (some (.ref a2)), S2)) (h2 : ∀ S1 : zS, (zFin true S1) → (xFw S S1) → (xWd S1 w (ztn 14)) → (xR tp sz S1 r at0 nd) → (gN S1 = gN S ∧ gZ S1 = gZ S) → ∀ S3 : zS, ∀ q3 : Nat, ∀ kk3 : Nat, ∀ z3 : Nat, (zFin true S3) → (pNm tp sz rec 9 at0 (at0 + 7) deep nd = .error (kk3, z3)) → (xFr S1 S3) → (xFl S3 q3 kk3 z3) → (gN S1 ≤ gN S3 ∧ gN S3 ≤ gN S1 + 30 * (sz - (at0 + 7)) + 2 + 60 ∧ gZ S3 ≤ gZ S1 + 150 * (sz - (at0 + 7)) + 60 + 2000) → post (.threw q3, S3)) : zCall d 261 [.ref r, .ref w, .int (Int32.ofNat deep)] S post := by
  have ht : ztab 261 = ztb261 := rfl
  show zEv d 261 0 [.ref r, .ref w, .int (Int32.ofNat deep), .retAddr 0, .retAddr 0, .retAddr 0] [] S post
  refine zv_c1 ht rfl rfl ?_
  refine zv_ei (x := Int32.ofNat at0) ht rfl rfl (zhas_of (hR.1.2.2.2.1) rfl) hR.1.1 ?_
  refine zv_c2 (L' := [.ref r, .ref w, .int (Int32.ofNat deep), .int (Int32.ofNat at0), .retAddr 0, .retAddr 0]) ht rfl rfl ?_
  refine zv_c1 ht rfl rfl ?_
  refine zv_c2 (L' := [.ref r, .ref w, .int (Int32.ofNat deep), .int (Int32.ofNat at0), .ref w, .retAddr 0]) ht rfl rfl ?_
  refine zv_c1 ht rfl rfl ?_
  refine zv_c2 (L' := [.ref r, .ref w, .int (Int32.ofNat deep), .int (Int32.ofNat at0), .ref w, .int (-1)]) ht rfl rfl ?_
  refine zv_c1 ht rfl rfl ?_
  refine zv_cl ht rfl rfl rfl (zv_tgv ((zStr.t (zDs.wd hw).1)) rfl) (by omega) (Nat.le_of_ble_eq_true rfl) (x_hash (S := S) (tp := tp) (sz := sz) (r := r) hF (by omega) hw hR (v := 697481949) (by decide) (fun S1 hF1 k1 w1 p1 g1 => ?_))
  show zEv d 261 16 [.ref r, .ref w, .int (Int32.ofNat deep), .int (Int32.ofNat at0), .ref w, .int (-1)] [.int 697481949] S1 post
  refine zv_sw ht rfl rfl rfl rfl rfl ?_
  refine And.intro (fun h => absurd h (by decide)) (fun _ => ?_)
  refine And.intro (fun h => absurd h (by decide)) (fun _ => ?_)
  refine And.intro (fun h => absurd h (by decide)) (fun _ => ?_)
  refine And.intro (fun h => absurd h (by decide)) (fun _ => ?_)
  refine And.intro (fun h => absurd h (by decide)) (fun _ => ?_)
  refine And.intro (fun h => absurd h (by decide)) (fun _ => ?_)
  refine And.intro (fun h => absurd h (by decide)) (fun _ => ?_)
  refine And.intro (fun h => absurd h (by decide)) (fun _ => ?_)
  refine And.intro (fun h => absurd h (by decide)) (fun _ => ?_)
  refine And.intro (fun h => absurd h (by decide)) (fun _ => ?_)
  refine And.intro (fun h => absurd h (by decide)) (fun _ => ?_)
  refine And.intro (fun h => absurd h (by decide)) (fun _ => ?_)
  refine zv_c1 ht rfl rfl ?_
  refine zv_sw ht rfl rfl rfl rfl rfl ?_
  refine And.intro (fun h => absurd h (by decide)) (fun _ => ?_)
  refine And.intro (fun h => absurd h (by decide)) (fun _ => ?_)
  refine And.intro (fun h => absurd h (by decide)) (fun _ => ?_)
  refine And.intro (fun h => absurd h (by decide)) (fun _ => ?_)
  refine And.intro (fun h => absurd h (by decide)) (fun _ => ?_)
  refine And.intro (fun h => absurd h (by decide)) (fun _ => ?_)
  refine And.intro (fun h => absurd h (by decide)) (fun _ => ?_)
  refine And.intro (fun h => absurd h (by decide)) (fun _ => ?_)
  refine And.intro (fun h => absurd h (by decide)) (fun _ => ?_)
  refine And.intro (fun h => absurd h (by decide)) (fun _ => ?_)
  refine And.intro (fun h => absurd h (by decide)) (fun _ => ?_)
  refine And.intro (fun h => absurd h (by decide)) (fun _ => ?_)
  refine zv_c1 ht rfl rfl (zv_c1 ht rfl rfl (zv_c1 ht rfl rfl (zv_c1 ht rfl rfl ?_)))
  refine zv_cl ht rfl rfl rfl (zv_tgv (p1.1.2.2.2.1) rfl) (by omega) (Nat.le_of_ble_eq_true rfl) (xEc.use (g := gN S1) (cN := gN S1 + 30 * (sz - (at0 + 7)) + 2) (cZ := gZ S1 + 150 * (sz - (at0 + 7)) + 60) rfl (x_ot14 (S := S1) (r := r) (rec := rec) (K := K) hF1 (by omega) (by omega) hmono p1 (by omega) (by omega) (by omega) hRd w1 (by omega)) (fun S2 a2 y2 at2 nd2 hF2 e2 k2 t2 p2 g2 c2 => ?_) (fun S3 q3 kk3 z3 hF3 e3 k3 x3 g3 => ?_))
  · show zEv d 261 673 [.ref r, .ref w, .int (Int32.ofNat deep), .int (Int32.ofNat at0), .ref w, .int (-1)] [.ref a2] S2 post
    exact zv_rt ht rfl rfl rfl rfl (h1 S1 hF1 k1 w1 p1 g1 S2 a2 y2 at2 nd2 hF2 e2 k2 t2 p2 g2 c2)
  · exact (h2 S1 hF1 k1 w1 p1 g1 S3 q3 kk3 z3 hF3 e3 k3 x3 g3)

theorem plw21 {d : Nat} {S : zS} (hF : zFin true S) (hd : 7 ≤ d) {tp : Nat → Nat} {sz at0 nd r : Nat} {rec : Nat → Nat → Nat → pE (zNd × Nat × Nat)} {K : Nat} {w : Nat} (deep : Nat) (hR : xR tp sz S r at0 nd) (hs0 : sz ≤ 300) (ha0 : at0 ≤ sz) (hr1 : 1639 ≤ r) (hr2 : r < gN S) (hN : gN S + 30 * (sz - at0) ≤ 1700000) (hdp : deep < 1000) (hnd : nd ≤ 80) (hK : K + 3 ≤ d) (hK2 : 12 ≤ d) (hmono : pMono rec) (hRd : ∀ dp d', deep ≤ 24 → dp = deep + 1 → K ≤ d' → xRd tp sz d' dp rec) (hw : zDs S w (ztn 21)) (hwN : w < gN S) (hwl : at0 + 5 ≤ sz) {post : Outcome × zS → Prop} (h1 : ∀ S1 : zS, (zFin true S1) → (xFw S S1) → (xWd S1 w (ztn 21)) → (xR tp sz S1 r at0 nd) → (gN S1 = gN S ∧ gZ S1 = gZ S) → ∀ S2 : zS, ∀ nd2 : Nat, (zFin true S2) → (pRead at0 deep nd false = .ok nd2) → (xFr S1 S2) → (xR tp sz S2 r at0 nd2) → (gN S1 ≤ gN S2 ∧ gN S2 ≤ gN S1 + 0 ∧ gZ S2 ≤ gZ S1 + 0) → (at0 ≤ sz) → (nd2 ≤ 80) → (deep ≤ 24) → ∀ S4 : zS, ∀ a4 : Nat, ∀ y4 : zNd, ∀ at4 : Nat, ∀ nd4 : Nat, (zFin true S4) → (pW tp sz rec 10 at0 deep (at0 + 5) nd2 = .ok (y4, at4, nd4)) → (xFr (sI S2 133 r (Int32.ofNat (at0 + 5))) S4) → (xTl (gN S2) S4 y4 a4) → (xR tp sz S4 r at4 nd4) → (gN S2 ≤ gN S4 ∧ gN S4 + 30 * (sz - at4) ≤ gN S2 + 30 * (sz - (at0 + 5)) ∧ gZ S4 + 150 * (sz - at4) ≤ gZ S2 + 150 * (sz - (at0 + 5))) → (at4 ≤ sz ∧ gN S2 ≤ a4 ∧ a4 < gN S4) → post (.returned (some (.ref a4)), S4)) (h2 : ∀ S1 : zS, (zFin true S1) → (xFw S S1) → (xWd S1 w (ztn 21)) → (xR tp sz S1 r at0 nd) → (gN S1 = gN S ∧ gZ S1 = gZ S) → ∀ S2 : zS, ∀ nd2 : Nat, (zFin true S2) → (pRead at0 deep nd false = .ok nd2) → (xFr S1 S2) → (xR tp sz S2 r at0 nd2) → (gN S1 ≤ gN S2 ∧ gN S2 ≤ gN S1 + 0 ∧ gZ S2 ≤ gZ S1 + 0) → (at0 ≤ sz) → (nd2 ≤ 80) → (deep ≤ 24) → ∀ S5 : zS, ∀ q5 : Nat, ∀ kk5 : Nat, ∀ z5 : Nat, (zFin true S5) → (pW tp sz rec 10 at0 deep (at0 + 5) nd2 = .error (kk5, z5)) → (xFr (sI S2 133 r (Int32.ofNat (at0 + 5))) S5) → (xFl S5 q5 kk5 z5) → (gN S2 ≤ gN S5 ∧ gN S5 ≤ gN S2 + 30 * (sz - (at0 + 5)) + 60 ∧ gZ S5 ≤ gZ S2 + 150 * (sz - (at0 + 5)) + 2000) → post (.threw q5, S5)) (h3 : ∀ S1 : zS, (zFin true S1) → (xFw S S1) → (xWd S1 w (ztn 21)) → (xR tp sz S1 r at0 nd) → (gN S1 = gN S ∧ gZ S1 = gZ S) → ∀ S3 : zS, ∀ q3 : Nat, (zFin true S3) → (pRead at0 deep nd false = .error (2, at0)) → (xFr S1 S3) → (xFl S3 q3 2 at0) → (gN S1 ≤ gN S3 ∧ gN S3 ≤ gN S1 + 1 ∧ gZ S3 ≤ gZ S1 + 3) → post (.threw q3, S3)) : zCall d 261 [.ref r, .ref w, .int (Int32.ofNat deep)] S post := by
  have ht : ztab 261 = ztb261 := rfl
  show zEv d 261 0 [.ref r, .ref w, .int (Int32.ofNat deep), .retAddr 0, .retAddr 0, .retAddr 0] [] S post
  refine zv_c1 ht rfl rfl ?_
  refine zv_ei (x := Int32.ofNat at0) ht rfl rfl (zhas_of (hR.1.2.2.2.1) rfl) hR.1.1 ?_
  refine zv_c2 (L' := [.ref r, .ref w, .int (Int32.ofNat deep), .int (Int32.ofNat at0), .retAddr 0, .retAddr 0]) ht rfl rfl ?_
  refine zv_c1 ht rfl rfl ?_
  refine zv_c2 (L' := [.ref r, .ref w, .int (Int32.ofNat deep), .int (Int32.ofNat at0), .ref w, .retAddr 0]) ht rfl rfl ?_
  refine zv_c1 ht rfl rfl ?_
  refine zv_c2 (L' := [.ref r, .ref w, .int (Int32.ofNat deep), .int (Int32.ofNat at0), .ref w, .int (-1)]) ht rfl rfl ?_
  refine zv_c1 ht rfl rfl ?_
  refine zv_cl ht rfl rfl rfl (zv_tgv ((zStr.t (zDs.wd hw).1)) rfl) (by omega) (Nat.le_of_ble_eq_true rfl) (x_hash (S := S) (tp := tp) (sz := sz) (r := r) hF (by omega) hw hR (v := 92958202) (by decide) (fun S1 hF1 k1 w1 p1 g1 => ?_))
  show zEv d 261 16 [.ref r, .ref w, .int (Int32.ofNat deep), .int (Int32.ofNat at0), .ref w, .int (-1)] [.int 92958202] S1 post
  refine zv_sw ht rfl rfl rfl rfl rfl ?_
  refine And.intro (fun h => absurd h (by decide)) (fun _ => ?_)
  refine And.intro (fun h => absurd h (by decide)) (fun _ => ?_)
  refine And.intro (fun h => absurd h (by decide)) (fun _ => ?_)
  refine And.intro (fun h => absurd h (by decide)) (fun _ => ?_)
  refine And.intro (fun h => absurd h (by decide)) (fun _ => ?_)
  refine And.intro (fun h => absurd h (by decide)) (fun _ => ?_)
  refine And.intro (fun h => absurd h (by decide)) (fun _ => ?_)
  refine And.intro (fun h => absurd h (by decide)) (fun _ => ?_)
  refine And.intro (fun h => absurd h (by decide)) (fun _ => ?_)
  refine And.intro (fun _ => ?_) (fun h => absurd (by decide) h)
  refine zv_c1 ht rfl rfl (zv_c1 ht rfl rfl ?_)
  refine zv_cl ht rfl rfl rfl (zv_tgv (Eq.trans (zKE.T (xFw.fr k1) (Or.inl (show w < gN S from by omega))) (zStr.t (zDs.wd hw).1)) rfl) (by omega) (Nat.le_of_ble_eq_true rfl) (x_eqW (S := S1) hF1 (by omega) w1.1 (xR.lit p1 21 (by decide)) (v := 1) (zbo_pos rfl) ?_)
  show zEv d 261 295 [.ref r, .ref w, .int (Int32.ofNat deep), .int (Int32.ofNat at0), .ref w, .int (-1)] [.int 1] S1 post
  refine zv_br ht rfl rfl rfl (fun h => absurd h (by decide)) (fun _ => ?_)
  refine zv_c1 ht rfl rfl ?_
  refine zv_c2 (L' := [.ref r, .ref w, .int (Int32.ofNat deep), .int (Int32.ofNat at0), .ref w, .int 10]) ht rfl rfl ?_
  refine zv_c1 ht rfl rfl (zv_c1 ht rfl rfl ?_)
  refine zv_sw ht rfl rfl rfl rfl rfl ?_
  refine And.intro (fun h => absurd h (by decide)) (fun _ => ?_)
  refine And.intro (fun h => absurd h (by decide)) (fun _ => ?_)
  refine And.intro (fun h => absurd h (by decide)) (fun _ => ?_)
  refine And.intro (fun h => absurd h (by decide)) (fun _ => ?_)
  refine And.intro (fun h => absurd h (by decide)) (fun _ => ?_)
  refine And.intro (fun h => absurd h (by decide)) (fun _ => ?_)
  refine And.intro (fun h => absurd h (by decide)) (fun _ => ?_)
  refine And.intro (fun h => absurd h (by decide)) (fun _ => ?_)
  refine And.intro (fun h => absurd h (by decide)) (fun _ => ?_)
  refine And.intro (fun h => absurd h (by decide)) (fun _ => ?_)
  refine And.intro (fun _ => ?_) (fun h => absurd (by decide) h)
  refine zv_c1 ht rfl rfl (zv_c1 ht rfl rfl (zv_c1 ht rfl rfl (zv_c1 ht rfl rfl ?_)))
  refine zv_cl ht rfl rfl rfl (zv_tgv (p1.1.2.2.2.1) rfl) (by omega) (Nat.le_of_ble_eq_true rfl) (x_begins (S := S1) (tp := tp) (sz := sz) (r := r) (p := at0) (dp := deep) (m := 1) (dq := deep) (two := false) hF1 (by omega) p1 (by omega) (by omega) (by omega) (by omega) rfl rfl (fun S2 nd2 hF2 e2 k2 p2 g2 b2 c2 d2 => ?_) (fun S3 q3 hF3 e3 k3 x3 g3 => ?_))
  · show zEv d 261 623 [.ref r, .ref w, .int (Int32.ofNat deep), .int (Int32.ofNat at0), .ref w, .int 10] [] S2 post
    refine zv_c1 ht rfl rfl (zv_c1 ht rfl rfl ?_)
    refine zv_ei (x := Int32.ofNat at0) ht rfl rfl (zhas_of (p2.1.2.2.2.1) rfl) p2.1.1 ?_
    refine zv_c1 ht rfl rfl ?_
    refine zv_e1 (x := Int32.ofNat (at0 + 5)) ht rfl rfl (zi_addE (a := at0) (b := 5) rfl rfl) ?_
    refine zv_ci (S' := sI S2 133 r (Int32.ofNat (at0 + 5))) ht rfl rfl ⟨(zhas_of (p2.1.2.2.2.1) rfl), (show r < gN S2 from by omega)⟩ ?_
    refine zv_c1 ht rfl rfl (zv_c1 ht rfl rfl (zv_c1 ht rfl rfl ?_))
    refine zv_cl ht rfl rfl rfl (zv_tgv (p2.1.2.2.2.1) rfl) (by omega) (Nat.le_of_ble_eq_true rfl) (xEnd.use (g := gN S2) (z := gZ S2) rfl rfl (x_andor (S := sI S2 133 r (Int32.ofNat (at0 + 5))) (r := r) (rec := rec) (deep := deep) (p := at0) hF2 (by omega) hmono (xR_at p2 (by omega)) (by omega) (by omega) (by omega) (by omega) (fun dp hdp1 => hRd dp _ (by omega) hdp1 (by omega))) (fun S4 a4 y4 at4 nd4 hF4 e4 k4 t4 p4 g4 c4 => ?_) (fun S5 q5 kk5 z5 hF5 e5 k5 x5 g5 => ?_))
    · show zEv d 261 639 [.ref r, .ref w, .int (Int32.ofNat deep), .int (Int32.ofNat at0), .ref w, .int 10] [.ref a4] S4 post
      exact zv_rt ht rfl rfl rfl rfl (h1 S1 hF1 k1 w1 p1 g1 S2 nd2 hF2 e2 k2 p2 g2 b2 c2 d2 S4 a4 y4 at4 nd4 hF4 e4 k4 t4 p4 g4 c4)
    · exact (h2 S1 hF1 k1 w1 p1 g1 S2 nd2 hF2 e2 k2 p2 g2 b2 c2 d2 S5 q5 kk5 z5 hF5 e5 k5 x5 g5)
  · exact (h3 S1 hF1 k1 w1 p1 g1 S3 q3 hF3 e3 k3 x3 g3)

theorem plw23 {d : Nat} {S : zS} (hF : zFin true S) (hd : 12 ≤ d) {tp : Nat → Nat} {sz at0 nd r : Nat} {rec : Nat → Nat → Nat → pE (zNd × Nat × Nat)} {K : Nat} {w : Nat} (deep : Nat) (hR : xR tp sz S r at0 nd) (hs0 : sz ≤ 300) (ha0 : at0 ≤ sz) (hr1 : 1639 ≤ r) (hr2 : r < gN S) (hN : gN S + 30 * (sz - at0) ≤ 1700000) (hdp : deep < 1000) (hnd : nd ≤ 80) (hK : K + 3 ≤ d) (hK2 : 12 ≤ d) (hmono : pMono rec) (hRd : ∀ dp d', deep ≤ 24 → dp = deep + 1 → K ≤ d' → xRd tp sz d' dp rec) (hw : zDs S w (ztn 23)) (hwN : w < gN S) (hwl : at0 + 5 ≤ sz) {post : Outcome × zS → Prop} (h1 : ∀ S1 : zS, (zFin true S1) → (xFw S S1) → (xWd S1 w (ztn 23)) → (xR tp sz S1 r at0 nd) → (gN S1 = gN S ∧ gZ S1 = gZ S) → ∀ S2 : zS, ∀ a2 : Nat, ∀ y2 : zNd, ∀ at2 : Nat, ∀ nd2 : Nat, (zFin true S2) → (pNm tp sz rec 11 at0 (at0 + 5) deep nd = .ok (y2, at2, nd2)) → (xFr S1 S2) → (xTl (gN S1) S2 y2 a2) → (xR tp sz S2 r at2 nd2) → (gN S1 ≤ gN S2 ∧ gN S2 + 30 * (sz - at2) ≤ gN S1 + 30 * (sz - (at0 + 5)) + 2 ∧ gZ S2 + 150 * (sz - at2) ≤ gZ S1 + 150 * (sz - (at0 + 5)) + 60) → (at2 ≤ sz ∧ gN S1 ≤ a2 ∧ a2 < gN S2) → post (.returned (some (.ref a2)), S2)) (h2 : ∀ S1 : zS, (zFin true S1) → (xFw S S1) → (xWd S1 w (ztn 23)) → (xR tp sz S1 r at0 nd) → (gN S1 = gN S ∧ gZ S1 = gZ S) → ∀ S3 : zS, ∀ q3 : Nat, ∀ kk3 : Nat, ∀ z3 : Nat, (zFin true S3) → (pNm tp sz rec 11 at0 (at0 + 5) deep nd = .error (kk3, z3)) → (xFr S1 S3) → (xFl S3 q3 kk3 z3) → (gN S1 ≤ gN S3 ∧ gN S3 ≤ gN S1 + 30 * (sz - (at0 + 5)) + 2 + 60 ∧ gZ S3 ≤ gZ S1 + 150 * (sz - (at0 + 5)) + 60 + 2000) → post (.threw q3, S3)) : zCall d 261 [.ref r, .ref w, .int (Int32.ofNat deep)] S post := by
  have ht : ztab 261 = ztb261 := rfl
  show zEv d 261 0 [.ref r, .ref w, .int (Int32.ofNat deep), .retAddr 0, .retAddr 0, .retAddr 0] [] S post
  refine zv_c1 ht rfl rfl ?_
  refine zv_ei (x := Int32.ofNat at0) ht rfl rfl (zhas_of (hR.1.2.2.2.1) rfl) hR.1.1 ?_
  refine zv_c2 (L' := [.ref r, .ref w, .int (Int32.ofNat deep), .int (Int32.ofNat at0), .retAddr 0, .retAddr 0]) ht rfl rfl ?_
  refine zv_c1 ht rfl rfl ?_
  refine zv_c2 (L' := [.ref r, .ref w, .int (Int32.ofNat deep), .int (Int32.ofNat at0), .ref w, .retAddr 0]) ht rfl rfl ?_
  refine zv_c1 ht rfl rfl ?_
  refine zv_c2 (L' := [.ref r, .ref w, .int (Int32.ofNat deep), .int (Int32.ofNat at0), .ref w, .int (-1)]) ht rfl rfl ?_
  refine zv_c1 ht rfl rfl ?_
  refine zv_cl ht rfl rfl rfl (zv_tgv ((zStr.t (zDs.wd hw).1)) rfl) (by omega) (Nat.le_of_ble_eq_true rfl) (x_hash (S := S) (tp := tp) (sz := sz) (r := r) hF (by omega) hw hR (v := 92957710) (by decide) (fun S1 hF1 k1 w1 p1 g1 => ?_))
  show zEv d 261 16 [.ref r, .ref w, .int (Int32.ofNat deep), .int (Int32.ofNat at0), .ref w, .int (-1)] [.int 92957710] S1 post
  refine zv_sw ht rfl rfl rfl rfl rfl ?_
  refine And.intro (fun h => absurd h (by decide)) (fun _ => ?_)
  refine And.intro (fun h => absurd h (by decide)) (fun _ => ?_)
  refine And.intro (fun h => absurd h (by decide)) (fun _ => ?_)
  refine And.intro (fun h => absurd h (by decide)) (fun _ => ?_)
  refine And.intro (fun h => absurd h (by decide)) (fun _ => ?_)
  refine And.intro (fun h => absurd h (by decide)) (fun _ => ?_)
  refine And.intro (fun h => absurd h (by decide)) (fun _ => ?_)
  refine And.intro (fun h => absurd h (by decide)) (fun _ => ?_)
  refine And.intro (fun h => absurd h (by decide)) (fun _ => ?_)
  refine And.intro (fun h => absurd h (by decide)) (fun _ => ?_)
  refine And.intro (fun h => absurd h (by decide)) (fun _ => ?_)
  refine And.intro (fun h => absurd h (by decide)) (fun _ => ?_)
  refine zv_c1 ht rfl rfl ?_
  refine zv_sw ht rfl rfl rfl rfl rfl ?_
  refine And.intro (fun h => absurd h (by decide)) (fun _ => ?_)
  refine And.intro (fun h => absurd h (by decide)) (fun _ => ?_)
  refine And.intro (fun h => absurd h (by decide)) (fun _ => ?_)
  refine And.intro (fun h => absurd h (by decide)) (fun _ => ?_)
  refine And.intro (fun h => absurd h (by decide)) (fun _ => ?_)
  refine And.intro (fun h => absurd h (by decide)) (fun _ => ?_)
  refine And.intro (fun h => absurd h (by decide)) (fun _ => ?_)
  refine And.intro (fun h => absurd h (by decide)) (fun _ => ?_)
  refine And.intro (fun h => absurd h (by decide)) (fun _ => ?_)
  refine And.intro (fun h => absurd h (by decide)) (fun _ => ?_)
  refine And.intro (fun h => absurd h (by decide)) (fun _ => ?_)
  refine And.intro (fun h => absurd h (by decide)) (fun _ => ?_)
  refine zv_c1 ht rfl rfl (zv_c1 ht rfl rfl (zv_c1 ht rfl rfl (zv_c1 ht rfl rfl ?_)))
  refine zv_cl ht rfl rfl rfl (zv_tgv (p1.1.2.2.2.1) rfl) (by omega) (Nat.le_of_ble_eq_true rfl) (xEc.use (g := gN S1) (cN := gN S1 + 30 * (sz - (at0 + 5)) + 2) (cZ := gZ S1 + 150 * (sz - (at0 + 5)) + 60) rfl (x_ot23 (S := S1) (r := r) (rec := rec) (K := K) hF1 (by omega) (by omega) hmono p1 (by omega) (by omega) (by omega) hRd w1 (by omega)) (fun S2 a2 y2 at2 nd2 hF2 e2 k2 t2 p2 g2 c2 => ?_) (fun S3 q3 kk3 z3 hF3 e3 k3 x3 g3 => ?_))
  · show zEv d 261 673 [.ref r, .ref w, .int (Int32.ofNat deep), .int (Int32.ofNat at0), .ref w, .int (-1)] [.ref a2] S2 post
    exact zv_rt ht rfl rfl rfl rfl (h1 S1 hF1 k1 w1 p1 g1 S2 a2 y2 at2 nd2 hF2 e2 k2 t2 p2 g2 c2)
  · exact (h2 S1 hF1 k1 w1 p1 g1 S3 q3 kk3 z3 hF3 e3 k3 x3 g3)

theorem plw24 {d : Nat} {S : zS} (hF : zFin true S) (hd : 12 ≤ d) {tp : Nat → Nat} {sz at0 nd r : Nat} {rec : Nat → Nat → Nat → pE (zNd × Nat × Nat)} {K : Nat} {w : Nat} (deep : Nat) (hR : xR tp sz S r at0 nd) (hs0 : sz ≤ 300) (ha0 : at0 ≤ sz) (hr1 : 1639 ≤ r) (hr2 : r < gN S) (hN : gN S + 30 * (sz - at0) ≤ 1700000) (hdp : deep < 1000) (hnd : nd ≤ 80) (hK : K + 3 ≤ d) (hK2 : 12 ≤ d) (hmono : pMono rec) (hRd : ∀ dp d', deep ≤ 24 → dp = deep + 1 → K ≤ d' → xRd tp sz d' dp rec) (hw : zDs S w (ztn 24)) (hwN : w < gN S) (hwl : at0 + 5 ≤ sz) {post : Outcome × zS → Prop} (h1 : ∀ S1 : zS, (zFin true S1) → (xFw S S1) → (xWd S1 w (ztn 24)) → (xR tp sz S1 r at0 nd) → (gN S1 = gN S ∧ gZ S1 = gZ S) → ∀ S2 : zS, ∀ a2 : Nat, ∀ y2 : zNd, ∀ at2 : Nat, ∀ nd2 : Nat, (zFin true S2) → (pNm tp sz rec 12 at0 (at0 + 5) deep nd = .ok (y2, at2, nd2)) → (xFr S1 S2) → (xTl (gN S1) S2 y2 a2) → (xR tp sz S2 r at2 nd2) → (gN S1 ≤ gN S2 ∧ gN S2 + 30 * (sz - at2) ≤ gN S1 + 30 * (sz - (at0 + 5)) + 2 ∧ gZ S2 + 150 * (sz - at2) ≤ gZ S1 + 150 * (sz - (at0 + 5)) + 60) → (at2 ≤ sz ∧ gN S1 ≤ a2 ∧ a2 < gN S2) → post (.returned (some (.ref a2)), S2)) (h2 : ∀ S1 : zS, (zFin true S1) → (xFw S S1) → (xWd S1 w (ztn 24)) → (xR tp sz S1 r at0 nd) → (gN S1 = gN S ∧ gZ S1 = gZ S) → ∀ S3 : zS, ∀ q3 : Nat, ∀ kk3 : Nat, ∀ z3 : Nat, (zFin true S3) → (pNm tp sz rec 12 at0 (at0 + 5) deep nd = .error (kk3, z3)) → (xFr S1 S3) → (xFl S3 q3 kk3 z3) → (gN S1 ≤ gN S3 ∧ gN S3 ≤ gN S1 + 30 * (sz - (at0 + 5)) + 2 + 60 ∧ gZ S3 ≤ gZ S1 + 150 * (sz - (at0 + 5)) + 60 + 2000) → post (.threw q3, S3)) : zCall d 261 [.ref r, .ref w, .int (Int32.ofNat deep)] S post := by
  have ht : ztab 261 = ztb261 := rfl
  show zEv d 261 0 [.ref r, .ref w, .int (Int32.ofNat deep), .retAddr 0, .retAddr 0, .retAddr 0] [] S post
  refine zv_c1 ht rfl rfl ?_
  refine zv_ei (x := Int32.ofNat at0) ht rfl rfl (zhas_of (hR.1.2.2.2.1) rfl) hR.1.1 ?_
  refine zv_c2 (L' := [.ref r, .ref w, .int (Int32.ofNat deep), .int (Int32.ofNat at0), .retAddr 0, .retAddr 0]) ht rfl rfl ?_
  refine zv_c1 ht rfl rfl ?_
  refine zv_c2 (L' := [.ref r, .ref w, .int (Int32.ofNat deep), .int (Int32.ofNat at0), .ref w, .retAddr 0]) ht rfl rfl ?_
  refine zv_c1 ht rfl rfl ?_
  refine zv_c2 (L' := [.ref r, .ref w, .int (Int32.ofNat deep), .int (Int32.ofNat at0), .ref w, .int (-1)]) ht rfl rfl ?_
  refine zv_c1 ht rfl rfl ?_
  refine zv_cl ht rfl rfl rfl (zv_tgv ((zStr.t (zDs.wd hw).1)) rfl) (by omega) (Nat.le_of_ble_eq_true rfl) (x_hash (S := S) (tp := tp) (sz := sz) (r := r) hF (by omega) hw hR (v := 92957690) (by decide) (fun S1 hF1 k1 w1 p1 g1 => ?_))
  show zEv d 261 16 [.ref r, .ref w, .int (Int32.ofNat deep), .int (Int32.ofNat at0), .ref w, .int (-1)] [.int 92957690] S1 post
  refine zv_sw ht rfl rfl rfl rfl rfl ?_
  refine And.intro (fun h => absurd h (by decide)) (fun _ => ?_)
  refine And.intro (fun h => absurd h (by decide)) (fun _ => ?_)
  refine And.intro (fun h => absurd h (by decide)) (fun _ => ?_)
  refine And.intro (fun h => absurd h (by decide)) (fun _ => ?_)
  refine And.intro (fun h => absurd h (by decide)) (fun _ => ?_)
  refine And.intro (fun h => absurd h (by decide)) (fun _ => ?_)
  refine And.intro (fun h => absurd h (by decide)) (fun _ => ?_)
  refine And.intro (fun h => absurd h (by decide)) (fun _ => ?_)
  refine And.intro (fun h => absurd h (by decide)) (fun _ => ?_)
  refine And.intro (fun h => absurd h (by decide)) (fun _ => ?_)
  refine And.intro (fun h => absurd h (by decide)) (fun _ => ?_)
  refine And.intro (fun h => absurd h (by decide)) (fun _ => ?_)
  refine zv_c1 ht rfl rfl ?_
  refine zv_sw ht rfl rfl rfl rfl rfl ?_
  refine And.intro (fun h => absurd h (by decide)) (fun _ => ?_)
  refine And.intro (fun h => absurd h (by decide)) (fun _ => ?_)
  refine And.intro (fun h => absurd h (by decide)) (fun _ => ?_)
  refine And.intro (fun h => absurd h (by decide)) (fun _ => ?_)
  refine And.intro (fun h => absurd h (by decide)) (fun _ => ?_)
  refine And.intro (fun h => absurd h (by decide)) (fun _ => ?_)
  refine And.intro (fun h => absurd h (by decide)) (fun _ => ?_)
  refine And.intro (fun h => absurd h (by decide)) (fun _ => ?_)
  refine And.intro (fun h => absurd h (by decide)) (fun _ => ?_)
  refine And.intro (fun h => absurd h (by decide)) (fun _ => ?_)
  refine And.intro (fun h => absurd h (by decide)) (fun _ => ?_)
  refine And.intro (fun h => absurd h (by decide)) (fun _ => ?_)
  refine zv_c1 ht rfl rfl (zv_c1 ht rfl rfl (zv_c1 ht rfl rfl (zv_c1 ht rfl rfl ?_)))
  refine zv_cl ht rfl rfl rfl (zv_tgv (p1.1.2.2.2.1) rfl) (by omega) (Nat.le_of_ble_eq_true rfl) (xEc.use (g := gN S1) (cN := gN S1 + 30 * (sz - (at0 + 5)) + 2) (cZ := gZ S1 + 150 * (sz - (at0 + 5)) + 60) rfl (x_ot24 (S := S1) (r := r) (rec := rec) (K := K) hF1 (by omega) (by omega) hmono p1 (by omega) (by omega) (by omega) hRd w1 (by omega)) (fun S2 a2 y2 at2 nd2 hF2 e2 k2 t2 p2 g2 c2 => ?_) (fun S3 q3 kk3 z3 hF3 e3 k3 x3 g3 => ?_))
  · show zEv d 261 673 [.ref r, .ref w, .int (Int32.ofNat deep), .int (Int32.ofNat at0), .ref w, .int (-1)] [.ref a2] S2 post
    exact zv_rt ht rfl rfl rfl rfl (h1 S1 hF1 k1 w1 p1 g1 S2 a2 y2 at2 nd2 hF2 e2 k2 t2 p2 g2 c2)
  · exact (h2 S1 hF1 k1 w1 p1 g1 S3 q3 kk3 z3 hF3 e3 k3 x3 g3)

theorem plw25 {d : Nat} {S : zS} (hF : zFin true S) (hd : 12 ≤ d) {tp : Nat → Nat} {sz at0 nd r : Nat} {rec : Nat → Nat → Nat → pE (zNd × Nat × Nat)} {K : Nat} {w : Nat} (deep : Nat) (hR : xR tp sz S r at0 nd) (hs0 : sz ≤ 300) (ha0 : at0 ≤ sz) (hr1 : 1639 ≤ r) (hr2 : r < gN S) (hN : gN S + 30 * (sz - at0) ≤ 1700000) (hdp : deep < 1000) (hnd : nd ≤ 80) (hK : K + 3 ≤ d) (hK2 : 12 ≤ d) (hmono : pMono rec) (hRd : ∀ dp d', deep ≤ 24 → dp = deep + 1 → K ≤ d' → xRd tp sz d' dp rec) (hw : zDs S w (ztn 25)) (hwN : w < gN S) (hwl : at0 + 4 ≤ sz) {post : Outcome × zS → Prop} (h1 : ∀ S1 : zS, (zFin true S1) → (xFw S S1) → (xWd S1 w (ztn 25)) → (xR tp sz S1 r at0 nd) → (gN S1 = gN S ∧ gZ S1 = gZ S) → ∀ S2 : zS, ∀ a2 : Nat, ∀ y2 : zNd, ∀ at2 : Nat, ∀ nd2 : Nat, (zFin true S2) → (pNm tp sz rec 13 at0 (at0 + 4) deep nd = .ok (y2, at2, nd2)) → (xFr S1 S2) → (xTl (gN S1) S2 y2 a2) → (xR tp sz S2 r at2 nd2) → (gN S1 ≤ gN S2 ∧ gN S2 + 30 * (sz - at2) ≤ gN S1 + 30 * (sz - (at0 + 4)) + 2 ∧ gZ S2 + 150 * (sz - at2) ≤ gZ S1 + 150 * (sz - (at0 + 4)) + 60) → (at2 ≤ sz ∧ gN S1 ≤ a2 ∧ a2 < gN S2) → post (.returned (some (.ref a2)), S2)) (h2 : ∀ S1 : zS, (zFin true S1) → (xFw S S1) → (xWd S1 w (ztn 25)) → (xR tp sz S1 r at0 nd) → (gN S1 = gN S ∧ gZ S1 = gZ S) → ∀ S3 : zS, ∀ q3 : Nat, ∀ kk3 : Nat, ∀ z3 : Nat, (zFin true S3) → (pNm tp sz rec 13 at0 (at0 + 4) deep nd = .error (kk3, z3)) → (xFr S1 S3) → (xFl S3 q3 kk3 z3) → (gN S1 ≤ gN S3 ∧ gN S3 ≤ gN S1 + 30 * (sz - (at0 + 4)) + 2 + 60 ∧ gZ S3 ≤ gZ S1 + 150 * (sz - (at0 + 4)) + 60 + 2000) → post (.threw q3, S3)) : zCall d 261 [.ref r, .ref w, .int (Int32.ofNat deep)] S post := by
  have ht : ztab 261 = ztb261 := rfl
  show zEv d 261 0 [.ref r, .ref w, .int (Int32.ofNat deep), .retAddr 0, .retAddr 0, .retAddr 0] [] S post
  refine zv_c1 ht rfl rfl ?_
  refine zv_ei (x := Int32.ofNat at0) ht rfl rfl (zhas_of (hR.1.2.2.2.1) rfl) hR.1.1 ?_
  refine zv_c2 (L' := [.ref r, .ref w, .int (Int32.ofNat deep), .int (Int32.ofNat at0), .retAddr 0, .retAddr 0]) ht rfl rfl ?_
  refine zv_c1 ht rfl rfl ?_
  refine zv_c2 (L' := [.ref r, .ref w, .int (Int32.ofNat deep), .int (Int32.ofNat at0), .ref w, .retAddr 0]) ht rfl rfl ?_
  refine zv_c1 ht rfl rfl ?_
  refine zv_c2 (L' := [.ref r, .ref w, .int (Int32.ofNat deep), .int (Int32.ofNat at0), .ref w, .int (-1)]) ht rfl rfl ?_
  refine zv_c1 ht rfl rfl ?_
  refine zv_cl ht rfl rfl rfl (zv_tgv ((zStr.t (zDs.wd hw).1)) rfl) (by omega) (Nat.le_of_ble_eq_true rfl) (x_hash (S := S) (tp := tp) (sz := sz) (r := r) hF (by omega) hw hR (v := 3419398) (by decide) (fun S1 hF1 k1 w1 p1 g1 => ?_))
  show zEv d 261 16 [.ref r, .ref w, .int (Int32.ofNat deep), .int (Int32.ofNat at0), .ref w, .int (-1)] [.int 3419398] S1 post
  refine zv_sw ht rfl rfl rfl rfl rfl ?_
  refine And.intro (fun h => absurd h (by decide)) (fun _ => ?_)
  refine And.intro (fun h => absurd h (by decide)) (fun _ => ?_)
  refine And.intro (fun h => absurd h (by decide)) (fun _ => ?_)
  refine And.intro (fun h => absurd h (by decide)) (fun _ => ?_)
  refine And.intro (fun h => absurd h (by decide)) (fun _ => ?_)
  refine And.intro (fun h => absurd h (by decide)) (fun _ => ?_)
  refine And.intro (fun h => absurd h (by decide)) (fun _ => ?_)
  refine And.intro (fun h => absurd h (by decide)) (fun _ => ?_)
  refine And.intro (fun h => absurd h (by decide)) (fun _ => ?_)
  refine And.intro (fun h => absurd h (by decide)) (fun _ => ?_)
  refine And.intro (fun h => absurd h (by decide)) (fun _ => ?_)
  refine And.intro (fun h => absurd h (by decide)) (fun _ => ?_)
  refine zv_c1 ht rfl rfl ?_
  refine zv_sw ht rfl rfl rfl rfl rfl ?_
  refine And.intro (fun h => absurd h (by decide)) (fun _ => ?_)
  refine And.intro (fun h => absurd h (by decide)) (fun _ => ?_)
  refine And.intro (fun h => absurd h (by decide)) (fun _ => ?_)
  refine And.intro (fun h => absurd h (by decide)) (fun _ => ?_)
  refine And.intro (fun h => absurd h (by decide)) (fun _ => ?_)
  refine And.intro (fun h => absurd h (by decide)) (fun _ => ?_)
  refine And.intro (fun h => absurd h (by decide)) (fun _ => ?_)
  refine And.intro (fun h => absurd h (by decide)) (fun _ => ?_)
  refine And.intro (fun h => absurd h (by decide)) (fun _ => ?_)
  refine And.intro (fun h => absurd h (by decide)) (fun _ => ?_)
  refine And.intro (fun h => absurd h (by decide)) (fun _ => ?_)
  refine And.intro (fun h => absurd h (by decide)) (fun _ => ?_)
  refine zv_c1 ht rfl rfl (zv_c1 ht rfl rfl (zv_c1 ht rfl rfl (zv_c1 ht rfl rfl ?_)))
  refine zv_cl ht rfl rfl rfl (zv_tgv (p1.1.2.2.2.1) rfl) (by omega) (Nat.le_of_ble_eq_true rfl) (xEc.use (g := gN S1) (cN := gN S1 + 30 * (sz - (at0 + 4)) + 2) (cZ := gZ S1 + 150 * (sz - (at0 + 4)) + 60) rfl (x_ot25 (S := S1) (r := r) (rec := rec) (K := K) hF1 (by omega) (by omega) hmono p1 (by omega) (by omega) (by omega) hRd w1 (by omega)) (fun S2 a2 y2 at2 nd2 hF2 e2 k2 t2 p2 g2 c2 => ?_) (fun S3 q3 kk3 z3 hF3 e3 k3 x3 g3 => ?_))
  · show zEv d 261 673 [.ref r, .ref w, .int (Int32.ofNat deep), .int (Int32.ofNat at0), .ref w, .int (-1)] [.ref a2] S2 post
    exact zv_rt ht rfl rfl rfl rfl (h1 S1 hF1 k1 w1 p1 g1 S2 a2 y2 at2 nd2 hF2 e2 k2 t2 p2 g2 c2)
  · exact (h2 S1 hF1 k1 w1 p1 g1 S3 q3 kk3 z3 hF3 e3 k3 x3 g3)

theorem plw26 {d : Nat} {S : zS} (hF : zFin true S) (hd : 12 ≤ d) {tp : Nat → Nat} {sz at0 nd r : Nat} {rec : Nat → Nat → Nat → pE (zNd × Nat × Nat)} {K : Nat} {w : Nat} (deep : Nat) (hR : xR tp sz S r at0 nd) (hs0 : sz ≤ 300) (ha0 : at0 ≤ sz) (hr1 : 1639 ≤ r) (hr2 : r < gN S) (hN : gN S + 30 * (sz - at0) ≤ 1700000) (hdp : deep < 1000) (hnd : nd ≤ 80) (hK : K + 3 ≤ d) (hK2 : 12 ≤ d) (hmono : pMono rec) (hRd : ∀ dp d', deep ≤ 24 → dp = deep + 1 → K ≤ d' → xRd tp sz d' dp rec) (hw : zDs S w (ztn 26)) (hwN : w < gN S) (hwl : at0 + 4 ≤ sz) {post : Outcome × zS → Prop} (h1 : ∀ S1 : zS, (zFin true S1) → (xFw S S1) → (xWd S1 w (ztn 26)) → (xR tp sz S1 r at0 nd) → (gN S1 = gN S ∧ gZ S1 = gZ S) → ∀ S2 : zS, ∀ a2 : Nat, ∀ y2 : zNd, ∀ at2 : Nat, ∀ nd2 : Nat, (zFin true S2) → (pNm tp sz rec 14 at0 (at0 + 4) deep nd = .ok (y2, at2, nd2)) → (xFr S1 S2) → (xTl (gN S1) S2 y2 a2) → (xR tp sz S2 r at2 nd2) → (gN S1 ≤ gN S2 ∧ gN S2 + 30 * (sz - at2) ≤ gN S1 + 30 * (sz - (at0 + 4)) + 2 ∧ gZ S2 + 150 * (sz - at2) ≤ gZ S1 + 150 * (sz - (at0 + 4)) + 60) → (at2 ≤ sz ∧ gN S1 ≤ a2 ∧ a2 < gN S2) → post (.returned (some (.ref a2)), S2)) (h2 : ∀ S1 : zS, (zFin true S1) → (xFw S S1) → (xWd S1 w (ztn 26)) → (xR tp sz S1 r at0 nd) → (gN S1 = gN S ∧ gZ S1 = gZ S) → ∀ S3 : zS, ∀ q3 : Nat, ∀ kk3 : Nat, ∀ z3 : Nat, (zFin true S3) → (pNm tp sz rec 14 at0 (at0 + 4) deep nd = .error (kk3, z3)) → (xFr S1 S3) → (xFl S3 q3 kk3 z3) → (gN S1 ≤ gN S3 ∧ gN S3 ≤ gN S1 + 30 * (sz - (at0 + 4)) + 2 + 60 ∧ gZ S3 ≤ gZ S1 + 150 * (sz - (at0 + 4)) + 60 + 2000) → post (.threw q3, S3)) : zCall d 261 [.ref r, .ref w, .int (Int32.ofNat deep)] S post := by
  have ht : ztab 261 = ztb261 := rfl
  show zEv d 261 0 [.ref r, .ref w, .int (Int32.ofNat deep), .retAddr 0, .retAddr 0, .retAddr 0] [] S post
  refine zv_c1 ht rfl rfl ?_
  refine zv_ei (x := Int32.ofNat at0) ht rfl rfl (zhas_of (hR.1.2.2.2.1) rfl) hR.1.1 ?_
  refine zv_c2 (L' := [.ref r, .ref w, .int (Int32.ofNat deep), .int (Int32.ofNat at0), .retAddr 0, .retAddr 0]) ht rfl rfl ?_
  refine zv_c1 ht rfl rfl ?_
  refine zv_c2 (L' := [.ref r, .ref w, .int (Int32.ofNat deep), .int (Int32.ofNat at0), .ref w, .retAddr 0]) ht rfl rfl ?_
  refine zv_c1 ht rfl rfl ?_
  refine zv_c2 (L' := [.ref r, .ref w, .int (Int32.ofNat deep), .int (Int32.ofNat at0), .ref w, .int (-1)]) ht rfl rfl ?_
  refine zv_c1 ht rfl rfl ?_
  refine zv_cl ht rfl rfl rfl (zv_tgv ((zStr.t (zDs.wd hw).1)) rfl) (by omega) (Nat.le_of_ble_eq_true rfl) (x_hash (S := S) (tp := tp) (sz := sz) (r := r) hF (by omega) hw hR (v := 3419399) (by decide) (fun S1 hF1 k1 w1 p1 g1 => ?_))
  show zEv d 261 16 [.ref r, .ref w, .int (Int32.ofNat deep), .int (Int32.ofNat at0), .ref w, .int (-1)] [.int 3419399] S1 post
  refine zv_sw ht rfl rfl rfl rfl rfl ?_
  refine And.intro (fun h => absurd h (by decide)) (fun _ => ?_)
  refine And.intro (fun h => absurd h (by decide)) (fun _ => ?_)
  refine And.intro (fun h => absurd h (by decide)) (fun _ => ?_)
  refine And.intro (fun h => absurd h (by decide)) (fun _ => ?_)
  refine And.intro (fun h => absurd h (by decide)) (fun _ => ?_)
  refine And.intro (fun h => absurd h (by decide)) (fun _ => ?_)
  refine And.intro (fun h => absurd h (by decide)) (fun _ => ?_)
  refine And.intro (fun h => absurd h (by decide)) (fun _ => ?_)
  refine And.intro (fun h => absurd h (by decide)) (fun _ => ?_)
  refine And.intro (fun h => absurd h (by decide)) (fun _ => ?_)
  refine And.intro (fun h => absurd h (by decide)) (fun _ => ?_)
  refine And.intro (fun h => absurd h (by decide)) (fun _ => ?_)
  refine zv_c1 ht rfl rfl ?_
  refine zv_sw ht rfl rfl rfl rfl rfl ?_
  refine And.intro (fun h => absurd h (by decide)) (fun _ => ?_)
  refine And.intro (fun h => absurd h (by decide)) (fun _ => ?_)
  refine And.intro (fun h => absurd h (by decide)) (fun _ => ?_)
  refine And.intro (fun h => absurd h (by decide)) (fun _ => ?_)
  refine And.intro (fun h => absurd h (by decide)) (fun _ => ?_)
  refine And.intro (fun h => absurd h (by decide)) (fun _ => ?_)
  refine And.intro (fun h => absurd h (by decide)) (fun _ => ?_)
  refine And.intro (fun h => absurd h (by decide)) (fun _ => ?_)
  refine And.intro (fun h => absurd h (by decide)) (fun _ => ?_)
  refine And.intro (fun h => absurd h (by decide)) (fun _ => ?_)
  refine And.intro (fun h => absurd h (by decide)) (fun _ => ?_)
  refine And.intro (fun h => absurd h (by decide)) (fun _ => ?_)
  refine zv_c1 ht rfl rfl (zv_c1 ht rfl rfl (zv_c1 ht rfl rfl (zv_c1 ht rfl rfl ?_)))
  refine zv_cl ht rfl rfl rfl (zv_tgv (p1.1.2.2.2.1) rfl) (by omega) (Nat.le_of_ble_eq_true rfl) (xEc.use (g := gN S1) (cN := gN S1 + 30 * (sz - (at0 + 4)) + 2) (cZ := gZ S1 + 150 * (sz - (at0 + 4)) + 60) rfl (x_ot26 (S := S1) (r := r) (rec := rec) (K := K) hF1 (by omega) (by omega) hmono p1 (by omega) (by omega) (by omega) hRd w1 (by omega)) (fun S2 a2 y2 at2 nd2 hF2 e2 k2 t2 p2 g2 c2 => ?_) (fun S3 q3 kk3 z3 hF3 e3 k3 x3 g3 => ?_))
  · show zEv d 261 673 [.ref r, .ref w, .int (Int32.ofNat deep), .int (Int32.ofNat at0), .ref w, .int (-1)] [.ref a2] S2 post
    exact zv_rt ht rfl rfl rfl rfl (h1 S1 hF1 k1 w1 p1 g1 S2 a2 y2 at2 nd2 hF2 e2 k2 t2 p2 g2 c2)
  · exact (h2 S1 hF1 k1 w1 p1 g1 S3 q3 kk3 z3 hF3 e3 k3 x3 g3)

theorem plw27 {d : Nat} {S : zS} (hF : zFin true S) (hd : 12 ≤ d) {tp : Nat → Nat} {sz at0 nd r : Nat} {rec : Nat → Nat → Nat → pE (zNd × Nat × Nat)} {K : Nat} {w : Nat} (deep : Nat) (hR : xR tp sz S r at0 nd) (hs0 : sz ≤ 300) (ha0 : at0 ≤ sz) (hr1 : 1639 ≤ r) (hr2 : r < gN S) (hN : gN S + 30 * (sz - at0) ≤ 1700000) (hdp : deep < 1000) (hnd : nd ≤ 80) (hK : K + 3 ≤ d) (hK2 : 12 ≤ d) (hmono : pMono rec) (hRd : ∀ dp d', deep ≤ 24 → dp = deep + 1 → K ≤ d' → xRd tp sz d' dp rec) (hw : zDs S w (ztn 27)) (hwN : w < gN S) (hwl : at0 + 4 ≤ sz) {post : Outcome × zS → Prop} (h1 : ∀ S1 : zS, (zFin true S1) → (xFw S S1) → (xWd S1 w (ztn 27)) → (xR tp sz S1 r at0 nd) → (gN S1 = gN S ∧ gZ S1 = gZ S) → ∀ S2 : zS, ∀ a2 : Nat, ∀ y2 : zNd, ∀ at2 : Nat, ∀ nd2 : Nat, (zFin true S2) → (pNm tp sz rec 15 at0 (at0 + 4) deep nd = .ok (y2, at2, nd2)) → (xFr S1 S2) → (xTl (gN S1) S2 y2 a2) → (xR tp sz S2 r at2 nd2) → (gN S1 ≤ gN S2 ∧ gN S2 + 30 * (sz - at2) ≤ gN S1 + 30 * (sz - (at0 + 4)) + 2 ∧ gZ S2 + 150 * (sz - at2) ≤ gZ S1 + 150 * (sz - (at0 + 4)) + 60) → (at2 ≤ sz ∧ gN S1 ≤ a2 ∧ a2 < gN S2) → post (.returned (some (.ref a2)), S2)) (h2 : ∀ S1 : zS, (zFin true S1) → (xFw S S1) → (xWd S1 w (ztn 27)) → (xR tp sz S1 r at0 nd) → (gN S1 = gN S ∧ gZ S1 = gZ S) → ∀ S3 : zS, ∀ q3 : Nat, ∀ kk3 : Nat, ∀ z3 : Nat, (zFin true S3) → (pNm tp sz rec 15 at0 (at0 + 4) deep nd = .error (kk3, z3)) → (xFr S1 S3) → (xFl S3 q3 kk3 z3) → (gN S1 ≤ gN S3 ∧ gN S3 ≤ gN S1 + 30 * (sz - (at0 + 4)) + 2 + 60 ∧ gZ S3 ≤ gZ S1 + 150 * (sz - (at0 + 4)) + 60 + 2000) → post (.threw q3, S3)) : zCall d 261 [.ref r, .ref w, .int (Int32.ofNat deep)] S post := by
  have ht : ztab 261 = ztb261 := rfl
  show zEv d 261 0 [.ref r, .ref w, .int (Int32.ofNat deep), .retAddr 0, .retAddr 0, .retAddr 0] [] S post
  refine zv_c1 ht rfl rfl ?_
  refine zv_ei (x := Int32.ofNat at0) ht rfl rfl (zhas_of (hR.1.2.2.2.1) rfl) hR.1.1 ?_
  refine zv_c2 (L' := [.ref r, .ref w, .int (Int32.ofNat deep), .int (Int32.ofNat at0), .retAddr 0, .retAddr 0]) ht rfl rfl ?_
  refine zv_c1 ht rfl rfl ?_
  refine zv_c2 (L' := [.ref r, .ref w, .int (Int32.ofNat deep), .int (Int32.ofNat at0), .ref w, .retAddr 0]) ht rfl rfl ?_
  refine zv_c1 ht rfl rfl ?_
  refine zv_c2 (L' := [.ref r, .ref w, .int (Int32.ofNat deep), .int (Int32.ofNat at0), .ref w, .int (-1)]) ht rfl rfl ?_
  refine zv_c1 ht rfl rfl ?_
  refine zv_cl ht rfl rfl rfl (zv_tgv ((zStr.t (zDs.wd hw).1)) rfl) (by omega) (Nat.le_of_ble_eq_true rfl) (x_hash (S := S) (tp := tp) (sz := sz) (r := r) hF (by omega) hw hR (v := 3419400) (by decide) (fun S1 hF1 k1 w1 p1 g1 => ?_))
  show zEv d 261 16 [.ref r, .ref w, .int (Int32.ofNat deep), .int (Int32.ofNat at0), .ref w, .int (-1)] [.int 3419400] S1 post
  refine zv_sw ht rfl rfl rfl rfl rfl ?_
  refine And.intro (fun h => absurd h (by decide)) (fun _ => ?_)
  refine And.intro (fun h => absurd h (by decide)) (fun _ => ?_)
  refine And.intro (fun h => absurd h (by decide)) (fun _ => ?_)
  refine And.intro (fun h => absurd h (by decide)) (fun _ => ?_)
  refine And.intro (fun h => absurd h (by decide)) (fun _ => ?_)
  refine And.intro (fun h => absurd h (by decide)) (fun _ => ?_)
  refine And.intro (fun h => absurd h (by decide)) (fun _ => ?_)
  refine And.intro (fun h => absurd h (by decide)) (fun _ => ?_)
  refine And.intro (fun h => absurd h (by decide)) (fun _ => ?_)
  refine And.intro (fun h => absurd h (by decide)) (fun _ => ?_)
  refine And.intro (fun h => absurd h (by decide)) (fun _ => ?_)
  refine And.intro (fun h => absurd h (by decide)) (fun _ => ?_)
  refine zv_c1 ht rfl rfl ?_
  refine zv_sw ht rfl rfl rfl rfl rfl ?_
  refine And.intro (fun h => absurd h (by decide)) (fun _ => ?_)
  refine And.intro (fun h => absurd h (by decide)) (fun _ => ?_)
  refine And.intro (fun h => absurd h (by decide)) (fun _ => ?_)
  refine And.intro (fun h => absurd h (by decide)) (fun _ => ?_)
  refine And.intro (fun h => absurd h (by decide)) (fun _ => ?_)
  refine And.intro (fun h => absurd h (by decide)) (fun _ => ?_)
  refine And.intro (fun h => absurd h (by decide)) (fun _ => ?_)
  refine And.intro (fun h => absurd h (by decide)) (fun _ => ?_)
  refine And.intro (fun h => absurd h (by decide)) (fun _ => ?_)
  refine And.intro (fun h => absurd h (by decide)) (fun _ => ?_)
  refine And.intro (fun h => absurd h (by decide)) (fun _ => ?_)
  refine And.intro (fun h => absurd h (by decide)) (fun _ => ?_)
  refine zv_c1 ht rfl rfl (zv_c1 ht rfl rfl (zv_c1 ht rfl rfl (zv_c1 ht rfl rfl ?_)))
  refine zv_cl ht rfl rfl rfl (zv_tgv (p1.1.2.2.2.1) rfl) (by omega) (Nat.le_of_ble_eq_true rfl) (xEc.use (g := gN S1) (cN := gN S1 + 30 * (sz - (at0 + 4)) + 2) (cZ := gZ S1 + 150 * (sz - (at0 + 4)) + 60) rfl (x_ot27 (S := S1) (r := r) (rec := rec) (K := K) hF1 (by omega) (by omega) hmono p1 (by omega) (by omega) (by omega) hRd w1 (by omega)) (fun S2 a2 y2 at2 nd2 hF2 e2 k2 t2 p2 g2 c2 => ?_) (fun S3 q3 kk3 z3 hF3 e3 k3 x3 g3 => ?_))
  · show zEv d 261 673 [.ref r, .ref w, .int (Int32.ofNat deep), .int (Int32.ofNat at0), .ref w, .int (-1)] [.ref a2] S2 post
    exact zv_rt ht rfl rfl rfl rfl (h1 S1 hF1 k1 w1 p1 g1 S2 a2 y2 at2 nd2 hF2 e2 k2 t2 p2 g2 c2)
  · exact (h2 S1 hF1 k1 w1 p1 g1 S3 q3 kk3 z3 hF3 e3 k3 x3 g3)

theorem plw28 {d : Nat} {S : zS} (hF : zFin true S) (hd : 12 ≤ d) {tp : Nat → Nat} {sz at0 nd r : Nat} {rec : Nat → Nat → Nat → pE (zNd × Nat × Nat)} {K : Nat} {w : Nat} (deep : Nat) (hR : xR tp sz S r at0 nd) (hs0 : sz ≤ 300) (ha0 : at0 ≤ sz) (hr1 : 1639 ≤ r) (hr2 : r < gN S) (hN : gN S + 30 * (sz - at0) ≤ 1700000) (hdp : deep < 1000) (hnd : nd ≤ 80) (hK : K + 3 ≤ d) (hK2 : 12 ≤ d) (hmono : pMono rec) (hRd : ∀ dp d', deep ≤ 24 → dp = deep + 1 → K ≤ d' → xRd tp sz d' dp rec) (hw : zDs S w (ztn 28)) (hwN : w < gN S) (hwl : at0 + 4 ≤ sz) {post : Outcome × zS → Prop} (h1 : ∀ S1 : zS, (zFin true S1) → (xFw S S1) → (xWd S1 w (ztn 28)) → (xR tp sz S1 r at0 nd) → (gN S1 = gN S ∧ gZ S1 = gZ S) → ∀ S2 : zS, ∀ a2 : Nat, ∀ y2 : zNd, ∀ at2 : Nat, ∀ nd2 : Nat, (zFin true S2) → (pNm tp sz rec 16 at0 (at0 + 4) deep nd = .ok (y2, at2, nd2)) → (xFr S1 S2) → (xTl (gN S1) S2 y2 a2) → (xR tp sz S2 r at2 nd2) → (gN S1 ≤ gN S2 ∧ gN S2 + 30 * (sz - at2) ≤ gN S1 + 30 * (sz - (at0 + 4)) + 2 ∧ gZ S2 + 150 * (sz - at2) ≤ gZ S1 + 150 * (sz - (at0 + 4)) + 60) → (at2 ≤ sz ∧ gN S1 ≤ a2 ∧ a2 < gN S2) → post (.returned (some (.ref a2)), S2)) (h2 : ∀ S1 : zS, (zFin true S1) → (xFw S S1) → (xWd S1 w (ztn 28)) → (xR tp sz S1 r at0 nd) → (gN S1 = gN S ∧ gZ S1 = gZ S) → ∀ S3 : zS, ∀ q3 : Nat, ∀ kk3 : Nat, ∀ z3 : Nat, (zFin true S3) → (pNm tp sz rec 16 at0 (at0 + 4) deep nd = .error (kk3, z3)) → (xFr S1 S3) → (xFl S3 q3 kk3 z3) → (gN S1 ≤ gN S3 ∧ gN S3 ≤ gN S1 + 30 * (sz - (at0 + 4)) + 2 + 60 ∧ gZ S3 ≤ gZ S1 + 150 * (sz - (at0 + 4)) + 60 + 2000) → post (.threw q3, S3)) : zCall d 261 [.ref r, .ref w, .int (Int32.ofNat deep)] S post := by
  have ht : ztab 261 = ztb261 := rfl
  show zEv d 261 0 [.ref r, .ref w, .int (Int32.ofNat deep), .retAddr 0, .retAddr 0, .retAddr 0] [] S post
  refine zv_c1 ht rfl rfl ?_
  refine zv_ei (x := Int32.ofNat at0) ht rfl rfl (zhas_of (hR.1.2.2.2.1) rfl) hR.1.1 ?_
  refine zv_c2 (L' := [.ref r, .ref w, .int (Int32.ofNat deep), .int (Int32.ofNat at0), .retAddr 0, .retAddr 0]) ht rfl rfl ?_
  refine zv_c1 ht rfl rfl ?_
  refine zv_c2 (L' := [.ref r, .ref w, .int (Int32.ofNat deep), .int (Int32.ofNat at0), .ref w, .retAddr 0]) ht rfl rfl ?_
  refine zv_c1 ht rfl rfl ?_
  refine zv_c2 (L' := [.ref r, .ref w, .int (Int32.ofNat deep), .int (Int32.ofNat at0), .ref w, .int (-1)]) ht rfl rfl ?_
  refine zv_c1 ht rfl rfl ?_
  refine zv_cl ht rfl rfl rfl (zv_tgv ((zStr.t (zDs.wd hw).1)) rfl) (by omega) (Nat.le_of_ble_eq_true rfl) (x_hash (S := S) (tp := tp) (sz := sz) (r := r) hF (by omega) hw hR (v := 3419405) (by decide) (fun S1 hF1 k1 w1 p1 g1 => ?_))
  show zEv d 261 16 [.ref r, .ref w, .int (Int32.ofNat deep), .int (Int32.ofNat at0), .ref w, .int (-1)] [.int 3419405] S1 post
  refine zv_sw ht rfl rfl rfl rfl rfl ?_
  refine And.intro (fun h => absurd h (by decide)) (fun _ => ?_)
  refine And.intro (fun h => absurd h (by decide)) (fun _ => ?_)
  refine And.intro (fun h => absurd h (by decide)) (fun _ => ?_)
  refine And.intro (fun h => absurd h (by decide)) (fun _ => ?_)
  refine And.intro (fun h => absurd h (by decide)) (fun _ => ?_)
  refine And.intro (fun h => absurd h (by decide)) (fun _ => ?_)
  refine And.intro (fun h => absurd h (by decide)) (fun _ => ?_)
  refine And.intro (fun h => absurd h (by decide)) (fun _ => ?_)
  refine And.intro (fun h => absurd h (by decide)) (fun _ => ?_)
  refine And.intro (fun h => absurd h (by decide)) (fun _ => ?_)
  refine And.intro (fun h => absurd h (by decide)) (fun _ => ?_)
  refine And.intro (fun h => absurd h (by decide)) (fun _ => ?_)
  refine zv_c1 ht rfl rfl ?_
  refine zv_sw ht rfl rfl rfl rfl rfl ?_
  refine And.intro (fun h => absurd h (by decide)) (fun _ => ?_)
  refine And.intro (fun h => absurd h (by decide)) (fun _ => ?_)
  refine And.intro (fun h => absurd h (by decide)) (fun _ => ?_)
  refine And.intro (fun h => absurd h (by decide)) (fun _ => ?_)
  refine And.intro (fun h => absurd h (by decide)) (fun _ => ?_)
  refine And.intro (fun h => absurd h (by decide)) (fun _ => ?_)
  refine And.intro (fun h => absurd h (by decide)) (fun _ => ?_)
  refine And.intro (fun h => absurd h (by decide)) (fun _ => ?_)
  refine And.intro (fun h => absurd h (by decide)) (fun _ => ?_)
  refine And.intro (fun h => absurd h (by decide)) (fun _ => ?_)
  refine And.intro (fun h => absurd h (by decide)) (fun _ => ?_)
  refine And.intro (fun h => absurd h (by decide)) (fun _ => ?_)
  refine zv_c1 ht rfl rfl (zv_c1 ht rfl rfl (zv_c1 ht rfl rfl (zv_c1 ht rfl rfl ?_)))
  refine zv_cl ht rfl rfl rfl (zv_tgv (p1.1.2.2.2.1) rfl) (by omega) (Nat.le_of_ble_eq_true rfl) (xEc.use (g := gN S1) (cN := gN S1 + 30 * (sz - (at0 + 4)) + 2) (cZ := gZ S1 + 150 * (sz - (at0 + 4)) + 60) rfl (x_ot28 (S := S1) (r := r) (rec := rec) (K := K) hF1 (by omega) (by omega) hmono p1 (by omega) (by omega) (by omega) hRd w1 (by omega)) (fun S2 a2 y2 at2 nd2 hF2 e2 k2 t2 p2 g2 c2 => ?_) (fun S3 q3 kk3 z3 hF3 e3 k3 x3 g3 => ?_))
  · show zEv d 261 673 [.ref r, .ref w, .int (Int32.ofNat deep), .int (Int32.ofNat at0), .ref w, .int (-1)] [.ref a2] S2 post
    exact zv_rt ht rfl rfl rfl rfl (h1 S1 hF1 k1 w1 p1 g1 S2 a2 y2 at2 nd2 hF2 e2 k2 t2 p2 g2 c2)
  · exact (h2 S1 hF1 k1 w1 p1 g1 S3 q3 kk3 z3 hF3 e3 k3 x3 g3)

theorem plw10 {d : Nat} {S : zS} (hF : zFin true S) (hd : 7 ≤ d) {tp : Nat → Nat} {sz at0 nd r : Nat} {rec : Nat → Nat → Nat → pE (zNd × Nat × Nat)} {K : Nat} {w : Nat} (deep : Nat) (hR : xR tp sz S r at0 nd) (hs0 : sz ≤ 300) (ha0 : at0 ≤ sz) (hr1 : 1639 ≤ r) (hr2 : r < gN S) (hN : gN S + 30 * (sz - at0) ≤ 1700000) (hdp : deep < 1000) (hnd : nd ≤ 80) (hK : K + 3 ≤ d) (hK2 : 12 ≤ d) (hmono : pMono rec) (hRd : ∀ dp d', deep ≤ 24 → dp = deep + 1 → K ≤ d' → xRd tp sz d' dp rec) (hw : zDs S w (ztn 10)) (hwN : w < gN S) (hwl : at0 + 6 ≤ sz) {post : Outcome × zS → Prop} (h1 : ∀ S1 : zS, (zFin true S1) → (xFw S S1) → (xWd S1 w (ztn 10)) → (xR tp sz S1 r at0 nd) → (gN S1 = gN S ∧ gZ S1 = gZ S) → ∀ S2 : zS, ∀ nd2 : Nat, (zFin true S2) → (pRead at0 deep nd false = .ok nd2) → (xFr S1 S2) → (xR tp sz S2 r at0 nd2) → (gN S1 ≤ gN S2 ∧ gN S2 ≤ gN S1 + 0 ∧ gZ S2 ≤ gZ S1 + 0) → (at0 ≤ sz) → (nd2 ≤ 80) → (deep ≤ 24) → ∀ S4 : zS, ∀ a4 : Nat, ∀ y4 : zNd, ∀ at4 : Nat, ∀ nd4 : Nat, (zFin true S4) → (pW tp sz rec 17 at0 deep (at0 + 6) nd2 = .ok (y4, at4, nd4)) → (xFr (sI S2 133 r (Int32.ofNat (at0 + 6))) S4) → (xTl (gN S2) S4 y4 a4) → (xR tp sz S4 r at4 nd4) → (gN S2 ≤ gN S4 ∧ gN S4 + 30 * (sz - at4) ≤ gN S2 + 30 * (sz - (at0 + 6)) ∧ gZ S4 + 150 * (sz - at4) ≤ gZ S2 + 150 * (sz - (at0 + 6))) → (at4 ≤ sz ∧ gN S2 ≤ a4 ∧ a4 < gN S4) → post (.returned (some (.ref a4)), S4)) (h2 : ∀ S1 : zS, (zFin true S1) → (xFw S S1) → (xWd S1 w (ztn 10)) → (xR tp sz S1 r at0 nd) → (gN S1 = gN S ∧ gZ S1 = gZ S) → ∀ S2 : zS, ∀ nd2 : Nat, (zFin true S2) → (pRead at0 deep nd false = .ok nd2) → (xFr S1 S2) → (xR tp sz S2 r at0 nd2) → (gN S1 ≤ gN S2 ∧ gN S2 ≤ gN S1 + 0 ∧ gZ S2 ≤ gZ S1 + 0) → (at0 ≤ sz) → (nd2 ≤ 80) → (deep ≤ 24) → ∀ S5 : zS, ∀ q5 : Nat, ∀ kk5 : Nat, ∀ z5 : Nat, (zFin true S5) → (pW tp sz rec 17 at0 deep (at0 + 6) nd2 = .error (kk5, z5)) → (xFr (sI S2 133 r (Int32.ofNat (at0 + 6))) S5) → (xFl S5 q5 kk5 z5) → (gN S2 ≤ gN S5 ∧ gN S5 ≤ gN S2 + 30 * (sz - (at0 + 6)) + 60 ∧ gZ S5 ≤ gZ S2 + 150 * (sz - (at0 + 6)) + 2000) → post (.threw q5, S5)) (h3 : ∀ S1 : zS, (zFin true S1) → (xFw S S1) → (xWd S1 w (ztn 10)) → (xR tp sz S1 r at0 nd) → (gN S1 = gN S ∧ gZ S1 = gZ S) → ∀ S3 : zS, ∀ q3 : Nat, (zFin true S3) → (pRead at0 deep nd false = .error (2, at0)) → (xFr S1 S3) → (xFl S3 q3 2 at0) → (gN S1 ≤ gN S3 ∧ gN S3 ≤ gN S1 + 1 ∧ gZ S3 ≤ gZ S1 + 3) → post (.threw q3, S3)) : zCall d 261 [.ref r, .ref w, .int (Int32.ofNat deep)] S post := by
  have ht : ztab 261 = ztb261 := rfl
  show zEv d 261 0 [.ref r, .ref w, .int (Int32.ofNat deep), .retAddr 0, .retAddr 0, .retAddr 0] [] S post
  refine zv_c1 ht rfl rfl ?_
  refine zv_ei (x := Int32.ofNat at0) ht rfl rfl (zhas_of (hR.1.2.2.2.1) rfl) hR.1.1 ?_
  refine zv_c2 (L' := [.ref r, .ref w, .int (Int32.ofNat deep), .int (Int32.ofNat at0), .retAddr 0, .retAddr 0]) ht rfl rfl ?_
  refine zv_c1 ht rfl rfl ?_
  refine zv_c2 (L' := [.ref r, .ref w, .int (Int32.ofNat deep), .int (Int32.ofNat at0), .ref w, .retAddr 0]) ht rfl rfl ?_
  refine zv_c1 ht rfl rfl ?_
  refine zv_c2 (L' := [.ref r, .ref w, .int (Int32.ofNat deep), .int (Int32.ofNat at0), .ref w, .int (-1)]) ht rfl rfl ?_
  refine zv_c1 ht rfl rfl ?_
  refine zv_cl ht rfl rfl rfl (zv_tgv ((zStr.t (zDs.wd hw).1)) rfl) (by omega) (Nat.le_of_ble_eq_true rfl) (x_hash (S := S) (tp := tp) (sz := sz) (r := r) hF (by omega) hw hR (v := (-874442692)) (by decide) (fun S1 hF1 k1 w1 p1 g1 => ?_))
  show zEv d 261 16 [.ref r, .ref w, .int (Int32.ofNat deep), .int (Int32.ofNat at0), .ref w, .int (-1)] [.int (-874442692)] S1 post
  refine zv_sw ht rfl rfl rfl rfl rfl ?_
  refine And.intro (fun _ => ?_) (fun h => absurd (by decide) h)
  refine zv_c1 ht rfl rfl (zv_c1 ht rfl rfl ?_)
  refine zv_cl ht rfl rfl rfl (zv_tgv (Eq.trans (zKE.T (xFw.fr k1) (Or.inl (show w < gN S from by omega))) (zStr.t (zDs.wd hw).1)) rfl) (by omega) (Nat.le_of_ble_eq_true rfl) (x_eqW (S := S1) hF1 (by omega) w1.1 (xR.lit p1 10 (by decide)) (v := 1) (zbo_pos rfl) ?_)
  show zEv d 261 278 [.ref r, .ref w, .int (Int32.ofNat deep), .int (Int32.ofNat at0), .ref w, .int (-1)] [.int 1] S1 post
  refine zv_br ht rfl rfl rfl (fun h => absurd h (by decide)) (fun _ => ?_)
  refine zv_c1 ht rfl rfl ?_
  refine zv_c2 (L' := [.ref r, .ref w, .int (Int32.ofNat deep), .int (Int32.ofNat at0), .ref w, .int 9]) ht rfl rfl ?_
  refine zv_c1 ht rfl rfl (zv_c1 ht rfl rfl ?_)
  refine zv_sw ht rfl rfl rfl rfl rfl ?_
  refine And.intro (fun h => absurd h (by decide)) (fun _ => ?_)
  refine And.intro (fun h => absurd h (by decide)) (fun _ => ?_)
  refine And.intro (fun h => absurd h (by decide)) (fun _ => ?_)
  refine And.intro (fun h => absurd h (by decide)) (fun _ => ?_)
  refine And.intro (fun h => absurd h (by decide)) (fun _ => ?_)
  refine And.intro (fun h => absurd h (by decide)) (fun _ => ?_)
  refine And.intro (fun h => absurd h (by decide)) (fun _ => ?_)
  refine And.intro (fun h => absurd h (by decide)) (fun _ => ?_)
  refine And.intro (fun h => absurd h (by decide)) (fun _ => ?_)
  refine And.intro (fun _ => ?_) (fun h => absurd (by decide) h)
  refine zv_c1 ht rfl rfl (zv_c1 ht rfl rfl (zv_c1 ht rfl rfl (zv_c1 ht rfl rfl ?_)))
  refine zv_cl ht rfl rfl rfl (zv_tgv (p1.1.2.2.2.1) rfl) (by omega) (Nat.le_of_ble_eq_true rfl) (x_begins (S := S1) (tp := tp) (sz := sz) (r := r) (p := at0) (dp := deep) (m := 1) (dq := deep) (two := false) hF1 (by omega) p1 (by omega) (by omega) (by omega) (by omega) rfl rfl (fun S2 nd2 hF2 e2 k2 p2 g2 b2 c2 d2 => ?_) (fun S3 q3 hF3 e3 k3 x3 g3 => ?_))
  · show zEv d 261 598 [.ref r, .ref w, .int (Int32.ofNat deep), .int (Int32.ofNat at0), .ref w, .int 9] [] S2 post
    refine zv_c1 ht rfl rfl (zv_c1 ht rfl rfl ?_)
    refine zv_ei (x := Int32.ofNat at0) ht rfl rfl (zhas_of (p2.1.2.2.2.1) rfl) p2.1.1 ?_
    refine zv_c1 ht rfl rfl ?_
    refine zv_e1 (x := Int32.ofNat (at0 + 6)) ht rfl rfl (zi_addE (a := at0) (b := 6) rfl rfl) ?_
    refine zv_ci (S' := sI S2 133 r (Int32.ofNat (at0 + 6))) ht rfl rfl ⟨(zhas_of (p2.1.2.2.2.1) rfl), (show r < gN S2 from by omega)⟩ ?_
    refine zv_c1 ht rfl rfl (zv_c1 ht rfl rfl (zv_c1 ht rfl rfl ?_))
    refine zv_cl ht rfl rfl rfl (zv_tgv (p2.1.2.2.2.1) rfl) (by omega) (Nat.le_of_ble_eq_true rfl) (xEnd.use (g := gN S2) (z := gZ S2) rfl rfl (x_thresh (S := sI S2 133 r (Int32.ofNat (at0 + 6))) (r := r) (rec := rec) (deep := deep) (p := at0) hF2 (by omega) hmono (xR_at p2 (by omega)) (by omega) (by omega) (by omega) (by omega) (fun dp hdp1 => hRd dp _ (by omega) hdp1 (by omega))) (fun S4 a4 y4 at4 nd4 hF4 e4 k4 t4 p4 g4 c4 => ?_) (fun S5 q5 kk5 z5 hF5 e5 k5 x5 g5 => ?_))
    · show zEv d 261 615 [.ref r, .ref w, .int (Int32.ofNat deep), .int (Int32.ofNat at0), .ref w, .int 9] [.ref a4] S4 post
      exact zv_rt ht rfl rfl rfl rfl (h1 S1 hF1 k1 w1 p1 g1 S2 nd2 hF2 e2 k2 p2 g2 b2 c2 d2 S4 a4 y4 at4 nd4 hF4 e4 k4 t4 p4 g4 c4)
    · exact (h2 S1 hF1 k1 w1 p1 g1 S2 nd2 hF2 e2 k2 p2 g2 b2 c2 d2 S5 q5 kk5 z5 hF5 e5 k5 x5 g5)
  · exact (h3 S1 hF1 k1 w1 p1 g1 S3 q3 hF3 e3 k3 x3 g3)

theorem plw20 {d : Nat} {S : zS} (hF : zFin true S) (hd : 7 ≤ d) {tp : Nat → Nat} {sz at0 nd r : Nat} {rec : Nat → Nat → Nat → pE (zNd × Nat × Nat)} {K : Nat} {w : Nat} (deep : Nat) (hR : xR tp sz S r at0 nd) (hs0 : sz ≤ 300) (ha0 : at0 ≤ sz) (hr1 : 1639 ≤ r) (hr2 : r < gN S) (hN : gN S + 30 * (sz - at0) ≤ 1700000) (hdp : deep < 1000) (hnd : nd ≤ 80) (hK : K + 3 ≤ d) (hK2 : 12 ≤ d) (hmono : pMono rec) (hRd : ∀ dp d', deep ≤ 24 → dp = deep + 1 → K ≤ d' → xRd tp sz d' dp rec) (hw : zDs S w (ztn 20)) (hwN : w < gN S) (hwl : at0 + 5 ≤ sz) {post : Outcome × zS → Prop} (h1 : ∀ S1 : zS, (zFin true S1) → (xFw S S1) → (xWd S1 w (ztn 20)) → (xR tp sz S1 r at0 nd) → (gN S1 = gN S ∧ gZ S1 = gZ S) → ∀ S2 : zS, ∀ nd2 : Nat, (zFin true S2) → (pRead at0 deep nd false = .ok nd2) → (xFr S1 S2) → (xR tp sz S2 r at0 nd2) → (gN S1 ≤ gN S2 ∧ gN S2 ≤ gN S1 + 0 ∧ gZ S2 ≤ gZ S1 + 0) → (at0 ≤ sz) → (nd2 ≤ 80) → (deep ≤ 24) → ∀ S4 : zS, ∀ a4 : Nat, ∀ y4 : zNd, ∀ at4 : Nat, ∀ nd4 : Nat, (zFin true S4) → (pW tp sz rec 18 at0 deep (at0 + 5) nd2 = .ok (y4, at4, nd4)) → (xFr (sI S2 133 r (Int32.ofNat (at0 + 5))) S4) → (xTl (gN S2) S4 y4 a4) → (xR tp sz S4 r at4 nd4) → (gN S2 ≤ gN S4 ∧ gN S4 + 30 * (sz - at4) ≤ gN S2 + 30 * (sz - (at0 + 5)) ∧ gZ S4 + 150 * (sz - at4) ≤ gZ S2 + 150 * (sz - (at0 + 5))) → (at4 ≤ sz ∧ gN S2 ≤ a4 ∧ a4 < gN S4) → post (.returned (some (.ref a4)), S4)) (h2 : ∀ S1 : zS, (zFin true S1) → (xFw S S1) → (xWd S1 w (ztn 20)) → (xR tp sz S1 r at0 nd) → (gN S1 = gN S ∧ gZ S1 = gZ S) → ∀ S2 : zS, ∀ nd2 : Nat, (zFin true S2) → (pRead at0 deep nd false = .ok nd2) → (xFr S1 S2) → (xR tp sz S2 r at0 nd2) → (gN S1 ≤ gN S2 ∧ gN S2 ≤ gN S1 + 0 ∧ gZ S2 ≤ gZ S1 + 0) → (at0 ≤ sz) → (nd2 ≤ 80) → (deep ≤ 24) → ∀ S5 : zS, ∀ q5 : Nat, ∀ kk5 : Nat, ∀ z5 : Nat, (zFin true S5) → (pW tp sz rec 18 at0 deep (at0 + 5) nd2 = .error (kk5, z5)) → (xFr (sI S2 133 r (Int32.ofNat (at0 + 5))) S5) → (xFl S5 q5 kk5 z5) → (gN S2 ≤ gN S5 ∧ gN S5 ≤ gN S2 + 30 * (sz - (at0 + 5)) + 60 ∧ gZ S5 ≤ gZ S2 + 150 * (sz - (at0 + 5)) + 2000) → post (.threw q5, S5)) (h3 : ∀ S1 : zS, (zFin true S1) → (xFw S S1) → (xWd S1 w (ztn 20)) → (xR tp sz S1 r at0 nd) → (gN S1 = gN S ∧ gZ S1 = gZ S) → ∀ S3 : zS, ∀ q3 : Nat, (zFin true S3) → (pRead at0 deep nd false = .error (2, at0)) → (xFr S1 S3) → (xFl S3 q3 2 at0) → (gN S1 ≤ gN S3 ∧ gN S3 ≤ gN S1 + 1 ∧ gZ S3 ≤ gZ S1 + 3) → post (.threw q3, S3)) : zCall d 261 [.ref r, .ref w, .int (Int32.ofNat deep)] S post := by
  have ht : ztab 261 = ztb261 := rfl
  show zEv d 261 0 [.ref r, .ref w, .int (Int32.ofNat deep), .retAddr 0, .retAddr 0, .retAddr 0] [] S post
  refine zv_c1 ht rfl rfl ?_
  refine zv_ei (x := Int32.ofNat at0) ht rfl rfl (zhas_of (hR.1.2.2.2.1) rfl) hR.1.1 ?_
  refine zv_c2 (L' := [.ref r, .ref w, .int (Int32.ofNat deep), .int (Int32.ofNat at0), .retAddr 0, .retAddr 0]) ht rfl rfl ?_
  refine zv_c1 ht rfl rfl ?_
  refine zv_c2 (L' := [.ref r, .ref w, .int (Int32.ofNat deep), .int (Int32.ofNat at0), .ref w, .retAddr 0]) ht rfl rfl ?_
  refine zv_c1 ht rfl rfl ?_
  refine zv_c2 (L' := [.ref r, .ref w, .int (Int32.ofNat deep), .int (Int32.ofNat at0), .ref w, .int (-1)]) ht rfl rfl ?_
  refine zv_c1 ht rfl rfl ?_
  refine zv_cl ht rfl rfl rfl (zv_tgv ((zStr.t (zDs.wd hw).1)) rfl) (by omega) (Nat.le_of_ble_eq_true rfl) (x_hash (S := S) (tp := tp) (sz := sz) (r := r) hF (by omega) hw hR (v := 104256825) (by decide) (fun S1 hF1 k1 w1 p1 g1 => ?_))
  show zEv d 261 16 [.ref r, .ref w, .int (Int32.ofNat deep), .int (Int32.ofNat at0), .ref w, .int (-1)] [.int 104256825] S1 post
  refine zv_sw ht rfl rfl rfl rfl rfl ?_
  refine And.intro (fun h => absurd h (by decide)) (fun _ => ?_)
  refine And.intro (fun h => absurd h (by decide)) (fun _ => ?_)
  refine And.intro (fun h => absurd h (by decide)) (fun _ => ?_)
  refine And.intro (fun h => absurd h (by decide)) (fun _ => ?_)
  refine And.intro (fun h => absurd h (by decide)) (fun _ => ?_)
  refine And.intro (fun h => absurd h (by decide)) (fun _ => ?_)
  refine And.intro (fun h => absurd h (by decide)) (fun _ => ?_)
  refine And.intro (fun h => absurd h (by decide)) (fun _ => ?_)
  refine And.intro (fun h => absurd h (by decide)) (fun _ => ?_)
  refine And.intro (fun h => absurd h (by decide)) (fun _ => ?_)
  refine And.intro (fun _ => ?_) (fun h => absurd (by decide) h)
  refine zv_c1 ht rfl rfl (zv_c1 ht rfl rfl ?_)
  refine zv_cl ht rfl rfl rfl (zv_tgv (Eq.trans (zKE.T (xFw.fr k1) (Or.inl (show w < gN S from by omega))) (zStr.t (zDs.wd hw).1)) rfl) (by omega) (Nat.le_of_ble_eq_true rfl) (x_eqW (S := S1) hF1 (by omega) w1.1 (xR.lit p1 20 (by decide)) (v := 1) (zbo_pos rfl) ?_)
  show zEv d 261 261 [.ref r, .ref w, .int (Int32.ofNat deep), .int (Int32.ofNat at0), .ref w, .int (-1)] [.int 1] S1 post
  refine zv_br ht rfl rfl rfl (fun h => absurd h (by decide)) (fun _ => ?_)
  refine zv_c1 ht rfl rfl ?_
  refine zv_c2 (L' := [.ref r, .ref w, .int (Int32.ofNat deep), .int (Int32.ofNat at0), .ref w, .int 8]) ht rfl rfl ?_
  refine zv_c1 ht rfl rfl (zv_c1 ht rfl rfl ?_)
  refine zv_sw ht rfl rfl rfl rfl rfl ?_
  refine And.intro (fun h => absurd h (by decide)) (fun _ => ?_)
  refine And.intro (fun h => absurd h (by decide)) (fun _ => ?_)
  refine And.intro (fun h => absurd h (by decide)) (fun _ => ?_)
  refine And.intro (fun h => absurd h (by decide)) (fun _ => ?_)
  refine And.intro (fun h => absurd h (by decide)) (fun _ => ?_)
  refine And.intro (fun h => absurd h (by decide)) (fun _ => ?_)
  refine And.intro (fun h => absurd h (by decide)) (fun _ => ?_)
  refine And.intro (fun h => absurd h (by decide)) (fun _ => ?_)
  refine And.intro (fun _ => ?_) (fun h => absurd (by decide) h)
  refine zv_c1 ht rfl rfl (zv_c1 ht rfl rfl (zv_c1 ht rfl rfl (zv_c1 ht rfl rfl ?_)))
  refine zv_cl ht rfl rfl rfl (zv_tgv (p1.1.2.2.2.1) rfl) (by omega) (Nat.le_of_ble_eq_true rfl) (x_begins (S := S1) (tp := tp) (sz := sz) (r := r) (p := at0) (dp := deep) (m := 1) (dq := deep) (two := false) hF1 (by omega) p1 (by omega) (by omega) (by omega) (by omega) rfl rfl (fun S2 nd2 hF2 e2 k2 p2 g2 b2 c2 d2 => ?_) (fun S3 q3 hF3 e3 k3 x3 g3 => ?_))
  · show zEv d 261 575 [.ref r, .ref w, .int (Int32.ofNat deep), .int (Int32.ofNat at0), .ref w, .int 8] [] S2 post
    refine zv_c1 ht rfl rfl (zv_c1 ht rfl rfl ?_)
    refine zv_ei (x := Int32.ofNat at0) ht rfl rfl (zhas_of (p2.1.2.2.2.1) rfl) p2.1.1 ?_
    refine zv_c1 ht rfl rfl ?_
    refine zv_e1 (x := Int32.ofNat (at0 + 5)) ht rfl rfl (zi_addE (a := at0) (b := 5) rfl rfl) ?_
    refine zv_ci (S' := sI S2 133 r (Int32.ofNat (at0 + 5))) ht rfl rfl ⟨(zhas_of (p2.1.2.2.2.1) rfl), (show r < gN S2 from by omega)⟩ ?_
    refine zv_c1 ht rfl rfl (zv_c1 ht rfl rfl ?_)
    refine zv_cl ht rfl rfl rfl (zv_tgv (p2.1.2.2.2.1) rfl) (by omega) (Nat.le_of_ble_eq_true rfl) (xEnd.use (g := gN S2) (z := gZ S2) rfl rfl (x_multi (S := sI S2 133 r (Int32.ofNat (at0 + 5))) (r := r) (rec := rec) (deep := deep) (p := at0) hF2 (by omega) (xR_at p2 (by omega)) (by omega) (by omega)) (fun S4 a4 y4 at4 nd4 hF4 e4 k4 t4 p4 g4 c4 => ?_) (fun S5 q5 kk5 z5 hF5 e5 k5 x5 g5 => ?_))
    · show zEv d 261 590 [.ref r, .ref w, .int (Int32.ofNat deep), .int (Int32.ofNat at0), .ref w, .int 8] [.ref a4] S4 post
      exact zv_rt ht rfl rfl rfl rfl (h1 S1 hF1 k1 w1 p1 g1 S2 nd2 hF2 e2 k2 p2 g2 b2 c2 d2 S4 a4 y4 at4 nd4 hF4 e4 k4 t4 p4 g4 c4)
    · exact (h2 S1 hF1 k1 w1 p1 g1 S2 nd2 hF2 e2 k2 p2 g2 b2 c2 d2 S5 q5 kk5 z5 hF5 e5 k5 x5 g5)
  · exact (h3 S1 hF1 k1 w1 p1 g1 S3 q3 hF3 e3 k3 x3 g3)

theorem plw5 {d : Nat} {S : zS} (hF : zFin true S) (hd : 7 ≤ d) {tp : Nat → Nat} {sz at0 nd r : Nat} {rec : Nat → Nat → Nat → pE (zNd × Nat × Nat)} {K : Nat} {w : Nat} (deep : Nat) (hR : xR tp sz S r at0 nd) (hs0 : sz ≤ 300) (ha0 : at0 ≤ sz) (hr1 : 1639 ≤ r) (hr2 : r < gN S) (hN : gN S + 30 * (sz - at0) ≤ 1700000) (hdp : deep < 1000) (hnd : nd ≤ 80) (hK : K + 3 ≤ d) (hK2 : 12 ≤ d) (hmono : pMono rec) (hRd : ∀ dp d', deep ≤ 24 → dp = deep + 1 → K ≤ d' → xRd tp sz d' dp rec) (hw : zDs S w (ztn 5)) (hwN : w < gN S) (hwl : at0 + 2 ≤ sz) {post : Outcome × zS → Prop} (h1 : ∀ S1 : zS, (zFin true S1) → (xFw S S1) → (xWd S1 w (ztn 5)) → (xR tp sz S1 r at0 nd) → (gN S1 = gN S ∧ gZ S1 = gZ S) → ∀ S2 : zS, ∀ nd2 : Nat, (zFin true S2) → (pRead at0 deep nd true = .ok nd2) → (xFr S1 S2) → (xR tp sz S2 r at0 nd2) → (gN S1 ≤ gN S2 ∧ gN S2 ≤ gN S1 + 0 ∧ gZ S2 ≤ gZ S1 + 0) → (at0 ≤ sz) → (nd2 ≤ 80) → (deep ≤ 24) → ∀ S4 : zS, ∀ a4 : Nat, ∀ y4 : zNd, ∀ at4 : Nat, ∀ nd4 : Nat, (zFin true S4) → (pW tp sz rec 2 at0 deep (at0 + 2) nd2 = .ok (y4, at4, nd4)) → (xFr (sNew (sI S2 133 r (Int32.ofNat (at0 + 2))) 11 0 (zslots 11)) S4) → (xTl (gN S2 + 1) S4 y4 a4) → (xR tp sz S4 r at4 nd4) → (gN S2 + 1 ≤ gN S4 ∧ gN S4 + 30 * (sz - at4) ≤ gN S2 + 1 + 30 * (sz - (at0 + 2)) ∧ gZ S4 + 150 * (sz - at4) ≤ gZ S2 + 19 + 150 * (sz - (at0 + 2))) → (at4 ≤ sz ∧ gN S2 + 1 ≤ a4 ∧ a4 < gN S4) → ∀ S17 : zS, (zFin true S17) → (pJ (tN 21 0 [] at0 [y4]) = .ok (tN 21 0 [] at0 [y4])) → (xJd (sP (sI (sI (sP S4 162 (gN S2) (some 0)) 144 (gN S2) (Int32.ofNat at0)) 160 (gN S2) 99) 161 (gN S2) (some a4)) (gN S2) S17) → (xTl (gN S) S17 (tN 21 0 [] at0 [y4]) (gN S2)) → (xR tp sz S17 r at4 nd4) → (gN S17 = gN S4 ∧ gZ S17 = gZ S4) → post (.returned (some (.ref (gN S2))), S17)) (h2 : ∀ S1 : zS, (zFin true S1) → (xFw S S1) → (xWd S1 w (ztn 5)) → (xR tp sz S1 r at0 nd) → (gN S1 = gN S ∧ gZ S1 = gZ S) → ∀ S2 : zS, ∀ nd2 : Nat, (zFin true S2) → (pRead at0 deep nd true = .ok nd2) → (xFr S1 S2) → (xR tp sz S2 r at0 nd2) → (gN S1 ≤ gN S2 ∧ gN S2 ≤ gN S1 + 0 ∧ gZ S2 ≤ gZ S1 + 0) → (at0 ≤ sz) → (nd2 ≤ 80) → (deep ≤ 24) → ∀ S4 : zS, ∀ a4 : Nat, ∀ y4 : zNd, ∀ at4 : Nat, ∀ nd4 : Nat, (zFin true S4) → (pW tp sz rec 2 at0 deep (at0 + 2) nd2 = .ok (y4, at4, nd4)) → (xFr (sNew (sI S2 133 r (Int32.ofNat (at0 + 2))) 11 0 (zslots 11)) S4) → (xTl (gN S2 + 1) S4 y4 a4) → (xR tp sz S4 r at4 nd4) → (gN S2 + 1 ≤ gN S4 ∧ gN S4 + 30 * (sz - at4) ≤ gN S2 + 1 + 30 * (sz - (at0 + 2)) ∧ gZ S4 + 150 * (sz - at4) ≤ gZ S2 + 19 + 150 * (sz - (at0 + 2))) → (at4 ≤ sz ∧ gN S2 + 1 ≤ a4 ∧ a4 < gN S4) → ∀ S18 : zS, ∀ q18 : Nat, (zFin true S18) → (pJ (tN 21 0 [] at0 [y4]) = .error (3, at0)) → (xFn (sP (sI (sI (sP S4 162 (gN S2) (some 0)) 144 (gN S2) (Int32.ofNat at0)) 160 (gN S2) 99) 161 (gN S2) (some a4)) (gN S2) S18) → (xFl S18 q18 3 at0) → (gN S18 = gN S4 + 1 ∧ gZ S18 ≤ gZ S4 + 3) → post (.threw q18, S18)) (h3 : ∀ S1 : zS, (zFin true S1) → (xFw S S1) → (xWd S1 w (ztn 5)) → (xR tp sz S1 r at0 nd) → (gN S1 = gN S ∧ gZ S1 = gZ S) → ∀ S2 : zS, ∀ nd2 : Nat, (zFin true S2) → (pRead at0 deep nd true = .ok nd2) → (xFr S1 S2) → (xR tp sz S2 r at0 nd2) → (gN S1 ≤ gN S2 ∧ gN S2 ≤ gN S1 + 0 ∧ gZ S2 ≤ gZ S1 + 0) → (at0 ≤ sz) → (nd2 ≤ 80) → (deep ≤ 24) → ∀ S5 : zS, ∀ q5 : Nat, ∀ kk5 : Nat, ∀ z5 : Nat, (zFin true S5) → (pW tp sz rec 2 at0 deep (at0 + 2) nd2 = .error (kk5, z5)) → (xFr (sNew (sI S2 133 r (Int32.ofNat (at0 + 2))) 11 0 (zslots 11)) S5) → (xFl S5 q5 kk5 z5) → (gN S2 + 1 ≤ gN S5 ∧ gN S5 ≤ gN S2 + 1 + 30 * (sz - (at0 + 2)) + 60 ∧ gZ S5 ≤ gZ S2 + 19 + 150 * (sz - (at0 + 2)) + 2000) → post (.threw q5, S5)) (h4 : ∀ S1 : zS, (zFin true S1) → (xFw S S1) → (xWd S1 w (ztn 5)) → (xR tp sz S1 r at0 nd) → (gN S1 = gN S ∧ gZ S1 = gZ S) → ∀ S3 : zS, ∀ q3 : Nat, (zFin true S3) → (pRead at0 deep nd true = .error (2, at0)) → (xFr S1 S3) → (xFl S3 q3 2 at0) → (gN S1 ≤ gN S3 ∧ gN S3 ≤ gN S1 + 1 ∧ gZ S3 ≤ gZ S1 + 3) → post (.threw q3, S3)) : zCall d 261 [.ref r, .ref w, .int (Int32.ofNat deep)] S post := by
  have ht : ztab 261 = ztb261 := rfl
  show zEv d 261 0 [.ref r, .ref w, .int (Int32.ofNat deep), .retAddr 0, .retAddr 0, .retAddr 0] [] S post
  refine zv_c1 ht rfl rfl ?_
  refine zv_ei (x := Int32.ofNat at0) ht rfl rfl (zhas_of (hR.1.2.2.2.1) rfl) hR.1.1 ?_
  refine zv_c2 (L' := [.ref r, .ref w, .int (Int32.ofNat deep), .int (Int32.ofNat at0), .retAddr 0, .retAddr 0]) ht rfl rfl ?_
  refine zv_c1 ht rfl rfl ?_
  refine zv_c2 (L' := [.ref r, .ref w, .int (Int32.ofNat deep), .int (Int32.ofNat at0), .ref w, .retAddr 0]) ht rfl rfl ?_
  refine zv_c1 ht rfl rfl ?_
  refine zv_c2 (L' := [.ref r, .ref w, .int (Int32.ofNat deep), .int (Int32.ofNat at0), .ref w, .int (-1)]) ht rfl rfl ?_
  refine zv_c1 ht rfl rfl ?_
  refine zv_cl ht rfl rfl rfl (zv_tgv ((zStr.t (zDs.wd hw).1)) rfl) (by omega) (Nat.le_of_ble_eq_true rfl) (x_hash (S := S) (tp := tp) (sz := sz) (r := r) hF (by omega) hw hR (v := 3579) (by decide) (fun S1 hF1 k1 w1 p1 g1 => ?_))
  show zEv d 261 16 [.ref r, .ref w, .int (Int32.ofNat deep), .int (Int32.ofNat at0), .ref w, .int (-1)] [.int 3579] S1 post
  refine zv_sw ht rfl rfl rfl rfl rfl ?_
  refine And.intro (fun h => absurd h (by decide)) (fun _ => ?_)
  refine And.intro (fun h => absurd h (by decide)) (fun _ => ?_)
  refine And.intro (fun h => absurd h (by decide)) (fun _ => ?_)
  refine And.intro (fun _ => ?_) (fun h => absurd (by decide) h)
  refine zv_c1 ht rfl rfl (zv_c1 ht rfl rfl ?_)
  refine zv_cl ht rfl rfl rfl (zv_tgv (Eq.trans (zKE.T (xFw.fr k1) (Or.inl (show w < gN S from by omega))) (zStr.t (zDs.wd hw).1)) rfl) (by omega) (Nat.le_of_ble_eq_true rfl) (x_eqW (S := S1) hF1 (by omega) w1.1 (xR.lit p1 5 (by decide)) (v := 1) (zbo_pos rfl) ?_)
  show zEv d 261 163 [.ref r, .ref w, .int (Int32.ofNat deep), .int (Int32.ofNat at0), .ref w, .int (-1)] [.int 1] S1 post
  refine zv_br ht rfl rfl rfl (fun h => absurd h (by decide)) (fun _ => ?_)
  refine zv_c1 ht rfl rfl ?_
  refine zv_c2 (L' := [.ref r, .ref w, .int (Int32.ofNat deep), .int (Int32.ofNat at0), .ref w, .int 2]) ht rfl rfl ?_
  refine zv_c1 ht rfl rfl (zv_c1 ht rfl rfl ?_)
  refine zv_sw ht rfl rfl rfl rfl rfl ?_
  refine And.intro (fun h => absurd h (by decide)) (fun _ => ?_)
  refine And.intro (fun h => absurd h (by decide)) (fun _ => ?_)
  refine And.intro (fun _ => ?_) (fun h => absurd (by decide) h)
  refine zv_c1 ht rfl rfl (zv_c1 ht rfl rfl (zv_c1 ht rfl rfl (zv_c1 ht rfl rfl (zv_c1 ht rfl rfl ?_))))
  refine zv_e1 (x := Int32.ofNat (deep + 1)) ht rfl rfl (zi_addE (a := deep) (b := 1) rfl rfl) ?_
  refine zv_cl ht rfl rfl rfl (zv_tgv (p1.1.2.2.2.1) rfl) (by omega) (Nat.le_of_ble_eq_true rfl) (x_begins (S := S1) (tp := tp) (sz := sz) (r := r) (p := at0) (dp := deep) (m := 2) (dq := deep + 1) (two := true) hF1 (by omega) p1 (by omega) (by omega) (by omega) (by omega) rfl rfl (fun S2 nd2 hF2 e2 k2 p2 g2 b2 c2 d2 => ?_) (fun S3 q3 hF3 e3 k3 x3 g3 => ?_))
  · show zEv d 261 442 [.ref r, .ref w, .int (Int32.ofNat deep), .int (Int32.ofNat at0), .ref w, .int 2] [] S2 post
    refine zv_c1 ht rfl rfl (zv_c1 ht rfl rfl ?_)
    refine zv_ei (x := Int32.ofNat at0) ht rfl rfl (zhas_of (p2.1.2.2.2.1) rfl) p2.1.1 ?_
    refine zv_c1 ht rfl rfl ?_
    refine zv_cl ht rfl rfl rfl (zv_tgv (Eq.trans (zKE.T k2 (Or.inl (show w < gN S1 from by omega))) (Eq.trans (zKE.T (xFw.fr k1) (Or.inl (show w < gN S from by omega))) (zStr.t (zDs.wd hw).1))) rfl) (by omega) (Nat.le_of_ble_eq_true rfl) (x_len (S := S2) hF2 (by omega) (xWd.k w1 (zKE.tr zKE.rf (zKE.w k2 (show gN S1 ≤ gN S1 from by omega) (fun _ h => h) (fun _ h => h)))).1 (n := 2) (by decide) ?_)
    show zEv d 261 451 [.ref r, .ref w, .int (Int32.ofNat deep), .int (Int32.ofNat at0), .ref w, .int 2] [.int 2, .int (Int32.ofNat at0), .ref r] S2 post
    refine zv_e1 (x := Int32.ofNat (at0 + 2)) ht rfl rfl (zi_addE (a := at0) (b := 2) rfl rfl) ?_
    refine zv_ci (S' := sI S2 133 r (Int32.ofNat (at0 + 2))) ht rfl rfl ⟨(zhas_of (p2.1.2.2.2.1) rfl), (show r < gN S2 from by omega)⟩ ?_
    refine zv_c1 ht rfl rfl ?_
    refine zv_ci (st' := [.ref (gN S2), .ref r]) (S' := sNew (sI S2 133 r (Int32.ofNat (at0 + 2))) 11 0 (zslots 11)) ht rfl rfl (znew_ok (show 1639 ≤ gN S2 from by omega) (show gN S2 < 2000000 from by omega)) ?_
    refine zv_c1 ht rfl rfl (zv_c1 ht rfl rfl ?_)
    refine zv_g3 (q := 0) ht rfl (zFin_new hF2) rfl rfl (zhas_of (Eq.trans (ztyp_new (S := sI S2 133 r (Int32.ofNat (at0 + 2))) (t := 11) (n := 0) (s := zslots 11) (show r ≠ gN S2 from by omega)) p2.1.2.2.2.1) rfl) (Eq.trans (gP_new (S := sI S2 133 r (Int32.ofNat (at0 + 2))) (t := 11) (n := 0) (s := zslots 11) (show r ≠ gN S2 from by omega)) p2.1.2.2.2.2) ?_
    refine zv_c1 ht rfl rfl (zv_c1 ht rfl rfl (zv_c1 ht rfl rfl (zv_c1 ht rfl rfl (zv_c1 ht rfl rfl ?_))))
    refine zv_cl ht rfl rfl rfl (zv_tgv (Eq.trans (ztyp_new (S := sI S2 133 r (Int32.ofNat (at0 + 2))) (t := 11) (n := 0) (s := zslots 11) (show w ≠ gN S2 from by omega)) (Eq.trans (zKE.T k2 (Or.inl (show w < gN S1 from by omega))) (Eq.trans (zKE.T (xFw.fr k1) (Or.inl (show w < gN S from by omega))) (zStr.t (zDs.wd hw).1)))) rfl) (by omega) (Nat.le_of_ble_eq_true rfl) (x_len (S := sNew (sI S2 133 r (Int32.ofNat (at0 + 2))) 11 0 (zslots 11)) (zFin_new hF2) (by omega) (xWd.k w1 (zKE.tr (zKE.tr (zKE.tr zKE.rf (zKE.w k2 (show gN S1 ≤ gN S1 from by omega) (fun _ h => h) (fun _ h => h))) (zKE_sI (Or.inl (by decide)))) (zKE_new (show gN S1 ≤ gN S2 ∧ gN S2 < zLB from ⟨by omega, by have hLB : zLB = 4294967296 := rfl; omega⟩)))).1 (n := 2) (by decide) ?_)
    show zEv d 261 473 [.ref r, .ref w, .int (Int32.ofNat deep), .int (Int32.ofNat at0), .ref w, .int 2] [.int 2, .int (Int32.ofNat at0), .ref r, .int 99, .int (Int32.ofNat at0), .ref 0, .ref (gN S2), .ref (gN S2), .ref r] (sNew (sI S2 133 r (Int32.ofNat (at0 + 2))) 11 0 (zslots 11)) post
    refine zv_c1 ht rfl rfl ?_
    refine zv_br ht rfl rfl rfl (fun _ => ?_) (fun h => absurd (by decide) h)
    refine zv_c1 ht rfl rfl ?_
    refine zv_cl ht rfl rfl rfl (zv_tgv (Eq.trans (ztyp_new (S := sI S2 133 r (Int32.ofNat (at0 + 2))) (t := 11) (n := 0) (s := zslots 11) (show r ≠ gN S2 from by omega)) p2.1.2.2.2.1) rfl) (by omega) (Nat.le_of_ble_eq_true rfl) (xEnd.use (g := gN S2 + 1) (z := gZ S2 + 19) rfl rfl (x_keyN (S := sNew (sI S2 133 r (Int32.ofNat (at0 + 2))) 11 0 (zslots 11)) (r := r) (rec := rec) (deep := deep) (p := at0) (k := 2) (zFin_new hF2) (by omega) (xR.ke (Fs := []) (xR_at p2 (by omega)) (zKE.tr zKE.rf (zKE_new (show gN (sI S2 133 r (Int32.ofNat (at0 + 2))) ≤ gN S2 ∧ gN S2 < zLB from ⟨by omega, by have hLB : zLB = 4294967296 := rfl; omega⟩))) (by omega) (by decide)) (by omega) (by omega) (by omega)) (fun S4 a4 y4 at4 nd4 hF4 e4 k4 t4 p4 g4 c4 => ?_) (fun S5 q5 kk5 z5 hF5 e5 k5 x5 g5 => ?_))
    · show zEv d 261 485 [.ref r, .ref w, .int (Int32.ofNat deep), .int (Int32.ofNat at0), .ref w, .int 2] [.ref a4, .int 99, .int (Int32.ofNat at0), .ref 0, .ref (gN S2), .ref (gN S2), .ref r] S4 post
      have C7 : ∀ (pst6 : Outcome × zS → Prop), (pst6 (.returned none, sP (sI (sI (sP S4 162 (gN S2) (some 0)) 144 (gN S2) (Int32.ofNat at0)) 160 (gN S2) 99) 161 (gN S2) (some a4))) → zCall (d - 1) 295 [.ref (gN S2), .ref 0, .int (Int32.ofNat at0), .int 99, .ref a4] S4 pst6 := by
        intro pst6 k13
        have ht8 : ztab 295 = ztb295 := rfl
        show zEv (d - 1) 295 0 [.ref (gN S2), .ref 0, .int (Int32.ofNat at0), .int 99, .ref a4] [] S4 pst6
        refine zv_c1 ht8 rfl rfl (zv_c1 ht8 rfl rfl ?_)
        refine zv_ci (S' := sP S4 162 (gN S2) (some 0)) ht8 rfl rfl ⟨(zhas_of (Eq.trans (zKE.T k4 (Or.inl (show gN S2 < gN S2 + 1 from by omega))) (ztyp_new_at (S := sI S2 133 r (Int32.ofNat (at0 + 2))) (t := 11) (n := 0) (s := zslots 11) (show 1639 ≤ gN S2 from by omega))) rfl), (show gN S2 < gN S4 from by omega)⟩ ?_
        refine zv_c1 ht8 rfl rfl (zv_c1 ht8 rfl rfl (zv_c1 ht8 rfl rfl ?_))
        have C10 : ∀ (pst9 : Outcome × zS → Prop), (pst9 (.returned none, sI (sP S4 162 (gN S2) (some 0)) 144 (gN S2) (Int32.ofNat at0))) → zCall ((d - 1) - 1) 280 [.ref (gN S2), .ref 0, .int (Int32.ofNat at0)] (sP S4 162 (gN S2) (some 0)) pst9 := by
          intro pst9 k12
          have ht11 : ztab 280 = ztb280 := rfl
          show zEv ((d - 1) - 1) 280 0 [.ref (gN S2), .ref 0, .int (Int32.ofNat at0)] [] (sP S4 162 (gN S2) (some 0)) pst9
          refine zv_c1 ht11 rfl rfl (zv_c1 ht11 rfl rfl ?_)
          refine zv_ci (S' := sP S4 162 (gN S2) (some 0)) ht11 rfl rfl (zk5 (Eq.trans (zKE.T k4 (Or.inl (show gN S2 < gN S2 + 1 from by omega))) (ztyp_new_at (S := sI S2 133 r (Int32.ofNat (at0 + 2))) (t := 11) (n := 0) (s := zslots 11) (show 1639 ≤ gN S2 from by omega))) rfl (show gN S2 < gN S4 from by omega) rfl gP_sP_at) ?_
          refine zv_c1 ht11 rfl rfl (zv_c1 ht11 rfl rfl (zv_c1 ht11 rfl rfl (zv_c1 ht11 rfl rfl ?_)))
          refine zv_ci (S' := sI (sP S4 162 (gN S2) (some 0)) 144 (gN S2) (Int32.ofNat at0)) ht11 rfl rfl ⟨(zhas_of (Eq.trans (zKE.T k4 (Or.inl (show gN S2 < gN S2 + 1 from by omega))) (ztyp_new_at (S := sI S2 133 r (Int32.ofNat (at0 + 2))) (t := 11) (n := 0) (s := zslots 11) (show 1639 ≤ gN S2 from by omega))) rfl), (show gN S2 < gN S4 from by omega)⟩ ?_
          exact zv_rt ht11 rfl rfl rfl rfl k12
        refine zv_cl ht8 rfl rfl rfl rfl (by omega) (Nat.le_of_ble_eq_true rfl) (C10 _ ?_)
        show zEv (d - 1) 295 11 [.ref (gN S2), .ref 0, .int (Int32.ofNat at0), .int 99, .ref a4] [] (sI (sP S4 162 (gN S2) (some 0)) 144 (gN S2) (Int32.ofNat at0)) pst6
        refine zv_c1 ht8 rfl rfl (zv_c1 ht8 rfl rfl ?_)
        refine zv_ci (S' := sI (sI (sP S4 162 (gN S2) (some 0)) 144 (gN S2) (Int32.ofNat at0)) 160 (gN S2) 99) ht8 rfl rfl ⟨⟨(zhas_of (Eq.trans (zKE.T k4 (Or.inl (show gN S2 < gN S2 + 1 from by omega))) (ztyp_new_at (S := sI S2 133 r (Int32.ofNat (at0 + 2))) (t := 11) (n := 0) (s := zslots 11) (show 1639 ≤ gN S2 from by omega))) rfl), (show gN S2 < gN S4 from by omega)⟩, (by decide)⟩ ?_
        refine zv_c1 ht8 rfl rfl (zv_c1 ht8 rfl rfl ?_)
        refine zv_ci (S' := sP (sI (sI (sP S4 162 (gN S2) (some 0)) 144 (gN S2) (Int32.ofNat at0)) 160 (gN S2) 99) 161 (gN S2) (some a4)) ht8 rfl rfl ⟨(zhas_of (Eq.trans (zKE.T k4 (Or.inl (show gN S2 < gN S2 + 1 from by omega))) (ztyp_new_at (S := sI S2 133 r (Int32.ofNat (at0 + 2))) (t := 11) (n := 0) (s := zslots 11) (show 1639 ≤ gN S2 from by omega))) rfl), (show gN S2 < gN S4 from by omega)⟩ ?_
        exact zv_rt ht8 rfl rfl rfl rfl k13
      refine zv_cl ht rfl rfl rfl rfl (by omega) (Nat.le_of_ble_eq_true rfl) (C7 _ ?_)
      show zEv d 261 488 [.ref r, .ref w, .int (Int32.ofNat deep), .int (Int32.ofNat at0), .ref w, .int 2] [.ref (gN S2), .ref r] (sP (sI (sI (sP S4 162 (gN S2) (some 0)) 144 (gN S2) (Int32.ofNat at0)) 160 (gN S2) 99) 161 (gN S2) (some a4)) post
      have C15 : ∀ (pst14 : Outcome × zS → Prop), (∀ S17 : zS, (zFin true S17) → (pJ (tN 21 0 [] at0 [y4]) = .ok (tN 21 0 [] at0 [y4])) → (xJd (sP (sI (sI (sP S4 162 (gN S2) (some 0)) 144 (gN S2) (Int32.ofNat at0)) 160 (gN S2) 99) 161 (gN S2) (some a4)) (gN S2) S17) → (xTl (gN S) S17 (tN 21 0 [] at0 [y4]) (gN S2)) → (xR tp sz S17 r at4 nd4) → (gN S17 = gN S4 ∧ gZ S17 = gZ S4) → pst14 (.returned (some (.ref (gN S2))), S17)) → (∀ S18 : zS, ∀ q18 : Nat, (zFin true S18) → (pJ (tN 21 0 [] at0 [y4]) = .error (3, at0)) → (xFn (sP (sI (sI (sP S4 162 (gN S2) (some 0)) 144 (gN S2) (Int32.ofNat at0)) 160 (gN S2) 99) 161 (gN S2) (some a4)) (gN S2) S18) → (xFl S18 q18 3 at0) → (gN S18 = gN S4 + 1 ∧ gZ S18 ≤ gZ S4 + 3) → pst14 (.threw q18, S18)) → zCall (d - 1) 253 [.ref r, .ref (gN S2)] (sP (sI (sI (sP S4 162 (gN S2) (some 0)) 144 (gN S2) (Int32.ofNat at0)) 160 (gN S2) 99) 161 (gN S2) (some a4)) pst14 := by
        intro pst14 k19 k20
        have ht16 : ztab 253 = ztb253 := rfl
        show zEv (d - 1) 253 0 [.ref r, .ref (gN S2)] [] (sP (sI (sI (sP S4 162 (gN S2) (some 0)) 144 (gN S2) (Int32.ofNat at0)) 160 (gN S2) 99) 161 (gN S2) (some a4)) pst14
        refine zv_c1 ht16 rfl rfl ?_
        refine zv_cl ht16 rfl rfl rfl (zv_tgm (Eq.trans (zKE.T k4 (Or.inl (show gN S2 < gN S2 + 1 from by omega))) (ztyp_new_at (S := sI S2 133 r (Int32.ofNat (at0 + 2))) (t := 11) (n := 0) (s := zslots 11) (show 1639 ≤ gN S2 from by omega))) rfl) (by omega) (Nat.le_of_ble_eq_true rfl) (x_judgeR (S := sP (sI (sI (sP S4 162 (gN S2) (some 0)) 144 (gN S2) (Int32.ofNat at0)) 160 (gN S2) 99) 161 (gN S2) (some a4)) (tp := tp) (sz := sz) (r := r) (a := gN S2) (k := 21) (v := 0) (p := at0) (ks := []) (js := [a4]) (cs := [y4]) (g := gN S4) (lo := gN S) (zFin_sP (zFin_sP hF4 rfl) rfl) (by omega) (by omega) (by omega) (by omega) (by omega) rfl (xOwn_W (by decide) (Eq.trans (zKE.T k4 (Or.inl (show gN S2 < gN S2 + 1 from by omega))) (ztyp_new_at (S := sI S2 133 r (Int32.ofNat (at0 + 2))) (t := 11) (n := 0) (s := zslots 11) (show 1639 ≤ gN S2 from by omega))) (gI_sI_at) (gP_sP_at)) ⟨a4, _, rfl, (xTl.ch t4 (zKE.tr (zKE.tr (zKE.tr (zKE.tr zKE.rf (zKE_sP (Or.inr (Or.inr ⟨by omega, by have hLB : zLB = 4294967296 := rfl; omega⟩)))) (zKE_sI (Or.inr (Or.inr ⟨by omega, by have hLB : zLB = 4294967296 := rfl; omega⟩)))) (zKE_sI (Or.inr (Or.inr ⟨by omega, by have hLB : zLB = 4294967296 := rfl; omega⟩)))) (zKE_sP (Or.inr (Or.inr ⟨by omega, by have hLB : zLB = 4294967296 := rfl; omega⟩)))) (by omega) (by intro j h1 h2; omega)), rfl⟩ (by decide) (by omega) (gI_sI_at) (Eq.trans (zKE.I k4 (Or.inl (show gN S2 < gN S2 + 1 from by omega)) (by simp) (by decide)) (gI_new_at (S := sI S2 133 r (Int32.ofNat (at0 + 2))) (t := 11) (n := 0) (s := zslots 11))) (Eq.trans (zKE.I k4 (Or.inl (show gN S2 < gN S2 + 1 from by omega)) (by simp) (by decide)) (gI_new_at (S := sI S2 133 r (Int32.ofNat (at0 + 2))) (t := 11) (n := 0) (s := zslots 11))) (xR.ke (Fs := []) p4 (zKE.tr (zKE.tr (zKE.tr (zKE.tr zKE.rf (zKE_sP (Or.inr (Or.inr ⟨by omega, by have hLB : zLB = 4294967296 := rfl; omega⟩)))) (zKE_sI (Or.inr (Or.inr ⟨by omega, by have hLB : zLB = 4294967296 := rfl; omega⟩)))) (zKE_sI (Or.inr (Or.inr ⟨by omega, by have hLB : zLB = 4294967296 := rfl; omega⟩)))) (zKE_sP (Or.inr (Or.inr ⟨by omega, by have hLB : zLB = 4294967296 := rfl; omega⟩)))) (by omega) (by decide)) (by omega) (fun S17 hF17 e17 j17 t17 p17 g17 => ?_) (fun S18 q18 hF18 e18 k18 x18 g18 => ?_))
        · show zEv (d - 1) 253 4 [.ref r, .ref (gN S2)] [] S17 pst14
          refine zv_c1 ht16 rfl rfl ?_
          exact zv_rt ht16 rfl rfl rfl rfl (k19 S17 hF17 e17 j17 t17 p17 g17)
        · exact (k20 S18 q18 hF18 e18 k18 x18 g18)
      refine zv_cl ht rfl rfl rfl (zv_tgv (p4.1.2.2.2.1) rfl) (by omega) (Nat.le_of_ble_eq_true rfl) (C15 _ (fun S17 hF17 e17 j17 t17 p17 g17 => ?_) (fun S18 q18 hF18 e18 k18 x18 g18 => ?_))
      · show zEv d 261 491 [.ref r, .ref w, .int (Int32.ofNat deep), .int (Int32.ofNat at0), .ref w, .int 2] [.ref (gN S2)] S17 post
        exact zv_rt ht rfl rfl rfl rfl (h1 S1 hF1 k1 w1 p1 g1 S2 nd2 hF2 e2 k2 p2 g2 b2 c2 d2 S4 a4 y4 at4 nd4 hF4 e4 k4 t4 p4 g4 c4 S17 hF17 e17 j17 t17 p17 g17)
      · exact (h2 S1 hF1 k1 w1 p1 g1 S2 nd2 hF2 e2 k2 p2 g2 b2 c2 d2 S4 a4 y4 at4 nd4 hF4 e4 k4 t4 p4 g4 c4 S18 q18 hF18 e18 k18 x18 g18)
    · exact (h3 S1 hF1 k1 w1 p1 g1 S2 nd2 hF2 e2 k2 p2 g2 b2 c2 d2 S5 q5 kk5 z5 hF5 e5 k5 x5 g5)
  · exact (h4 S1 hF1 k1 w1 p1 g1 S3 q3 hF3 e3 k3 x3 g3)

theorem plw17 {d : Nat} {S : zS} (hF : zFin true S) (hd : 7 ≤ d) {tp : Nat → Nat} {sz at0 nd r : Nat} {rec : Nat → Nat → Nat → pE (zNd × Nat × Nat)} {K : Nat} {w : Nat} (deep : Nat) (hR : xR tp sz S r at0 nd) (hs0 : sz ≤ 300) (ha0 : at0 ≤ sz) (hr1 : 1639 ≤ r) (hr2 : r < gN S) (hN : gN S + 30 * (sz - at0) ≤ 1700000) (hdp : deep < 1000) (hnd : nd ≤ 80) (hK : K + 3 ≤ d) (hK2 : 12 ≤ d) (hmono : pMono rec) (hRd : ∀ dp d', deep ≤ 24 → dp = deep + 1 → K ≤ d' → xRd tp sz d' dp rec) (hw : zDs S w (ztn 17)) (hwN : w < gN S) (hwl : at0 + 3 ≤ sz) {post : Outcome × zS → Prop} (h1 : ∀ S1 : zS, (zFin true S1) → (xFw S S1) → (xWd S1 w (ztn 17)) → (xR tp sz S1 r at0 nd) → (gN S1 = gN S ∧ gZ S1 = gZ S) → ∀ S2 : zS, ∀ nd2 : Nat, (zFin true S2) → (pRead at0 deep nd true = .ok nd2) → (xFr S1 S2) → (xR tp sz S2 r at0 nd2) → (gN S1 ≤ gN S2 ∧ gN S2 ≤ gN S1 + 0 ∧ gZ S2 ≤ gZ S1 + 0) → (at0 ≤ sz) → (nd2 ≤ 80) → (deep ≤ 24) → ∀ S4 : zS, ∀ a4 : Nat, ∀ y4 : zNd, ∀ at4 : Nat, ∀ nd4 : Nat, (zFin true S4) → (pW tp sz rec 3 at0 deep (at0 + 3) nd2 = .ok (y4, at4, nd4)) → (xFr (sNew (sI S2 133 r (Int32.ofNat (at0 + 3))) 11 0 (zslots 11)) S4) → (xTl (gN S2 + 1) S4 y4 a4) → (xR tp sz S4 r at4 nd4) → (gN S2 + 1 ≤ gN S4 ∧ gN S4 + 30 * (sz - at4) ≤ gN S2 + 1 + 30 * (sz - (at0 + 3)) ∧ gZ S4 + 150 * (sz - at4) ≤ gZ S2 + 19 + 150 * (sz - (at0 + 3))) → (at4 ≤ sz ∧ gN S2 + 1 ≤ a4 ∧ a4 < gN S4) → ∀ S17 : zS, (zFin true S17) → (pJ (tN 21 0 [] at0 [y4]) = .ok (tN 21 0 [] at0 [y4])) → (xJd (sP (sI (sI (sP S4 162 (gN S2) (some 0)) 144 (gN S2) (Int32.ofNat at0)) 160 (gN S2) 99) 161 (gN S2) (some a4)) (gN S2) S17) → (xTl (gN S) S17 (tN 21 0 [] at0 [y4]) (gN S2)) → (xR tp sz S17 r at4 nd4) → (gN S17 = gN S4 ∧ gZ S17 = gZ S4) → post (.returned (some (.ref (gN S2))), S17)) (h2 : ∀ S1 : zS, (zFin true S1) → (xFw S S1) → (xWd S1 w (ztn 17)) → (xR tp sz S1 r at0 nd) → (gN S1 = gN S ∧ gZ S1 = gZ S) → ∀ S2 : zS, ∀ nd2 : Nat, (zFin true S2) → (pRead at0 deep nd true = .ok nd2) → (xFr S1 S2) → (xR tp sz S2 r at0 nd2) → (gN S1 ≤ gN S2 ∧ gN S2 ≤ gN S1 + 0 ∧ gZ S2 ≤ gZ S1 + 0) → (at0 ≤ sz) → (nd2 ≤ 80) → (deep ≤ 24) → ∀ S4 : zS, ∀ a4 : Nat, ∀ y4 : zNd, ∀ at4 : Nat, ∀ nd4 : Nat, (zFin true S4) → (pW tp sz rec 3 at0 deep (at0 + 3) nd2 = .ok (y4, at4, nd4)) → (xFr (sNew (sI S2 133 r (Int32.ofNat (at0 + 3))) 11 0 (zslots 11)) S4) → (xTl (gN S2 + 1) S4 y4 a4) → (xR tp sz S4 r at4 nd4) → (gN S2 + 1 ≤ gN S4 ∧ gN S4 + 30 * (sz - at4) ≤ gN S2 + 1 + 30 * (sz - (at0 + 3)) ∧ gZ S4 + 150 * (sz - at4) ≤ gZ S2 + 19 + 150 * (sz - (at0 + 3))) → (at4 ≤ sz ∧ gN S2 + 1 ≤ a4 ∧ a4 < gN S4) → ∀ S18 : zS, ∀ q18 : Nat, (zFin true S18) → (pJ (tN 21 0 [] at0 [y4]) = .error (3, at0)) → (xFn (sP (sI (sI (sP S4 162 (gN S2) (some 0)) 144 (gN S2) (Int32.ofNat at0)) 160 (gN S2) 99) 161 (gN S2) (some a4)) (gN S2) S18) → (xFl S18 q18 3 at0) → (gN S18 = gN S4 + 1 ∧ gZ S18 ≤ gZ S4 + 3) → post (.threw q18, S18)) (h3 : ∀ S1 : zS, (zFin true S1) → (xFw S S1) → (xWd S1 w (ztn 17)) → (xR tp sz S1 r at0 nd) → (gN S1 = gN S ∧ gZ S1 = gZ S) → ∀ S2 : zS, ∀ nd2 : Nat, (zFin true S2) → (pRead at0 deep nd true = .ok nd2) → (xFr S1 S2) → (xR tp sz S2 r at0 nd2) → (gN S1 ≤ gN S2 ∧ gN S2 ≤ gN S1 + 0 ∧ gZ S2 ≤ gZ S1 + 0) → (at0 ≤ sz) → (nd2 ≤ 80) → (deep ≤ 24) → ∀ S5 : zS, ∀ q5 : Nat, ∀ kk5 : Nat, ∀ z5 : Nat, (zFin true S5) → (pW tp sz rec 3 at0 deep (at0 + 3) nd2 = .error (kk5, z5)) → (xFr (sNew (sI S2 133 r (Int32.ofNat (at0 + 3))) 11 0 (zslots 11)) S5) → (xFl S5 q5 kk5 z5) → (gN S2 + 1 ≤ gN S5 ∧ gN S5 ≤ gN S2 + 1 + 30 * (sz - (at0 + 3)) + 60 ∧ gZ S5 ≤ gZ S2 + 19 + 150 * (sz - (at0 + 3)) + 2000) → post (.threw q5, S5)) (h4 : ∀ S1 : zS, (zFin true S1) → (xFw S S1) → (xWd S1 w (ztn 17)) → (xR tp sz S1 r at0 nd) → (gN S1 = gN S ∧ gZ S1 = gZ S) → ∀ S3 : zS, ∀ q3 : Nat, (zFin true S3) → (pRead at0 deep nd true = .error (2, at0)) → (xFr S1 S3) → (xFl S3 q3 2 at0) → (gN S1 ≤ gN S3 ∧ gN S3 ≤ gN S1 + 1 ∧ gZ S3 ≤ gZ S1 + 3) → post (.threw q3, S3)) : zCall d 261 [.ref r, .ref w, .int (Int32.ofNat deep)] S post := by
  have ht : ztab 261 = ztb261 := rfl
  show zEv d 261 0 [.ref r, .ref w, .int (Int32.ofNat deep), .retAddr 0, .retAddr 0, .retAddr 0] [] S post
  refine zv_c1 ht rfl rfl ?_
  refine zv_ei (x := Int32.ofNat at0) ht rfl rfl (zhas_of (hR.1.2.2.2.1) rfl) hR.1.1 ?_
  refine zv_c2 (L' := [.ref r, .ref w, .int (Int32.ofNat deep), .int (Int32.ofNat at0), .retAddr 0, .retAddr 0]) ht rfl rfl ?_
  refine zv_c1 ht rfl rfl ?_
  refine zv_c2 (L' := [.ref r, .ref w, .int (Int32.ofNat deep), .int (Int32.ofNat at0), .ref w, .retAddr 0]) ht rfl rfl ?_
  refine zv_c1 ht rfl rfl ?_
  refine zv_c2 (L' := [.ref r, .ref w, .int (Int32.ofNat deep), .int (Int32.ofNat at0), .ref w, .int (-1)]) ht rfl rfl ?_
  refine zv_c1 ht rfl rfl ?_
  refine zv_cl ht rfl rfl rfl (zv_tgv ((zStr.t (zDs.wd hw).1)) rfl) (by omega) (Nat.le_of_ble_eq_true rfl) (x_hash (S := S) (tp := tp) (sz := sz) (r := r) hF (by omega) hw hR (v := 111053) (by decide) (fun S1 hF1 k1 w1 p1 g1 => ?_))
  show zEv d 261 16 [.ref r, .ref w, .int (Int32.ofNat deep), .int (Int32.ofNat at0), .ref w, .int (-1)] [.int 111053] S1 post
  refine zv_sw ht rfl rfl rfl rfl rfl ?_
  refine And.intro (fun h => absurd h (by decide)) (fun _ => ?_)
  refine And.intro (fun h => absurd h (by decide)) (fun _ => ?_)
  refine And.intro (fun h => absurd h (by decide)) (fun _ => ?_)
  refine And.intro (fun h => absurd h (by decide)) (fun _ => ?_)
  refine And.intro (fun _ => ?_) (fun h => absurd (by decide) h)
  refine zv_c1 ht rfl rfl (zv_c1 ht rfl rfl ?_)
  refine zv_cl ht rfl rfl rfl (zv_tgv (Eq.trans (zKE.T (xFw.fr k1) (Or.inl (show w < gN S from by omega))) (zStr.t (zDs.wd hw).1)) rfl) (by omega) (Nat.le_of_ble_eq_true rfl) (x_eqW (S := S1) hF1 (by omega) w1.1 (xR.lit p1 17 (by decide)) (v := 1) (zbo_pos rfl) ?_)
  show zEv d 261 179 [.ref r, .ref w, .int (Int32.ofNat deep), .int (Int32.ofNat at0), .ref w, .int (-1)] [.int 1] S1 post
  refine zv_br ht rfl rfl rfl (fun h => absurd h (by decide)) (fun _ => ?_)
  refine zv_c1 ht rfl rfl ?_
  refine zv_c2 (L' := [.ref r, .ref w, .int (Int32.ofNat deep), .int (Int32.ofNat at0), .ref w, .int 3]) ht rfl rfl ?_
  refine zv_c1 ht rfl rfl (zv_c1 ht rfl rfl ?_)
  refine zv_sw ht rfl rfl rfl rfl rfl ?_
  refine And.intro (fun h => absurd h (by decide)) (fun _ => ?_)
  refine And.intro (fun h => absurd h (by decide)) (fun _ => ?_)
  refine And.intro (fun h => absurd h (by decide)) (fun _ => ?_)
  refine And.intro (fun _ => ?_) (fun h => absurd (by decide) h)
  refine zv_c1 ht rfl rfl (zv_c1 ht rfl rfl (zv_c1 ht rfl rfl (zv_c1 ht rfl rfl (zv_c1 ht rfl rfl ?_))))
  refine zv_e1 (x := Int32.ofNat (deep + 1)) ht rfl rfl (zi_addE (a := deep) (b := 1) rfl rfl) ?_
  refine zv_cl ht rfl rfl rfl (zv_tgv (p1.1.2.2.2.1) rfl) (by omega) (Nat.le_of_ble_eq_true rfl) (x_begins (S := S1) (tp := tp) (sz := sz) (r := r) (p := at0) (dp := deep) (m := 2) (dq := deep + 1) (two := true) hF1 (by omega) p1 (by omega) (by omega) (by omega) (by omega) rfl rfl (fun S2 nd2 hF2 e2 k2 p2 g2 b2 c2 d2 => ?_) (fun S3 q3 hF3 e3 k3 x3 g3 => ?_))
  · show zEv d 261 442 [.ref r, .ref w, .int (Int32.ofNat deep), .int (Int32.ofNat at0), .ref w, .int 3] [] S2 post
    refine zv_c1 ht rfl rfl (zv_c1 ht rfl rfl ?_)
    refine zv_ei (x := Int32.ofNat at0) ht rfl rfl (zhas_of (p2.1.2.2.2.1) rfl) p2.1.1 ?_
    refine zv_c1 ht rfl rfl ?_
    refine zv_cl ht rfl rfl rfl (zv_tgv (Eq.trans (zKE.T k2 (Or.inl (show w < gN S1 from by omega))) (Eq.trans (zKE.T (xFw.fr k1) (Or.inl (show w < gN S from by omega))) (zStr.t (zDs.wd hw).1))) rfl) (by omega) (Nat.le_of_ble_eq_true rfl) (x_len (S := S2) hF2 (by omega) (xWd.k w1 (zKE.tr zKE.rf (zKE.w k2 (show gN S1 ≤ gN S1 from by omega) (fun _ h => h) (fun _ h => h)))).1 (n := 3) (by decide) ?_)
    show zEv d 261 451 [.ref r, .ref w, .int (Int32.ofNat deep), .int (Int32.ofNat at0), .ref w, .int 3] [.int 3, .int (Int32.ofNat at0), .ref r] S2 post
    refine zv_e1 (x := Int32.ofNat (at0 + 3)) ht rfl rfl (zi_addE (a := at0) (b := 3) rfl rfl) ?_
    refine zv_ci (S' := sI S2 133 r (Int32.ofNat (at0 + 3))) ht rfl rfl ⟨(zhas_of (p2.1.2.2.2.1) rfl), (show r < gN S2 from by omega)⟩ ?_
    refine zv_c1 ht rfl rfl ?_
    refine zv_ci (st' := [.ref (gN S2), .ref r]) (S' := sNew (sI S2 133 r (Int32.ofNat (at0 + 3))) 11 0 (zslots 11)) ht rfl rfl (znew_ok (show 1639 ≤ gN S2 from by omega) (show gN S2 < 2000000 from by omega)) ?_
    refine zv_c1 ht rfl rfl (zv_c1 ht rfl rfl ?_)
    refine zv_g3 (q := 0) ht rfl (zFin_new hF2) rfl rfl (zhas_of (Eq.trans (ztyp_new (S := sI S2 133 r (Int32.ofNat (at0 + 3))) (t := 11) (n := 0) (s := zslots 11) (show r ≠ gN S2 from by omega)) p2.1.2.2.2.1) rfl) (Eq.trans (gP_new (S := sI S2 133 r (Int32.ofNat (at0 + 3))) (t := 11) (n := 0) (s := zslots 11) (show r ≠ gN S2 from by omega)) p2.1.2.2.2.2) ?_
    refine zv_c1 ht rfl rfl (zv_c1 ht rfl rfl (zv_c1 ht rfl rfl (zv_c1 ht rfl rfl (zv_c1 ht rfl rfl ?_))))
    refine zv_cl ht rfl rfl rfl (zv_tgv (Eq.trans (ztyp_new (S := sI S2 133 r (Int32.ofNat (at0 + 3))) (t := 11) (n := 0) (s := zslots 11) (show w ≠ gN S2 from by omega)) (Eq.trans (zKE.T k2 (Or.inl (show w < gN S1 from by omega))) (Eq.trans (zKE.T (xFw.fr k1) (Or.inl (show w < gN S from by omega))) (zStr.t (zDs.wd hw).1)))) rfl) (by omega) (Nat.le_of_ble_eq_true rfl) (x_len (S := sNew (sI S2 133 r (Int32.ofNat (at0 + 3))) 11 0 (zslots 11)) (zFin_new hF2) (by omega) (xWd.k w1 (zKE.tr (zKE.tr (zKE.tr zKE.rf (zKE.w k2 (show gN S1 ≤ gN S1 from by omega) (fun _ h => h) (fun _ h => h))) (zKE_sI (Or.inl (by decide)))) (zKE_new (show gN S1 ≤ gN S2 ∧ gN S2 < zLB from ⟨by omega, by have hLB : zLB = 4294967296 := rfl; omega⟩)))).1 (n := 3) (by decide) ?_)
    show zEv d 261 473 [.ref r, .ref w, .int (Int32.ofNat deep), .int (Int32.ofNat at0), .ref w, .int 3] [.int 3, .int (Int32.ofNat at0), .ref r, .int 99, .int (Int32.ofNat at0), .ref 0, .ref (gN S2), .ref (gN S2), .ref r] (sNew (sI S2 133 r (Int32.ofNat (at0 + 3))) 11 0 (zslots 11)) post
    refine zv_c1 ht rfl rfl ?_
    refine zv_br ht rfl rfl rfl (fun h => absurd h (by decide)) (fun _ => ?_)
    refine zv_c1 ht rfl rfl (zv_c1 ht rfl rfl ?_)
    refine zv_cl ht rfl rfl rfl (zv_tgv (Eq.trans (ztyp_new (S := sI S2 133 r (Int32.ofNat (at0 + 3))) (t := 11) (n := 0) (s := zslots 11) (show r ≠ gN S2 from by omega)) p2.1.2.2.2.1) rfl) (by omega) (Nat.le_of_ble_eq_true rfl) (xEnd.use (g := gN S2 + 1) (z := gZ S2 + 19) rfl rfl (x_keyN (S := sNew (sI S2 133 r (Int32.ofNat (at0 + 3))) 11 0 (zslots 11)) (r := r) (rec := rec) (deep := deep) (p := at0) (k := 3) (zFin_new hF2) (by omega) (xR.ke (Fs := []) (xR_at p2 (by omega)) (zKE.tr zKE.rf (zKE_new (show gN (sI S2 133 r (Int32.ofNat (at0 + 3))) ≤ gN S2 ∧ gN S2 < zLB from ⟨by omega, by have hLB : zLB = 4294967296 := rfl; omega⟩))) (by omega) (by decide)) (by omega) (by omega) (by omega)) (fun S4 a4 y4 at4 nd4 hF4 e4 k4 t4 p4 g4 c4 => ?_) (fun S5 q5 kk5 z5 hF5 e5 k5 x5 g5 => ?_))
    · show zEv d 261 485 [.ref r, .ref w, .int (Int32.ofNat deep), .int (Int32.ofNat at0), .ref w, .int 3] [.ref a4, .int 99, .int (Int32.ofNat at0), .ref 0, .ref (gN S2), .ref (gN S2), .ref r] S4 post
      have C7 : ∀ (pst6 : Outcome × zS → Prop), (pst6 (.returned none, sP (sI (sI (sP S4 162 (gN S2) (some 0)) 144 (gN S2) (Int32.ofNat at0)) 160 (gN S2) 99) 161 (gN S2) (some a4))) → zCall (d - 1) 295 [.ref (gN S2), .ref 0, .int (Int32.ofNat at0), .int 99, .ref a4] S4 pst6 := by
        intro pst6 k13
        have ht8 : ztab 295 = ztb295 := rfl
        show zEv (d - 1) 295 0 [.ref (gN S2), .ref 0, .int (Int32.ofNat at0), .int 99, .ref a4] [] S4 pst6
        refine zv_c1 ht8 rfl rfl (zv_c1 ht8 rfl rfl ?_)
        refine zv_ci (S' := sP S4 162 (gN S2) (some 0)) ht8 rfl rfl ⟨(zhas_of (Eq.trans (zKE.T k4 (Or.inl (show gN S2 < gN S2 + 1 from by omega))) (ztyp_new_at (S := sI S2 133 r (Int32.ofNat (at0 + 3))) (t := 11) (n := 0) (s := zslots 11) (show 1639 ≤ gN S2 from by omega))) rfl), (show gN S2 < gN S4 from by omega)⟩ ?_
        refine zv_c1 ht8 rfl rfl (zv_c1 ht8 rfl rfl (zv_c1 ht8 rfl rfl ?_))
        have C10 : ∀ (pst9 : Outcome × zS → Prop), (pst9 (.returned none, sI (sP S4 162 (gN S2) (some 0)) 144 (gN S2) (Int32.ofNat at0))) → zCall ((d - 1) - 1) 280 [.ref (gN S2), .ref 0, .int (Int32.ofNat at0)] (sP S4 162 (gN S2) (some 0)) pst9 := by
          intro pst9 k12
          have ht11 : ztab 280 = ztb280 := rfl
          show zEv ((d - 1) - 1) 280 0 [.ref (gN S2), .ref 0, .int (Int32.ofNat at0)] [] (sP S4 162 (gN S2) (some 0)) pst9
          refine zv_c1 ht11 rfl rfl (zv_c1 ht11 rfl rfl ?_)
          refine zv_ci (S' := sP S4 162 (gN S2) (some 0)) ht11 rfl rfl (zk5 (Eq.trans (zKE.T k4 (Or.inl (show gN S2 < gN S2 + 1 from by omega))) (ztyp_new_at (S := sI S2 133 r (Int32.ofNat (at0 + 3))) (t := 11) (n := 0) (s := zslots 11) (show 1639 ≤ gN S2 from by omega))) rfl (show gN S2 < gN S4 from by omega) rfl gP_sP_at) ?_
          refine zv_c1 ht11 rfl rfl (zv_c1 ht11 rfl rfl (zv_c1 ht11 rfl rfl (zv_c1 ht11 rfl rfl ?_)))
          refine zv_ci (S' := sI (sP S4 162 (gN S2) (some 0)) 144 (gN S2) (Int32.ofNat at0)) ht11 rfl rfl ⟨(zhas_of (Eq.trans (zKE.T k4 (Or.inl (show gN S2 < gN S2 + 1 from by omega))) (ztyp_new_at (S := sI S2 133 r (Int32.ofNat (at0 + 3))) (t := 11) (n := 0) (s := zslots 11) (show 1639 ≤ gN S2 from by omega))) rfl), (show gN S2 < gN S4 from by omega)⟩ ?_
          exact zv_rt ht11 rfl rfl rfl rfl k12
        refine zv_cl ht8 rfl rfl rfl rfl (by omega) (Nat.le_of_ble_eq_true rfl) (C10 _ ?_)
        show zEv (d - 1) 295 11 [.ref (gN S2), .ref 0, .int (Int32.ofNat at0), .int 99, .ref a4] [] (sI (sP S4 162 (gN S2) (some 0)) 144 (gN S2) (Int32.ofNat at0)) pst6
        refine zv_c1 ht8 rfl rfl (zv_c1 ht8 rfl rfl ?_)
        refine zv_ci (S' := sI (sI (sP S4 162 (gN S2) (some 0)) 144 (gN S2) (Int32.ofNat at0)) 160 (gN S2) 99) ht8 rfl rfl ⟨⟨(zhas_of (Eq.trans (zKE.T k4 (Or.inl (show gN S2 < gN S2 + 1 from by omega))) (ztyp_new_at (S := sI S2 133 r (Int32.ofNat (at0 + 3))) (t := 11) (n := 0) (s := zslots 11) (show 1639 ≤ gN S2 from by omega))) rfl), (show gN S2 < gN S4 from by omega)⟩, (by decide)⟩ ?_
        refine zv_c1 ht8 rfl rfl (zv_c1 ht8 rfl rfl ?_)
        refine zv_ci (S' := sP (sI (sI (sP S4 162 (gN S2) (some 0)) 144 (gN S2) (Int32.ofNat at0)) 160 (gN S2) 99) 161 (gN S2) (some a4)) ht8 rfl rfl ⟨(zhas_of (Eq.trans (zKE.T k4 (Or.inl (show gN S2 < gN S2 + 1 from by omega))) (ztyp_new_at (S := sI S2 133 r (Int32.ofNat (at0 + 3))) (t := 11) (n := 0) (s := zslots 11) (show 1639 ≤ gN S2 from by omega))) rfl), (show gN S2 < gN S4 from by omega)⟩ ?_
        exact zv_rt ht8 rfl rfl rfl rfl k13
      refine zv_cl ht rfl rfl rfl rfl (by omega) (Nat.le_of_ble_eq_true rfl) (C7 _ ?_)
      show zEv d 261 488 [.ref r, .ref w, .int (Int32.ofNat deep), .int (Int32.ofNat at0), .ref w, .int 3] [.ref (gN S2), .ref r] (sP (sI (sI (sP S4 162 (gN S2) (some 0)) 144 (gN S2) (Int32.ofNat at0)) 160 (gN S2) 99) 161 (gN S2) (some a4)) post
      have C15 : ∀ (pst14 : Outcome × zS → Prop), (∀ S17 : zS, (zFin true S17) → (pJ (tN 21 0 [] at0 [y4]) = .ok (tN 21 0 [] at0 [y4])) → (xJd (sP (sI (sI (sP S4 162 (gN S2) (some 0)) 144 (gN S2) (Int32.ofNat at0)) 160 (gN S2) 99) 161 (gN S2) (some a4)) (gN S2) S17) → (xTl (gN S) S17 (tN 21 0 [] at0 [y4]) (gN S2)) → (xR tp sz S17 r at4 nd4) → (gN S17 = gN S4 ∧ gZ S17 = gZ S4) → pst14 (.returned (some (.ref (gN S2))), S17)) → (∀ S18 : zS, ∀ q18 : Nat, (zFin true S18) → (pJ (tN 21 0 [] at0 [y4]) = .error (3, at0)) → (xFn (sP (sI (sI (sP S4 162 (gN S2) (some 0)) 144 (gN S2) (Int32.ofNat at0)) 160 (gN S2) 99) 161 (gN S2) (some a4)) (gN S2) S18) → (xFl S18 q18 3 at0) → (gN S18 = gN S4 + 1 ∧ gZ S18 ≤ gZ S4 + 3) → pst14 (.threw q18, S18)) → zCall (d - 1) 253 [.ref r, .ref (gN S2)] (sP (sI (sI (sP S4 162 (gN S2) (some 0)) 144 (gN S2) (Int32.ofNat at0)) 160 (gN S2) 99) 161 (gN S2) (some a4)) pst14 := by
        intro pst14 k19 k20
        have ht16 : ztab 253 = ztb253 := rfl
        show zEv (d - 1) 253 0 [.ref r, .ref (gN S2)] [] (sP (sI (sI (sP S4 162 (gN S2) (some 0)) 144 (gN S2) (Int32.ofNat at0)) 160 (gN S2) 99) 161 (gN S2) (some a4)) pst14
        refine zv_c1 ht16 rfl rfl ?_
        refine zv_cl ht16 rfl rfl rfl (zv_tgm (Eq.trans (zKE.T k4 (Or.inl (show gN S2 < gN S2 + 1 from by omega))) (ztyp_new_at (S := sI S2 133 r (Int32.ofNat (at0 + 3))) (t := 11) (n := 0) (s := zslots 11) (show 1639 ≤ gN S2 from by omega))) rfl) (by omega) (Nat.le_of_ble_eq_true rfl) (x_judgeR (S := sP (sI (sI (sP S4 162 (gN S2) (some 0)) 144 (gN S2) (Int32.ofNat at0)) 160 (gN S2) 99) 161 (gN S2) (some a4)) (tp := tp) (sz := sz) (r := r) (a := gN S2) (k := 21) (v := 0) (p := at0) (ks := []) (js := [a4]) (cs := [y4]) (g := gN S4) (lo := gN S) (zFin_sP (zFin_sP hF4 rfl) rfl) (by omega) (by omega) (by omega) (by omega) (by omega) rfl (xOwn_W (by decide) (Eq.trans (zKE.T k4 (Or.inl (show gN S2 < gN S2 + 1 from by omega))) (ztyp_new_at (S := sI S2 133 r (Int32.ofNat (at0 + 3))) (t := 11) (n := 0) (s := zslots 11) (show 1639 ≤ gN S2 from by omega))) (gI_sI_at) (gP_sP_at)) ⟨a4, _, rfl, (xTl.ch t4 (zKE.tr (zKE.tr (zKE.tr (zKE.tr zKE.rf (zKE_sP (Or.inr (Or.inr ⟨by omega, by have hLB : zLB = 4294967296 := rfl; omega⟩)))) (zKE_sI (Or.inr (Or.inr ⟨by omega, by have hLB : zLB = 4294967296 := rfl; omega⟩)))) (zKE_sI (Or.inr (Or.inr ⟨by omega, by have hLB : zLB = 4294967296 := rfl; omega⟩)))) (zKE_sP (Or.inr (Or.inr ⟨by omega, by have hLB : zLB = 4294967296 := rfl; omega⟩)))) (by omega) (by intro j h1 h2; omega)), rfl⟩ (by decide) (by omega) (gI_sI_at) (Eq.trans (zKE.I k4 (Or.inl (show gN S2 < gN S2 + 1 from by omega)) (by simp) (by decide)) (gI_new_at (S := sI S2 133 r (Int32.ofNat (at0 + 3))) (t := 11) (n := 0) (s := zslots 11))) (Eq.trans (zKE.I k4 (Or.inl (show gN S2 < gN S2 + 1 from by omega)) (by simp) (by decide)) (gI_new_at (S := sI S2 133 r (Int32.ofNat (at0 + 3))) (t := 11) (n := 0) (s := zslots 11))) (xR.ke (Fs := []) p4 (zKE.tr (zKE.tr (zKE.tr (zKE.tr zKE.rf (zKE_sP (Or.inr (Or.inr ⟨by omega, by have hLB : zLB = 4294967296 := rfl; omega⟩)))) (zKE_sI (Or.inr (Or.inr ⟨by omega, by have hLB : zLB = 4294967296 := rfl; omega⟩)))) (zKE_sI (Or.inr (Or.inr ⟨by omega, by have hLB : zLB = 4294967296 := rfl; omega⟩)))) (zKE_sP (Or.inr (Or.inr ⟨by omega, by have hLB : zLB = 4294967296 := rfl; omega⟩)))) (by omega) (by decide)) (by omega) (fun S17 hF17 e17 j17 t17 p17 g17 => ?_) (fun S18 q18 hF18 e18 k18 x18 g18 => ?_))
        · show zEv (d - 1) 253 4 [.ref r, .ref (gN S2)] [] S17 pst14
          refine zv_c1 ht16 rfl rfl ?_
          exact zv_rt ht16 rfl rfl rfl rfl (k19 S17 hF17 e17 j17 t17 p17 g17)
        · exact (k20 S18 q18 hF18 e18 k18 x18 g18)
      refine zv_cl ht rfl rfl rfl (zv_tgv (p4.1.2.2.2.1) rfl) (by omega) (Nat.le_of_ble_eq_true rfl) (C15 _ (fun S17 hF17 e17 j17 t17 p17 g17 => ?_) (fun S18 q18 hF18 e18 k18 x18 g18 => ?_))
      · show zEv d 261 491 [.ref r, .ref w, .int (Int32.ofNat deep), .int (Int32.ofNat at0), .ref w, .int 3] [.ref (gN S2)] S17 post
        exact zv_rt ht rfl rfl rfl rfl (h1 S1 hF1 k1 w1 p1 g1 S2 nd2 hF2 e2 k2 p2 g2 b2 c2 d2 S4 a4 y4 at4 nd4 hF4 e4 k4 t4 p4 g4 c4 S17 hF17 e17 j17 t17 p17 g17)
      · exact (h2 S1 hF1 k1 w1 p1 g1 S2 nd2 hF2 e2 k2 p2 g2 b2 c2 d2 S4 a4 y4 at4 nd4 hF4 e4 k4 t4 p4 g4 c4 S18 q18 hF18 e18 k18 x18 g18)
    · exact (h3 S1 hF1 k1 w1 p1 g1 S2 nd2 hF2 e2 k2 p2 g2 b2 c2 d2 S5 q5 kk5 z5 hF5 e5 k5 x5 g5)
  · exact (h4 S1 hF1 k1 w1 p1 g1 S3 q3 hF3 e3 k3 x3 g3)

theorem plw22 {d : Nat} {S : zS} (hF : zFin true S) (hd : 7 ≤ d) {tp : Nat → Nat} {sz at0 nd r : Nat} {rec : Nat → Nat → Nat → pE (zNd × Nat × Nat)} {K : Nat} {w : Nat} (deep : Nat) (hR : xR tp sz S r at0 nd) (hs0 : sz ≤ 300) (ha0 : at0 ≤ sz) (hr1 : 1639 ≤ r) (hr2 : r < gN S) (hN : gN S + 30 * (sz - at0) ≤ 1700000) (hdp : deep < 1000) (hnd : nd ≤ 80) (hK : K + 3 ≤ d) (hK2 : 12 ≤ d) (hmono : pMono rec) (hRd : ∀ dp d', deep ≤ 24 → dp = deep + 1 → K ≤ d' → xRd tp sz d' dp rec) (hw : zDs S w (ztn 22)) (hwN : w < gN S) (hwl : at0 + 5 ≤ sz) {post : Outcome × zS → Prop} (h1 : ∀ S1 : zS, (zFin true S1) → (xFw S S1) → (xWd S1 w (ztn 22)) → (xR tp sz S1 r at0 nd) → (gN S1 = gN S ∧ gZ S1 = gZ S) → ∀ S2 : zS, ∀ nd2 : Nat, (zFin true S2) → (pRead at0 deep nd true = .ok nd2) → (xFr S1 S2) → (xR tp sz S2 r at0 nd2) → (gN S1 ≤ gN S2 ∧ gN S2 ≤ gN S1 + 0 ∧ gZ S2 ≤ gZ S1 + 0) → (at0 ≤ sz) → (nd2 ≤ 80) → (deep ≤ 24) → ∀ S4 : zS, ∀ a4 : Nat, ∀ y4 : zNd, ∀ at4 : Nat, ∀ nd4 : Nat, (zFin true S4) → (pW tp sz rec 102 at0 deep (at0 + 5) nd2 = .ok (y4, at4, nd4)) → (xFr (sI S2 133 r (Int32.ofNat (at0 + 5))) S4) → (xTl (gN S2) S4 y4 a4) → (xR tp sz S4 r at4 nd4) → (gN S2 ≤ gN S4 ∧ gN S4 + 30 * (sz - at4) ≤ gN S2 + 30 * (sz - (at0 + 5)) ∧ gZ S4 + 150 * (sz - at4) ≤ gZ S2 + 150 * (sz - (at0 + 5))) → (at4 ≤ sz ∧ gN S2 ≤ a4 ∧ a4 < gN S4) → post (.returned (some (.ref a4)), S4)) (h2 : ∀ S1 : zS, (zFin true S1) → (xFw S S1) → (xWd S1 w (ztn 22)) → (xR tp sz S1 r at0 nd) → (gN S1 = gN S ∧ gZ S1 = gZ S) → ∀ S2 : zS, ∀ nd2 : Nat, (zFin true S2) → (pRead at0 deep nd true = .ok nd2) → (xFr S1 S2) → (xR tp sz S2 r at0 nd2) → (gN S1 ≤ gN S2 ∧ gN S2 ≤ gN S1 + 0 ∧ gZ S2 ≤ gZ S1 + 0) → (at0 ≤ sz) → (nd2 ≤ 80) → (deep ≤ 24) → ∀ S5 : zS, ∀ q5 : Nat, ∀ kk5 : Nat, ∀ z5 : Nat, (zFin true S5) → (pW tp sz rec 102 at0 deep (at0 + 5) nd2 = .error (kk5, z5)) → (xFr (sI S2 133 r (Int32.ofNat (at0 + 5))) S5) → (xFl S5 q5 kk5 z5) → (gN S2 ≤ gN S5 ∧ gN S5 ≤ gN S2 + 30 * (sz - (at0 + 5)) + 60 ∧ gZ S5 ≤ gZ S2 + 150 * (sz - (at0 + 5)) + 2000) → post (.threw q5, S5)) (h3 : ∀ S1 : zS, (zFin true S1) → (xFw S S1) → (xWd S1 w (ztn 22)) → (xR tp sz S1 r at0 nd) → (gN S1 = gN S ∧ gZ S1 = gZ S) → ∀ S3 : zS, ∀ q3 : Nat, (zFin true S3) → (pRead at0 deep nd true = .error (2, at0)) → (xFr S1 S3) → (xFl S3 q3 2 at0) → (gN S1 ≤ gN S3 ∧ gN S3 ≤ gN S1 + 1 ∧ gZ S3 ≤ gZ S1 + 3) → post (.threw q3, S3)) : zCall d 261 [.ref r, .ref w, .int (Int32.ofNat deep)] S post := by
  have ht : ztab 261 = ztb261 := rfl
  show zEv d 261 0 [.ref r, .ref w, .int (Int32.ofNat deep), .retAddr 0, .retAddr 0, .retAddr 0] [] S post
  refine zv_c1 ht rfl rfl ?_
  refine zv_ei (x := Int32.ofNat at0) ht rfl rfl (zhas_of (hR.1.2.2.2.1) rfl) hR.1.1 ?_
  refine zv_c2 (L' := [.ref r, .ref w, .int (Int32.ofNat deep), .int (Int32.ofNat at0), .retAddr 0, .retAddr 0]) ht rfl rfl ?_
  refine zv_c1 ht rfl rfl ?_
  refine zv_c2 (L' := [.ref r, .ref w, .int (Int32.ofNat deep), .int (Int32.ofNat at0), .ref w, .retAddr 0]) ht rfl rfl ?_
  refine zv_c1 ht rfl rfl ?_
  refine zv_c2 (L' := [.ref r, .ref w, .int (Int32.ofNat deep), .int (Int32.ofNat at0), .ref w, .int (-1)]) ht rfl rfl ?_
  refine zv_c1 ht rfl rfl ?_
  refine zv_cl ht rfl rfl rfl (zv_tgv ((zStr.t (zDs.wd hw).1)) rfl) (by omega) (Nat.le_of_ble_eq_true rfl) (x_hash (S := S) (tp := tp) (sz := sz) (r := r) hF (by omega) hw hR (v := 92957702) (by decide) (fun S1 hF1 k1 w1 p1 g1 => ?_))
  show zEv d 261 16 [.ref r, .ref w, .int (Int32.ofNat deep), .int (Int32.ofNat at0), .ref w, .int (-1)] [.int 92957702] S1 post
  refine zv_sw ht rfl rfl rfl rfl rfl ?_
  refine And.intro (fun h => absurd h (by decide)) (fun _ => ?_)
  refine And.intro (fun h => absurd h (by decide)) (fun _ => ?_)
  refine And.intro (fun h => absurd h (by decide)) (fun _ => ?_)
  refine And.intro (fun h => absurd h (by decide)) (fun _ => ?_)
  refine And.intro (fun h => absurd h (by decide)) (fun _ => ?_)
  refine And.intro (fun h => absurd h (by decide)) (fun _ => ?_)
  refine And.intro (fun h => absurd h (by decide)) (fun _ => ?_)
  refine And.intro (fun h => absurd h (by decide)) (fun _ => ?_)
  refine And.intro (fun _ => ?_) (fun h => absurd (by decide) h)
  refine zv_c1 ht rfl rfl (zv_c1 ht rfl rfl ?_)
  refine zv_cl ht rfl rfl rfl (zv_tgv (Eq.trans (zKE.T (xFw.fr k1) (Or.inl (show w < gN S from by omega))) (zStr.t (zDs.wd hw).1)) rfl) (by omega) (Nat.le_of_ble_eq_true rfl) (x_eqW (S := S1) hF1 (by omega) w1.1 (xR.lit p1 22 (by decide)) (v := 1) (zbo_pos rfl) ?_)
  show zEv d 261 312 [.ref r, .ref w, .int (Int32.ofNat deep), .int (Int32.ofNat at0), .ref w, .int (-1)] [.int 1] S1 post
  refine zv_br ht rfl rfl rfl (fun h => absurd h (by decide)) (fun _ => ?_)
  refine zv_c1 ht rfl rfl ?_
  refine zv_c2 (L' := [.ref r, .ref w, .int (Int32.ofNat deep), .int (Int32.ofNat at0), .ref w, .int 11]) ht rfl rfl ?_
  refine zv_c1 ht rfl rfl ?_
  refine zv_sw ht rfl rfl rfl rfl rfl ?_
  refine And.intro (fun h => absurd h (by decide)) (fun _ => ?_)
  refine And.intro (fun h => absurd h (by decide)) (fun _ => ?_)
  refine And.intro (fun h => absurd h (by decide)) (fun _ => ?_)
  refine And.intro (fun h => absurd h (by decide)) (fun _ => ?_)
  refine And.intro (fun h => absurd h (by decide)) (fun _ => ?_)
  refine And.intro (fun h => absurd h (by decide)) (fun _ => ?_)
  refine And.intro (fun h => absurd h (by decide)) (fun _ => ?_)
  refine And.intro (fun h => absurd h (by decide)) (fun _ => ?_)
  refine And.intro (fun h => absurd h (by decide)) (fun _ => ?_)
  refine And.intro (fun h => absurd h (by decide)) (fun _ => ?_)
  refine And.intro (fun h => absurd h (by decide)) (fun _ => ?_)
  refine And.intro (fun _ => ?_) (fun h => absurd (by decide) h)
  refine zv_c1 ht rfl rfl (zv_c1 ht rfl rfl (zv_c1 ht rfl rfl (zv_c1 ht rfl rfl (zv_c1 ht rfl rfl ?_))))
  refine zv_e1 (x := Int32.ofNat (deep + 1)) ht rfl rfl (zi_addE (a := deep) (b := 1) rfl rfl) ?_
  refine zv_cl ht rfl rfl rfl (zv_tgv (p1.1.2.2.2.1) rfl) (by omega) (Nat.le_of_ble_eq_true rfl) (x_begins (S := S1) (tp := tp) (sz := sz) (r := r) (p := at0) (dp := deep) (m := 2) (dq := deep + 1) (two := true) hF1 (by omega) p1 (by omega) (by omega) (by omega) (by omega) rfl rfl (fun S2 nd2 hF2 e2 k2 p2 g2 b2 c2 d2 => ?_) (fun S3 q3 hF3 e3 k3 x3 g3 => ?_))
  · show zEv d 261 649 [.ref r, .ref w, .int (Int32.ofNat deep), .int (Int32.ofNat at0), .ref w, .int 11] [] S2 post
    refine zv_c1 ht rfl rfl (zv_c1 ht rfl rfl ?_)
    refine zv_ei (x := Int32.ofNat at0) ht rfl rfl (zhas_of (p2.1.2.2.2.1) rfl) p2.1.1 ?_
    refine zv_c1 ht rfl rfl ?_
    refine zv_e1 (x := Int32.ofNat (at0 + 5)) ht rfl rfl (zi_addE (a := at0) (b := 5) rfl rfl) ?_
    refine zv_ci (S' := sI S2 133 r (Int32.ofNat (at0 + 5))) ht rfl rfl ⟨(zhas_of (p2.1.2.2.2.1) rfl), (show r < gN S2 from by omega)⟩ ?_
    refine zv_c1 ht rfl rfl (zv_c1 ht rfl rfl (zv_c1 ht rfl rfl ?_))
    refine zv_cl ht rfl rfl rfl (zv_tgv (p2.1.2.2.2.1) rfl) (by omega) (Nat.le_of_ble_eq_true rfl) (xEnd.use (g := gN S2) (z := gZ S2) rfl rfl (x_andN (S := sI S2 133 r (Int32.ofNat (at0 + 5))) (r := r) (rec := rec) (deep := deep) (p := at0) hF2 (by omega) hmono (xR_at p2 (by omega)) (by omega) (by omega) (by omega) (by omega) (fun dp hdp1 => hRd dp _ (by omega) hdp1 (by omega))) (fun S4 a4 y4 at4 nd4 hF4 e4 k4 t4 p4 g4 c4 => ?_) (fun S5 q5 kk5 z5 hF5 e5 k5 x5 g5 => ?_))
    · show zEv d 261 665 [.ref r, .ref w, .int (Int32.ofNat deep), .int (Int32.ofNat at0), .ref w, .int 11] [.ref a4] S4 post
      exact zv_rt ht rfl rfl rfl rfl (h1 S1 hF1 k1 w1 p1 g1 S2 nd2 hF2 e2 k2 p2 g2 b2 c2 d2 S4 a4 y4 at4 nd4 hF4 e4 k4 t4 p4 g4 c4)
    · exact (h2 S1 hF1 k1 w1 p1 g1 S2 nd2 hF2 e2 k2 p2 g2 b2 c2 d2 S5 q5 kk5 z5 hF5 e5 k5 x5 g5)
  · exact (h3 S1 hF1 k1 w1 p1 g1 S3 q3 hF3 e3 k3 x3 g3)

theorem plN {d : Nat} {S : zS} (hF : zFin true S) (hd : 12 ≤ d) {tp : Nat → Nat} {sz at0 nd r : Nat} {w : Nat} {cs : List Nat} (deep : Nat) (hR : xR tp sz S r at0 nd) (hs0 : sz ≤ 300) (ha0 : at0 ≤ sz) (hr1 : 1639 ≤ r) (hr2 : r < gN S) (hN : gN S + 30 * (sz - at0) ≤ 1700000) (hK2 : 12 ≤ d) (hw : zDs S w cs) (hno : ∀ k, k ∈ [5, 6, 7, 10, 11, 12, 13, 14, 15, 16, 17, 18, 19, 20, 21, 22, 23, 24, 25, 26, 27, 28] → ¬ ztn k = cs) (hwN : w < gN S) {post : Outcome × zS → Prop} (h1 : ∀ S1 : zS, (zFin true S1) → (xFw S S1) → (xWd S1 w cs) → (xR tp sz S1 r at0 nd) → (gN S1 = gN S ∧ gZ S1 = gZ S) → ∀ S16 : zS, ∀ q16 : Nat, (zFin true S16) → (pFl at0 = .error (1, at0)) → (xFr S1 S16) → (xFl S16 q16 1 at0) → (gN S1 ≤ gN S16 ∧ gN S16 ≤ gN S1 + 1 ∧ gZ S16 ≤ gZ S1 + 3) → post (.threw q16, S16)) : zCall d 261 [.ref r, .ref w, .int (Int32.ofNat deep)] S post := by
  have ht : ztab 261 = ztb261 := rfl
  show zEv d 261 0 [.ref r, .ref w, .int (Int32.ofNat deep), .retAddr 0, .retAddr 0, .retAddr 0] [] S post
  refine zv_c1 ht rfl rfl ?_
  refine zv_ei (x := Int32.ofNat at0) ht rfl rfl (zhas_of (hR.1.2.2.2.1) rfl) hR.1.1 ?_
  refine zv_c2 (L' := [.ref r, .ref w, .int (Int32.ofNat deep), .int (Int32.ofNat at0), .retAddr 0, .retAddr 0]) ht rfl rfl ?_
  refine zv_c1 ht rfl rfl ?_
  refine zv_c2 (L' := [.ref r, .ref w, .int (Int32.ofNat deep), .int (Int32.ofNat at0), .ref w, .retAddr 0]) ht rfl rfl ?_
  refine zv_c1 ht rfl rfl ?_
  refine zv_c2 (L' := [.ref r, .ref w, .int (Int32.ofNat deep), .int (Int32.ofNat at0), .ref w, .int (-1)]) ht rfl rfl ?_
  refine zv_c1 ht rfl rfl ?_
  refine zv_cl ht rfl rfl rfl (zv_tgv ((zStr.t (zDs.wd hw).1)) rfl) (by omega) (Nat.le_of_ble_eq_true rfl) (x_hash (S := S) (tp := tp) (sz := sz) (r := r) hF (by omega) hw hR (v := hstr cs) rfl (fun S1 hF1 k1 w1 p1 g1 => ?_))
  show zEv d 261 16 [.ref r, .ref w, .int (Int32.ofNat deep), .int (Int32.ofNat at0), .ref w, .int (-1)] [.int (hstr cs)] S1 post
  refine zv_sw ht rfl rfl rfl rfl rfl ?_
  have J14 : zEv d 261 319 [.ref r, .ref w, .int (Int32.ofNat deep), .int (Int32.ofNat at0), .retAddr 0, .int (-1)] [] S1 post := by
    refine zv_c1 ht rfl rfl ?_
    refine zv_sw ht rfl rfl rfl rfl rfl ?_
    refine And.intro (fun h => absurd h (by decide)) (fun _ => ?_)
    refine And.intro (fun h => absurd h (by decide)) (fun _ => ?_)
    refine And.intro (fun h => absurd h (by decide)) (fun _ => ?_)
    refine And.intro (fun h => absurd h (by decide)) (fun _ => ?_)
    refine And.intro (fun h => absurd h (by decide)) (fun _ => ?_)
    refine And.intro (fun h => absurd h (by decide)) (fun _ => ?_)
    refine And.intro (fun h => absurd h (by decide)) (fun _ => ?_)
    refine And.intro (fun h => absurd h (by decide)) (fun _ => ?_)
    refine And.intro (fun h => absurd h (by decide)) (fun _ => ?_)
    refine And.intro (fun h => absurd h (by decide)) (fun _ => ?_)
    refine And.intro (fun h => absurd h (by decide)) (fun _ => ?_)
    refine And.intro (fun h => absurd h (by decide)) (fun _ => ?_)
    refine zv_c1 ht rfl rfl (zv_c1 ht rfl rfl (zv_c1 ht rfl rfl (zv_c1 ht rfl rfl ?_)))
    refine zv_cl ht rfl rfl rfl (zv_tgv (p1.1.2.2.2.1) rfl) (by omega) (Nat.le_of_ble_eq_true rfl) (x_otN (S := S1) (r := r) hF1 (by omega) p1 (by omega) w1 (by omega) hno (fun S16 q16 hF16 e16 k16 x16 g16 => ?_))
    · exact (h1 S1 hF1 k1 w1 p1 g1 S16 q16 hF16 e16 k16 x16 g16)
  refine And.intro (fun b2 => ?_) (fun b2 => ?_)
  · refine zv_c1 ht rfl rfl (zv_c1 ht rfl rfl ?_)
    refine zv_cl ht rfl rfl rfl (zv_tgv (Eq.trans (zKE.T (xFw.fr k1) (Or.inl (show w < gN S from by omega))) (zStr.t (zDs.wd hw).1)) rfl) (by omega) (Nat.le_of_ble_eq_true rfl) (x_eqW (S := S1) hF1 (by omega) w1.1 (xR.lit p1 10 (by decide)) (v := 0) (zbo_neg (hno 10 (by decide))) ?_)
    show zEv d 261 278 [.ref r, .ref w, .int (Int32.ofNat deep), .int (Int32.ofNat at0), .ref w, .int (-1)] [.int 0] S1 post
    refine zv_br ht rfl rfl rfl (fun _ => ?_) (fun h => absurd (by decide) h)
    exact zEv.wk (L := [.ref r, .ref w, .int (Int32.ofNat deep), .int (Int32.ofNat at0), .retAddr 0, .int (-1)]) (L' := [.ref r, .ref w, .int (Int32.ofNat deep), .int (Int32.ofNat at0), .ref w, .int (-1)]) (And.intro (Or.inl rfl) (And.intro (Or.inl rfl) (And.intro (Or.inl rfl) (And.intro (Or.inl rfl) (And.intro (Or.inr rfl) (And.intro (Or.inl rfl) trivial)))))) J14
  refine And.intro (fun b3 => ?_) (fun b3 => ?_)
  · refine zv_c1 ht rfl rfl (zv_c1 ht rfl rfl ?_)
    refine zv_cl ht rfl rfl rfl (zv_tgv (Eq.trans (zKE.T (xFw.fr k1) (Or.inl (show w < gN S from by omega))) (zStr.t (zDs.wd hw).1)) rfl) (by omega) (Nat.le_of_ble_eq_true rfl) (x_eqW (S := S1) hF1 (by omega) w1.1 (xR.lit p1 15 (by decide)) (v := 0) (zbo_neg (hno 15 (by decide))) ?_)
    show zEv d 261 131 [.ref r, .ref w, .int (Int32.ofNat deep), .int (Int32.ofNat at0), .ref w, .int (-1)] [.int 0] S1 post
    refine zv_br ht rfl rfl rfl (fun _ => ?_) (fun h => absurd (by decide) h)
    exact zEv.wk (L := [.ref r, .ref w, .int (Int32.ofNat deep), .int (Int32.ofNat at0), .retAddr 0, .int (-1)]) (L' := [.ref r, .ref w, .int (Int32.ofNat deep), .int (Int32.ofNat at0), .ref w, .int (-1)]) (And.intro (Or.inl rfl) (And.intro (Or.inl rfl) (And.intro (Or.inl rfl) (And.intro (Or.inl rfl) (And.intro (Or.inr rfl) (And.intro (Or.inl rfl) trivial)))))) J14
  refine And.intro (fun b4 => ?_) (fun b4 => ?_)
  · refine zv_c1 ht rfl rfl (zv_c1 ht rfl rfl ?_)
    refine zv_cl ht rfl rfl rfl (zv_tgv (Eq.trans (zKE.T (xFw.fr k1) (Or.inl (show w < gN S from by omega))) (zStr.t (zDs.wd hw).1)) rfl) (by omega) (Nat.le_of_ble_eq_true rfl) (x_eqW (S := S1) hF1 (by omega) w1.1 (xR.lit p1 16 (by decide)) (v := 0) (zbo_neg (hno 16 (by decide))) ?_)
    show zEv d 261 147 [.ref r, .ref w, .int (Int32.ofNat deep), .int (Int32.ofNat at0), .ref w, .int (-1)] [.int 0] S1 post
    refine zv_br ht rfl rfl rfl (fun _ => ?_) (fun h => absurd (by decide) h)
    exact zEv.wk (L := [.ref r, .ref w, .int (Int32.ofNat deep), .int (Int32.ofNat at0), .retAddr 0, .int (-1)]) (L' := [.ref r, .ref w, .int (Int32.ofNat deep), .int (Int32.ofNat at0), .ref w, .int (-1)]) (And.intro (Or.inl rfl) (And.intro (Or.inl rfl) (And.intro (Or.inl rfl) (And.intro (Or.inl rfl) (And.intro (Or.inr rfl) (And.intro (Or.inl rfl) trivial)))))) J14
  refine And.intro (fun b5 => ?_) (fun b5 => ?_)
  · refine zv_c1 ht rfl rfl (zv_c1 ht rfl rfl ?_)
    refine zv_cl ht rfl rfl rfl (zv_tgv (Eq.trans (zKE.T (xFw.fr k1) (Or.inl (show w < gN S from by omega))) (zStr.t (zDs.wd hw).1)) rfl) (by omega) (Nat.le_of_ble_eq_true rfl) (x_eqW (S := S1) hF1 (by omega) w1.1 (xR.lit p1 5 (by decide)) (v := 0) (zbo_neg (hno 5 (by decide))) ?_)
    show zEv d 261 163 [.ref r, .ref w, .int (Int32.ofNat deep), .int (Int32.ofNat at0), .ref w, .int (-1)] [.int 0] S1 post
    refine zv_br ht rfl rfl rfl (fun _ => ?_) (fun h => absurd (by decide) h)
    exact zEv.wk (L := [.ref r, .ref w, .int (Int32.ofNat deep), .int (Int32.ofNat at0), .retAddr 0, .int (-1)]) (L' := [.ref r, .ref w, .int (Int32.ofNat deep), .int (Int32.ofNat at0), .ref w, .int (-1)]) (And.intro (Or.inl rfl) (And.intro (Or.inl rfl) (And.intro (Or.inl rfl) (And.intro (Or.inl rfl) (And.intro (Or.inr rfl) (And.intro (Or.inl rfl) trivial)))))) J14
  refine And.intro (fun b6 => ?_) (fun b6 => ?_)
  · refine zv_c1 ht rfl rfl (zv_c1 ht rfl rfl ?_)
    refine zv_cl ht rfl rfl rfl (zv_tgv (Eq.trans (zKE.T (xFw.fr k1) (Or.inl (show w < gN S from by omega))) (zStr.t (zDs.wd hw).1)) rfl) (by omega) (Nat.le_of_ble_eq_true rfl) (x_eqW (S := S1) hF1 (by omega) w1.1 (xR.lit p1 17 (by decide)) (v := 0) (zbo_neg (hno 17 (by decide))) ?_)
    show zEv d 261 179 [.ref r, .ref w, .int (Int32.ofNat deep), .int (Int32.ofNat at0), .ref w, .int (-1)] [.int 0] S1 post
    refine zv_br ht rfl rfl rfl (fun _ => ?_) (fun h => absurd (by decide) h)
    exact zEv.wk (L := [.ref r, .ref w, .int (Int32.ofNat deep), .int (Int32.ofNat at0), .retAddr 0, .int (-1)]) (L' := [.ref r, .ref w, .int (Int32.ofNat deep), .int (Int32.ofNat at0), .ref w, .int (-1)]) (And.intro (Or.inl rfl) (And.intro (Or.inl rfl) (And.intro (Or.inl rfl) (And.intro (Or.inl rfl) (And.intro (Or.inr rfl) (And.intro (Or.inl rfl) trivial)))))) J14
  refine And.intro (fun b7 => ?_) (fun b7 => ?_)
  · refine zv_c1 ht rfl rfl (zv_c1 ht rfl rfl ?_)
    refine zv_cl ht rfl rfl rfl (zv_tgv (Eq.trans (zKE.T (xFw.fr k1) (Or.inl (show w < gN S from by omega))) (zStr.t (zDs.wd hw).1)) rfl) (by omega) (Nat.le_of_ble_eq_true rfl) (x_eqW (S := S1) hF1 (by omega) w1.1 (xR.lit p1 19 (by decide)) (v := 0) (zbo_neg (hno 19 (by decide))) ?_)
    show zEv d 261 211 [.ref r, .ref w, .int (Int32.ofNat deep), .int (Int32.ofNat at0), .ref w, .int (-1)] [.int 0] S1 post
    refine zv_br ht rfl rfl rfl (fun _ => ?_) (fun h => absurd (by decide) h)
    exact zEv.wk (L := [.ref r, .ref w, .int (Int32.ofNat deep), .int (Int32.ofNat at0), .retAddr 0, .int (-1)]) (L' := [.ref r, .ref w, .int (Int32.ofNat deep), .int (Int32.ofNat at0), .ref w, .int (-1)]) (And.intro (Or.inl rfl) (And.intro (Or.inl rfl) (And.intro (Or.inl rfl) (And.intro (Or.inl rfl) (And.intro (Or.inr rfl) (And.intro (Or.inl rfl) trivial)))))) J14
  refine And.intro (fun b8 => ?_) (fun b8 => ?_)
  · refine zv_c1 ht rfl rfl (zv_c1 ht rfl rfl ?_)
    refine zv_cl ht rfl rfl rfl (zv_tgv (Eq.trans (zKE.T (xFw.fr k1) (Or.inl (show w < gN S from by omega))) (zStr.t (zDs.wd hw).1)) rfl) (by omega) (Nat.le_of_ble_eq_true rfl) (x_eqW (S := S1) hF1 (by omega) w1.1 (xR.lit p1 18 (by decide)) (v := 0) (zbo_neg (hno 18 (by decide))) ?_)
    show zEv d 261 195 [.ref r, .ref w, .int (Int32.ofNat deep), .int (Int32.ofNat at0), .ref w, .int (-1)] [.int 0] S1 post
    refine zv_br ht rfl rfl rfl (fun _ => ?_) (fun h => absurd (by decide) h)
    exact zEv.wk (L := [.ref r, .ref w, .int (Int32.ofNat deep), .int (Int32.ofNat at0), .retAddr 0, .int (-1)]) (L' := [.ref r, .ref w, .int (Int32.ofNat deep), .int (Int32.ofNat at0), .ref w, .int (-1)]) (And.intro (Or.inl rfl) (And.intro (Or.inl rfl) (And.intro (Or.inl rfl) (And.intro (Or.inl rfl) (And.intro (Or.inr rfl) (And.intro (Or.inl rfl) trivial)))))) J14
  refine And.intro (fun b9 => ?_) (fun b9 => ?_)
  · refine zv_c1 ht rfl rfl (zv_c1 ht rfl rfl ?_)
    refine zv_cl ht rfl rfl rfl (zv_tgv (Eq.trans (zKE.T (xFw.fr k1) (Or.inl (show w < gN S from by omega))) (zStr.t (zDs.wd hw).1)) rfl) (by omega) (Nat.le_of_ble_eq_true rfl) (x_eqW (S := S1) hF1 (by omega) w1.1 (xR.lit p1 7 (by decide)) (v := 0) (zbo_neg (hno 7 (by decide))) ?_)
    show zEv d 261 244 [.ref r, .ref w, .int (Int32.ofNat deep), .int (Int32.ofNat at0), .ref w, .int (-1)] [.int 0] S1 post
    refine zv_br ht rfl rfl rfl (fun _ => ?_) (fun h => absurd (by decide) h)
    exact zEv.wk (L := [.ref r, .ref w, .int (Int32.ofNat deep), .int (Int32.ofNat at0), .retAddr 0, .int (-1)]) (L' := [.ref r, .ref w, .int (Int32.ofNat deep), .int (Int32.ofNat at0), .ref w, .int (-1)]) (And.intro (Or.inl rfl) (And.intro (Or.inl rfl) (And.intro (Or.inl rfl) (And.intro (Or.inl rfl) (And.intro (Or.inr rfl) (And.intro (Or.inl rfl) trivial)))))) J14
  refine And.intro (fun b10 => ?_) (fun b10 => ?_)
  · refine zv_c1 ht rfl rfl (zv_c1 ht rfl rfl ?_)
    refine zv_cl ht rfl rfl rfl (zv_tgv (Eq.trans (zKE.T (xFw.fr k1) (Or.inl (show w < gN S from by omega))) (zStr.t (zDs.wd hw).1)) rfl) (by omega) (Nat.le_of_ble_eq_true rfl) (x_eqW (S := S1) hF1 (by omega) w1.1 (xR.lit p1 22 (by decide)) (v := 0) (zbo_neg (hno 22 (by decide))) ?_)
    show zEv d 261 312 [.ref r, .ref w, .int (Int32.ofNat deep), .int (Int32.ofNat at0), .ref w, .int (-1)] [.int 0] S1 post
    refine zv_br ht rfl rfl rfl (fun _ => ?_) (fun h => absurd (by decide) h)
    exact zEv.wk (L := [.ref r, .ref w, .int (Int32.ofNat deep), .int (Int32.ofNat at0), .retAddr 0, .int (-1)]) (L' := [.ref r, .ref w, .int (Int32.ofNat deep), .int (Int32.ofNat at0), .ref w, .int (-1)]) (And.intro (Or.inl rfl) (And.intro (Or.inl rfl) (And.intro (Or.inl rfl) (And.intro (Or.inl rfl) (And.intro (Or.inr rfl) (And.intro (Or.inl rfl) trivial)))))) J14
  refine And.intro (fun b11 => ?_) (fun b11 => ?_)
  · refine zv_c1 ht rfl rfl (zv_c1 ht rfl rfl ?_)
    refine zv_cl ht rfl rfl rfl (zv_tgv (Eq.trans (zKE.T (xFw.fr k1) (Or.inl (show w < gN S from by omega))) (zStr.t (zDs.wd hw).1)) rfl) (by omega) (Nat.le_of_ble_eq_true rfl) (x_eqW (S := S1) hF1 (by omega) w1.1 (xR.lit p1 21 (by decide)) (v := 0) (zbo_neg (hno 21 (by decide))) ?_)
    show zEv d 261 295 [.ref r, .ref w, .int (Int32.ofNat deep), .int (Int32.ofNat at0), .ref w, .int (-1)] [.int 0] S1 post
    refine zv_br ht rfl rfl rfl (fun _ => ?_) (fun h => absurd (by decide) h)
    exact zEv.wk (L := [.ref r, .ref w, .int (Int32.ofNat deep), .int (Int32.ofNat at0), .retAddr 0, .int (-1)]) (L' := [.ref r, .ref w, .int (Int32.ofNat deep), .int (Int32.ofNat at0), .ref w, .int (-1)]) (And.intro (Or.inl rfl) (And.intro (Or.inl rfl) (And.intro (Or.inl rfl) (And.intro (Or.inl rfl) (And.intro (Or.inr rfl) (And.intro (Or.inl rfl) trivial)))))) J14
  refine And.intro (fun b12 => ?_) (fun b12 => ?_)
  · refine zv_c1 ht rfl rfl (zv_c1 ht rfl rfl ?_)
    refine zv_cl ht rfl rfl rfl (zv_tgv (Eq.trans (zKE.T (xFw.fr k1) (Or.inl (show w < gN S from by omega))) (zStr.t (zDs.wd hw).1)) rfl) (by omega) (Nat.le_of_ble_eq_true rfl) (x_eqW (S := S1) hF1 (by omega) w1.1 (xR.lit p1 20 (by decide)) (v := 0) (zbo_neg (hno 20 (by decide))) ?_)
    show zEv d 261 261 [.ref r, .ref w, .int (Int32.ofNat deep), .int (Int32.ofNat at0), .ref w, .int (-1)] [.int 0] S1 post
    refine zv_br ht rfl rfl rfl (fun _ => ?_) (fun h => absurd (by decide) h)
    exact zEv.wk (L := [.ref r, .ref w, .int (Int32.ofNat deep), .int (Int32.ofNat at0), .retAddr 0, .int (-1)]) (L' := [.ref r, .ref w, .int (Int32.ofNat deep), .int (Int32.ofNat at0), .ref w, .int (-1)]) (And.intro (Or.inl rfl) (And.intro (Or.inl rfl) (And.intro (Or.inl rfl) (And.intro (Or.inl rfl) (And.intro (Or.inr rfl) (And.intro (Or.inl rfl) trivial)))))) J14
  refine And.intro (fun b13 => ?_) (fun b13 => ?_)
  · refine zv_c1 ht rfl rfl (zv_c1 ht rfl rfl ?_)
    refine zv_cl ht rfl rfl rfl (zv_tgv (Eq.trans (zKE.T (xFw.fr k1) (Or.inl (show w < gN S from by omega))) (zStr.t (zDs.wd hw).1)) rfl) (by omega) (Nat.le_of_ble_eq_true rfl) (x_eqW (S := S1) hF1 (by omega) w1.1 (xR.lit p1 6 (by decide)) (v := 0) (zbo_neg (hno 6 (by decide))) ?_)
    show zEv d 261 227 [.ref r, .ref w, .int (Int32.ofNat deep), .int (Int32.ofNat at0), .ref w, .int (-1)] [.int 0] S1 post
    refine zv_br ht rfl rfl rfl (fun _ => ?_) (fun h => absurd (by decide) h)
    exact zEv.wk (L := [.ref r, .ref w, .int (Int32.ofNat deep), .int (Int32.ofNat at0), .retAddr 0, .int (-1)]) (L' := [.ref r, .ref w, .int (Int32.ofNat deep), .int (Int32.ofNat at0), .ref w, .int (-1)]) (And.intro (Or.inl rfl) (And.intro (Or.inl rfl) (And.intro (Or.inl rfl) (And.intro (Or.inl rfl) (And.intro (Or.inr rfl) (And.intro (Or.inl rfl) trivial)))))) J14
  exact zEv.wk (L := [.ref r, .ref w, .int (Int32.ofNat deep), .int (Int32.ofNat at0), .retAddr 0, .int (-1)]) (L' := [.ref r, .ref w, .int (Int32.ofNat deep), .int (Int32.ofNat at0), .ref w, .int (-1)]) (And.intro (Or.inl rfl) (And.intro (Or.inl rfl) (And.intro (Or.inl rfl) (And.intro (Or.inl rfl) (And.intro (Or.inr rfl) (And.intro (Or.inl rfl) trivial)))))) J14


