set_option maxRecDepth 100000
/-! ===== the house reads wrappers ===== -/
section X24
variable {d : Nat} {post : Outcome × zS → Prop} {tp : Nat → Nat} {sz : Nat}
theorem pWl_getD {b e k : Nat} (hk : b + k < e) : (pWl tp b e).getD k 0 = tp (b + k) := by
  unfold pWl
  simp [List.getD, List.getElem?_map, List.getElem?_range (show k < e - b by omega)]
/-- the first letter that is no wrapper -/
theorem x_findL {S : zS} (hF : zFin true S) (hd : 6 ≤ d) {r b nd w e0 : Nat} (hR : xR tp sz S r b nd) (hN2 : gN S < 1900000) (hw : xWd S w (pWl tp b e0)) (hes : e0 ≤ sz)
    (h1 : pBad (pWl tp b e0) b = .ok () → post (.returned none, S))
    (h2 : ∀ S' q p, zFin true S' → pBad (pWl tp b e0) b = .error (1, p) → xFr S S' → xFl S' q 1 p → gN S ≤ gN S' ∧ gN S' ≤ gN S + 1 ∧ gZ S' ≤ gZ S + 3 → post (.threw q, S')) : zCall d 267 [.ref r, .ref w] S post := by
  have h8 := hR.2.2.2.1
  have h9 := hR.2.2.2.2.1
  have hl := @pWl_len tp b e0
  refine fw0 hF w hR h8.1 h8.2 h9.1 h9.2 ?_
  have key : ∀ m k, k + m = e0 - b → pBad (pWl tp b e0) b = pBad (pWl tp (b + k) e0) (b + k) → zEv d 267 2 [.ref r, .ref w, .int (Int32.ofNat k)] [] S post := by
    intro m
    induction m with
    | zero =>
      intro k hk e
      refine fw2e (cs := pWl tp b e0) hF (by omega) w k (e0 - b) hR h8.1 h8.2 h9.1 h9.2 hw hw.2.1 hl (by omega) hN2 (by omega) (h1 ?_)
      rw [e, pWl_nil (by omega)]
      rfl
    | succ m ih =>
      intro k hk e
      have hc := hw.1
      have h128 : tp (b + k) < 128 := by
        obtain ⟨v, q1, q2, q3, q4, q5, q6, q7, q8⟩ := hc
        exact q7 _ (pWl_mem (by omega) (by omega))
      refine fw2 (cs := pWl tp b e0) hF (by omega) w k (e0 - b) (tp (b + k)) hR h8.1 h8.2 h9.1 h9.2 hw hw.2.1 hl (by omega) hN2 (by omega) (pWl_getD (by omega)) h128 (fun x hx h0 => ?_) (fun x hx h0 => ?_)
      · have hin : tp (b + k) ∈ ztn 29 := Classical.byContradiction fun hn => by
          have := hx.mpr hn
          exact absurd h0 (Int32.not_le.mpr this)
        obtain ⟨v, hv⟩ := pWr_in.mpr hin
        refine ih (k + 1) (by omega) (e.trans ?_)
        rw [pWl_cons (by omega)]
        show (match pWr (tp (b + k)) with | none => _ | some _ => _) = _
        rw [hv]
        rfl
      · have hin : ¬ tp (b + k) ∈ ztn 29 := hx.mp (Int32.not_le.mp h0)
        have hv : pWr (tp (b + k)) = none := by
          cases hq : pWr (tp (b + k)) with
          | none => rfl
          | some v => exact absurd (pWr_in.mp ⟨v, hq⟩) hin
        obtain ⟨g0, g1, g2, g3, g4⟩ := xF_new hF (by omega) hN2 1 1 (b + k) rfl rfl
        refine h2 _ _ (b + k) g0 (e.trans ?_) g1 g2 ⟨by omega, by omega, g4⟩
        rw [pWl_cons (by omega)]
        show (match pWr (tp (b + k)) with | none => _ | some _ => _) = _
        rw [hv]
  exact key (e0 - b) 0 (by omega) rfl
theorem x_findOk {S : zS} (hF : zFin true S) (hd : 6 ≤ d) {r b nd w e0 : Nat} (hR : xR tp sz S r b nd) (hN2 : gN S < 1900000) (hw : xWd S w (pWl tp b e0)) (hes : e0 ≤ sz) (hb : pBad (pWl tp b e0) b = .ok ()) (h1 : post (.returned none, S)) : zCall d 267 [.ref r, .ref w] S post :=
  x_findL hF hd hR hN2 hw hes (fun _ => h1) (fun S' q p _ e _ _ _ => by rw [hb] at e; cases e)
theorem x_findEr {S : zS} (hF : zFin true S) (hd : 6 ≤ d) {r b nd w e0 pb : Nat} (hR : xR tp sz S r b nd) (hN2 : gN S < 1900000) (hw : xWd S w (pWl tp b e0)) (hes : e0 ≤ sz) (hb : pBad (pWl tp b e0) b = .error (1, pb))
    (h2 : ∀ S' q, zFin true S' → xFr S S' → xFl S' q 1 pb → gN S ≤ gN S' ∧ gN S' ≤ gN S + 1 ∧ gZ S' ≤ gZ S + 3 → post (.threw q, S')) : zCall d 267 [.ref r, .ref w] S post :=
  x_findL hF hd hR hN2 hw hes (fun e => by rw [hb] at e; cases e) (fun S' q p f e k x g => by
    rw [hb] at e
    have e1 : pb = p := by injection e with e; injection e
    subst e1
    exact h2 S' q f k x g)
end X24
/-- wrappers from a letter on, and what stands behind the colon -/
noncomputable def pWx (tp : Nat → Nat) (sz : Nat) (rec : Nat → Nat → Nat → pE (zNd × Nat × Nat)) : Nat → Nat → Nat → Nat → Nat → pE (zNd × Nat × Nat)
  | 0, _, deep, e, nd => if pWE tp sz (e + 1) = e + 1 then .error (1, e + 1) else pNamed tp sz rec deep (e + 1) nd
  | n + 1, k, deep, e, nd => do
    let rd1 ← pRead k deep nd (decide (100 < (pWr (tp k)).getD 0))
    let q ← pWx tp sz rec n (k + 1) (deep + 1) e rd1
    let x ← pWrap ((pWr (tp k)).getD 0) q.1 k
    .ok (x, q.2.1, q.2.2)
/-- reading wrappers answers so -/
def xWr (tp : Nat → Nat) (sz d w b e0 : Nat) (rec : Nat → Nat → Nat → pE (zNd × Nat × Nat)) (n k deep : Nat) : Prop := ∀ {S : zS} {r nd : Nat} {post : Outcome × zS → Prop}, zFin true S → xR tp sz S r (b + k) nd → xWd S w (pWl tp b e0) → nd ≤ 80 → gN S + 30 * (sz - (b + k)) ≤ 1700000 → (∀ o S', xEc tp sz r S (gN S + 30 * (sz - e0) + 2 * (e0 - (b + k))) (gZ S + 150 * (sz - e0) + 60 * (e0 - (b + k))) (pWx tp sz rec n (b + k) deep e0 nd) o S' → post (o, S')) → zCall d 260 [.ref r, .ref w, .int (Int32.ofNat k), .int (Int32.ofNat deep)] S post
theorem wrZ97 {d : Nat} {S : zS} (hF : zFin true S) (hd : 8 ≤ d) {tp : Nat → Nat} {sz at0 nd r : Nat} {rec : Nat → Nat → Nat → pE (zNd × Nat × Nat)} {K n : Nat} {w : Nat} (b e0 wl deep : Nat) (hR : xR tp sz S r b nd) (hs0 : sz ≤ 300) (ha0 : b ≤ sz) (hr1 : 1639 ≤ r) (hr2 : r < gN S) (hN : gN S + 30 * (sz - b) ≤ 1700000) (hdp : deep < 1000) (hnd : nd ≤ 80) (hw : xWd S w (pWl tp b e0)) (hwN : w < gN S) (hwl : (pWl tp b e0).length = wl) (hel : e0 = b + wl) (hes : e0 < sz) (hk : 0 < wl) (hcc : (pWl tp b e0).getD 0 0 = 97) (hbad : pBad (pWl tp b e0) b = .ok ()) (hIH : deep ≤ 24 → xWr tp sz (d - 1) w b e0 rec n 1 (deep + 1)) {post : Outcome × zS → Prop} (h1 : ∀ S2 : zS, ∀ nd2 : Nat, (zFin true S2) → (pRead b deep nd false = .ok nd2) → (xFr S S2) → (xR tp sz S2 r b nd2) → (gN S ≤ gN S2 ∧ gN S2 ≤ gN S + 0 ∧ gZ S2 ≤ gZ S + 0) → (b ≤ sz) → (nd2 ≤ 80) → (deep ≤ 24) → ∀ S4 : zS, ∀ a4 : Nat, ∀ y4 : zNd, ∀ at4 : Nat, ∀ nd4 : Nat, (zFin true S4) → (pWx tp sz rec n (b + 1) (deep + 1) e0 nd2 = .ok (y4, at4, nd4)) → (xFr (sI S2 133 r (Int32.ofNat (b + 1))) S4) → (xTl (gN S2) S4 y4 a4) → (xR tp sz S4 r at4 nd4) → (gN S2 ≤ gN S4 ∧ gN S4 + 30 * (sz - at4) ≤ gN S2 + 30 * (sz - e0) + 2 * (e0 - (b + 1)) ∧ gZ S4 + 150 * (sz - at4) ≤ gZ S2 + 150 * (sz - e0) + 60 * (e0 - (b + 1))) → (at4 ≤ sz ∧ gN S2 ≤ a4 ∧ a4 < gN S4) → ∀ S17 : zS, (zFin true S17) → (pJ (tN 19 0 [] b [y4]) = .ok (tN 19 0 [] b [y4])) → (xJd (sP (sI (sI (sP (sNew S4 11 0 (zslots 11)) 162 (gN S4) (some 0)) 144 (gN S4) (Int32.ofNat b)) 160 (gN S4) 97) 161 (gN S4) (some a4)) (gN S4) S17) → (xTl (gN S) S17 (tN 19 0 [] b [y4]) (gN S4)) → (xR tp sz S17 r at4 nd4) → (gN S17 = gN S4 + 1 ∧ gZ S17 = gZ S4 + 19) → post (.returned (some (.ref (gN S4))), S17)) (h2 : ∀ S2 : zS, ∀ nd2 : Nat, (zFin true S2) → (pRead b deep nd false = .ok nd2) → (xFr S S2) → (xR tp sz S2 r b nd2) → (gN S ≤ gN S2 ∧ gN S2 ≤ gN S + 0 ∧ gZ S2 ≤ gZ S + 0) → (b ≤ sz) → (nd2 ≤ 80) → (deep ≤ 24) → ∀ S4 : zS, ∀ a4 : Nat, ∀ y4 : zNd, ∀ at4 : Nat, ∀ nd4 : Nat, (zFin true S4) → (pWx tp sz rec n (b + 1) (deep + 1) e0 nd2 = .ok (y4, at4, nd4)) → (xFr (sI S2 133 r (Int32.ofNat (b + 1))) S4) → (xTl (gN S2) S4 y4 a4) → (xR tp sz S4 r at4 nd4) → (gN S2 ≤ gN S4 ∧ gN S4 + 30 * (sz - at4) ≤ gN S2 + 30 * (sz - e0) + 2 * (e0 - (b + 1)) ∧ gZ S4 + 150 * (sz - at4) ≤ gZ S2 + 150 * (sz - e0) + 60 * (e0 - (b + 1))) → (at4 ≤ sz ∧ gN S2 ≤ a4 ∧ a4 < gN S4) → ∀ S18 : zS, ∀ q18 : Nat, (zFin true S18) → (pJ (tN 19 0 [] b [y4]) = .error (3, b)) → (xFn (sP (sI (sI (sP (sNew S4 11 0 (zslots 11)) 162 (gN S4) (some 0)) 144 (gN S4) (Int32.ofNat b)) 160 (gN S4) 97) 161 (gN S4) (some a4)) (gN S4) S18) → (xFl S18 q18 3 b) → (gN S18 = gN S4 + 1 + 1 ∧ gZ S18 ≤ gZ S4 + 19 + 3) → post (.threw q18, S18)) (h3 : ∀ S2 : zS, ∀ nd2 : Nat, (zFin true S2) → (pRead b deep nd false = .ok nd2) → (xFr S S2) → (xR tp sz S2 r b nd2) → (gN S ≤ gN S2 ∧ gN S2 ≤ gN S + 0 ∧ gZ S2 ≤ gZ S + 0) → (b ≤ sz) → (nd2 ≤ 80) → (deep ≤ 24) → ∀ S5 : zS, ∀ q5 : Nat, ∀ kk5 : Nat, ∀ z5 : Nat, (zFin true S5) → (pWx tp sz rec n (b + 1) (deep + 1) e0 nd2 = .error (kk5, z5)) → (xFr (sI S2 133 r (Int32.ofNat (b + 1))) S5) → (xFl S5 q5 kk5 z5) → (gN S2 ≤ gN S5 ∧ gN S5 ≤ gN S2 + 30 * (sz - e0) + 2 * (e0 - (b + 1)) + 60 ∧ gZ S5 ≤ gZ S2 + 150 * (sz - e0) + 60 * (e0 - (b + 1)) + 2000) → post (.threw q5, S5)) (h4 : ∀ S3 : zS, ∀ q3 : Nat, (zFin true S3) → (pRead b deep nd false = .error (2, b)) → (xFr S S3) → (xFl S3 q3 2 b) → (gN S ≤ gN S3 ∧ gN S3 ≤ gN S + 1 ∧ gZ S3 ≤ gZ S + 3) → post (.threw q3, S3)) : zCall d 260 [.ref r, .ref w, .int 0, .int (Int32.ofNat deep)] S post := by
  have ht : ztab 260 = ztb260 := rfl
  show zEv d 260 0 [.ref r, .ref w, .int 0, .int (Int32.ofNat deep), .retAddr 0, .retAddr 0, .retAddr 0, .retAddr 0, .retAddr 0] [] S post
  refine zv_c1 ht rfl rfl ?_
  refine zv_ei (x := Int32.ofNat b) ht rfl rfl (zhas_of (hR.1.2.2.2.1) rfl) hR.1.1 ?_
  refine zv_c2 (L' := [.ref r, .ref w, .int 0, .int (Int32.ofNat deep), .int (Int32.ofNat b), .retAddr 0, .retAddr 0, .retAddr 0, .retAddr 0]) ht rfl rfl ?_
  refine zv_c1 ht rfl rfl (zv_c1 ht rfl rfl ?_)
  refine zv_cl ht rfl rfl rfl (zv_tgv ((zStr.t hw.1)) rfl) (by omega) (Nat.le_of_ble_eq_true rfl) (x_len (S := S) hF (by omega) hw.1 (n := wl) hwl ?_)
  show zEv d 260 11 [.ref r, .ref w, .int 0, .int (Int32.ofNat deep), .int (Int32.ofNat b), .retAddr 0, .retAddr 0, .retAddr 0, .retAddr 0] [.int (Int32.ofNat wl), .int 0] S post
  refine zv_br ht rfl rfl rfl (fun b1 => ?_) (fun b1 => (show False from by have hq := b1; have hz : 0 = wl := (zi_eqE (a := 0) (b := wl) rfl rfl (by omega) (by omega)).mp (Classical.not_not.mp hq); omega).elim)
  refine zv_c1 ht rfl rfl (zv_c1 ht rfl rfl ?_)
  refine zv_cl ht rfl rfl rfl (zv_tgv ((zStr.t hw.1)) rfl) (by omega) (Nat.le_of_ble_eq_true rfl) (x_char (S := S) hF (by omega) hw.1 (i := 0) (by omega) (c := 97) hcc ?_)
  show zEv d 260 39 [.ref r, .ref w, .int 0, .int (Int32.ofNat deep), .int (Int32.ofNat b), .retAddr 0, .retAddr 0, .retAddr 0, .retAddr 0] [.int 97] S post
  refine zv_c2 (L' := [.ref r, .ref w, .int 0, .int (Int32.ofNat deep), .int (Int32.ofNat b), .int 97, .retAddr 0, .retAddr 0, .retAddr 0]) ht rfl rfl ?_
  refine zv_c1 ht rfl rfl (zv_c1 ht rfl rfl ?_)
  refine zv_br ht rfl rfl rfl (fun h => absurd h (by decide)) (fun _ => ?_)
  refine zv_c1 ht rfl rfl (zv_c1 ht rfl rfl ?_)
  refine zv_br ht rfl rfl rfl (fun h => absurd h (by decide)) (fun _ => ?_)
  refine zv_c1 ht rfl rfl (zv_c1 ht rfl rfl ?_)
  refine zv_br ht rfl rfl rfl (fun _ => ?_) (fun h => absurd (by decide) h)
  refine zv_c1 ht rfl rfl ?_
  refine zv_c2 (L' := [.ref r, .ref w, .int 0, .int (Int32.ofNat deep), .int (Int32.ofNat b), .int 97, .int 0, .retAddr 0, .retAddr 0]) ht rfl rfl ?_
  refine zv_c1 ht rfl rfl ?_
  refine zv_br ht rfl rfl rfl (fun h => absurd h (by decide)) (fun _ => ?_)
  refine zv_c1 ht rfl rfl (zv_c1 ht rfl rfl ?_)
  refine zv_cl ht rfl rfl rfl (zv_tgv (hR.1.2.2.2.1) rfl) (by omega) (Nat.le_of_ble_eq_true rfl) (x_findOk (S := S) (r := r) hF (by omega) hR (by omega) hw (by omega) hbad ?_)
  show zEv d 260 78 [.ref r, .ref w, .int 0, .int (Int32.ofNat deep), .int (Int32.ofNat b), .int 97, .int 0, .retAddr 0, .retAddr 0] [] S post
  refine zv_c1 ht rfl rfl (zv_c1 ht rfl rfl (zv_c1 ht rfl rfl ?_))
  refine zv_br ht rfl rfl rfl (fun _ => ?_) (fun h => absurd (by decide) h)
  refine zv_c1 ht rfl rfl (zv_c1 ht rfl rfl ?_)
  refine zv_br ht rfl rfl rfl (fun _ => ?_) (fun h => absurd (by decide) h)
  refine zv_c1 ht rfl rfl ?_
  refine zv_cl ht rfl rfl rfl (zv_tgv (hR.1.2.2.2.1) rfl) (by omega) (Nat.le_of_ble_eq_true rfl) (x_begins (S := S) (tp := tp) (sz := sz) (r := r) (p := b) (dp := deep) (m := 1) (dq := deep) (two := false) hF (by omega) hR (by omega) (by omega) (by omega) (by omega) rfl rfl (fun S2 nd2 hF2 e2 k2 p2 g2 b2 c2 d2 => ?_) (fun S3 q3 hF3 e3 k3 x3 g3 => ?_))
  · show zEv d 260 106 [.ref r, .ref w, .int 0, .int (Int32.ofNat deep), .int (Int32.ofNat b), .int 97, .int 0, .retAddr 0, .retAddr 0] [] S2 post
    refine zv_c1 ht rfl rfl (zv_c1 ht rfl rfl ?_)
    refine zv_ei (x := Int32.ofNat b) ht rfl rfl (zhas_of (p2.1.2.2.2.1) rfl) p2.1.1 ?_
    refine zv_c1 ht rfl rfl ?_
    refine zv_e1 (x := Int32.ofNat (b + 1)) ht rfl rfl (zi_addE (a := b) (b := 1) rfl rfl) ?_
    refine zv_ci (S' := sI S2 133 r (Int32.ofNat (b + 1))) ht rfl rfl ⟨(zhas_of (p2.1.2.2.2.1) rfl), (show r < gN S2 from by omega)⟩ ?_
    refine zv_c1 ht rfl rfl (zv_c1 ht rfl rfl (zv_c1 ht rfl rfl (zv_c1 ht rfl rfl ?_)))
    refine zv_c1 (st' := [.int 1, .ref w, .ref r]) (S' := sI S2 133 r (Int32.ofNat (b + 1))) ht rfl rfl ?_
    refine zv_c1 ht rfl rfl (zv_c1 ht rfl rfl ?_)
    refine zv_e1 (x := Int32.ofNat (deep + 1)) ht rfl rfl (zi_addE (a := deep) (b := 1) rfl rfl) ?_
    refine zv_cl ht rfl rfl rfl (zv_tgv (p2.1.2.2.2.1) rfl) (by omega) (Nat.le_of_ble_eq_true rfl) (xEc.use (g := gN S2) (cN := gN S2 + 30 * (sz - e0) + 2 * (e0 - (b + 1))) (cZ := gZ S2 + 150 * (sz - e0) + 60 * (e0 - (b + 1))) rfl ((hIH (by omega)) (S := sI S2 133 r (Int32.ofNat (b + 1))) (r := r) hF2 (xR_at p2 (by omega)) (xWd.k hw (zKE.tr (zKE.tr zKE.rf (zKE.w k2 (show gN S ≤ gN S from by omega) (fun _ h => h) (fun _ h => h))) (zKE_sI (Or.inl (by decide))))) (by omega) (by omega)) (fun S4 a4 y4 at4 nd4 hF4 e4 k4 t4 p4 g4 c4 => ?_) (fun S5 q5 kk5 z5 hF5 e5 k5 x5 g5 => ?_))
    · show zEv d 260 127 [.ref r, .ref w, .int 0, .int (Int32.ofNat deep), .int (Int32.ofNat b), .int 97, .int 0, .retAddr 0, .retAddr 0] [.ref a4] S4 post
      refine zv_c2 (L' := [.ref r, .ref w, .int 0, .int (Int32.ofNat deep), .int (Int32.ofNat b), .int 97, .int 0, .ref a4, .retAddr 0]) ht rfl rfl ?_
      refine zv_c1 ht rfl rfl ?_
      refine zv_br ht rfl rfl rfl (fun h => absurd h (by decide)) (fun _ => ?_)
      refine zv_c1 ht rfl rfl ?_
      refine zv_ci (st' := [.ref (gN S4), .ref r]) (S' := sNew S4 11 0 (zslots 11)) ht rfl rfl (znew_ok (show 1639 ≤ gN S4 from by omega) (show gN S4 < 2000000 from by omega)) ?_
      refine zv_c1 ht rfl rfl (zv_c1 ht rfl rfl ?_)
      refine zv_g3 (q := 0) ht rfl (zFin_new hF4) rfl rfl (zhas_of (Eq.trans (ztyp_new (S := S4) (t := 11) (n := 0) (s := zslots 11) (show r ≠ gN S4 from by omega)) p4.1.2.2.2.1) rfl) (Eq.trans (gP_new (S := S4) (t := 11) (n := 0) (s := zslots 11) (show r ≠ gN S4 from by omega)) p4.1.2.2.2.2) ?_
      refine zv_c1 ht rfl rfl (zv_c1 ht rfl rfl (zv_c1 ht rfl rfl ?_))
      have C7 : ∀ (pst6 : Outcome × zS → Prop), (pst6 (.returned none, sP (sI (sI (sP (sNew S4 11 0 (zslots 11)) 162 (gN S4) (some 0)) 144 (gN S4) (Int32.ofNat b)) 160 (gN S4) 97) 161 (gN S4) (some a4))) → zCall (d - 1) 295 [.ref (gN S4), .ref 0, .int (Int32.ofNat b), .int 97, .ref a4] (sNew S4 11 0 (zslots 11)) pst6 := by
        intro pst6 k13
        have ht8 : ztab 295 = ztb295 := rfl
        show zEv (d - 1) 295 0 [.ref (gN S4), .ref 0, .int (Int32.ofNat b), .int 97, .ref a4] [] (sNew S4 11 0 (zslots 11)) pst6
        refine zv_c1 ht8 rfl rfl (zv_c1 ht8 rfl rfl ?_)
        refine zv_ci (S' := sP (sNew S4 11 0 (zslots 11)) 162 (gN S4) (some 0)) ht8 rfl rfl ⟨(zhas_of (ztyp_new_at (S := S4) (t := 11) (n := 0) (s := zslots 11) (show 1639 ≤ gN S4 from by omega)) rfl), (show gN S4 < gN S4 + 1 from by omega)⟩ ?_
        refine zv_c1 ht8 rfl rfl (zv_c1 ht8 rfl rfl (zv_c1 ht8 rfl rfl ?_))
        have C10 : ∀ (pst9 : Outcome × zS → Prop), (pst9 (.returned none, sI (sP (sNew S4 11 0 (zslots 11)) 162 (gN S4) (some 0)) 144 (gN S4) (Int32.ofNat b))) → zCall ((d - 1) - 1) 280 [.ref (gN S4), .ref 0, .int (Int32.ofNat b)] (sP (sNew S4 11 0 (zslots 11)) 162 (gN S4) (some 0)) pst9 := by
          intro pst9 k12
          have ht11 : ztab 280 = ztb280 := rfl
          show zEv ((d - 1) - 1) 280 0 [.ref (gN S4), .ref 0, .int (Int32.ofNat b)] [] (sP (sNew S4 11 0 (zslots 11)) 162 (gN S4) (some 0)) pst9
          refine zv_c1 ht11 rfl rfl (zv_c1 ht11 rfl rfl ?_)
          refine zv_ci (S' := sP (sNew S4 11 0 (zslots 11)) 162 (gN S4) (some 0)) ht11 rfl rfl (zk5 (ztyp_new_at (S := S4) (t := 11) (n := 0) (s := zslots 11) (show 1639 ≤ gN S4 from by omega)) rfl (show gN S4 < gN S4 + 1 from by omega) rfl gP_sP_at) ?_
          refine zv_c1 ht11 rfl rfl (zv_c1 ht11 rfl rfl (zv_c1 ht11 rfl rfl (zv_c1 ht11 rfl rfl ?_)))
          refine zv_ci (S' := sI (sP (sNew S4 11 0 (zslots 11)) 162 (gN S4) (some 0)) 144 (gN S4) (Int32.ofNat b)) ht11 rfl rfl ⟨(zhas_of (ztyp_new_at (S := S4) (t := 11) (n := 0) (s := zslots 11) (show 1639 ≤ gN S4 from by omega)) rfl), (show gN S4 < gN S4 + 1 from by omega)⟩ ?_
          exact zv_rt ht11 rfl rfl rfl rfl k12
        refine zv_cl ht8 rfl rfl rfl rfl (by omega) (Nat.le_of_ble_eq_true rfl) (C10 _ ?_)
        show zEv (d - 1) 295 11 [.ref (gN S4), .ref 0, .int (Int32.ofNat b), .int 97, .ref a4] [] (sI (sP (sNew S4 11 0 (zslots 11)) 162 (gN S4) (some 0)) 144 (gN S4) (Int32.ofNat b)) pst6
        refine zv_c1 ht8 rfl rfl (zv_c1 ht8 rfl rfl ?_)
        refine zv_ci (S' := sI (sI (sP (sNew S4 11 0 (zslots 11)) 162 (gN S4) (some 0)) 144 (gN S4) (Int32.ofNat b)) 160 (gN S4) 97) ht8 rfl rfl ⟨⟨(zhas_of (ztyp_new_at (S := S4) (t := 11) (n := 0) (s := zslots 11) (show 1639 ≤ gN S4 from by omega)) rfl), (show gN S4 < gN S4 + 1 from by omega)⟩, (by decide)⟩ ?_
        refine zv_c1 ht8 rfl rfl (zv_c1 ht8 rfl rfl ?_)
        refine zv_ci (S' := sP (sI (sI (sP (sNew S4 11 0 (zslots 11)) 162 (gN S4) (some 0)) 144 (gN S4) (Int32.ofNat b)) 160 (gN S4) 97) 161 (gN S4) (some a4)) ht8 rfl rfl ⟨(zhas_of (ztyp_new_at (S := S4) (t := 11) (n := 0) (s := zslots 11) (show 1639 ≤ gN S4 from by omega)) rfl), (show gN S4 < gN S4 + 1 from by omega)⟩ ?_
        exact zv_rt ht8 rfl rfl rfl rfl k13
      refine zv_cl ht rfl rfl rfl rfl (by omega) (Nat.le_of_ble_eq_true rfl) (C7 _ ?_)
      show zEv d 260 152 [.ref r, .ref w, .int 0, .int (Int32.ofNat deep), .int (Int32.ofNat b), .int 97, .int 0, .ref a4, .retAddr 0] [.ref (gN S4), .ref r] (sP (sI (sI (sP (sNew S4 11 0 (zslots 11)) 162 (gN S4) (some 0)) 144 (gN S4) (Int32.ofNat b)) 160 (gN S4) 97) 161 (gN S4) (some a4)) post
      have C15 : ∀ (pst14 : Outcome × zS → Prop), (∀ S17 : zS, (zFin true S17) → (pJ (tN 19 0 [] b [y4]) = .ok (tN 19 0 [] b [y4])) → (xJd (sP (sI (sI (sP (sNew S4 11 0 (zslots 11)) 162 (gN S4) (some 0)) 144 (gN S4) (Int32.ofNat b)) 160 (gN S4) 97) 161 (gN S4) (some a4)) (gN S4) S17) → (xTl (gN S) S17 (tN 19 0 [] b [y4]) (gN S4)) → (xR tp sz S17 r at4 nd4) → (gN S17 = gN S4 + 1 ∧ gZ S17 = gZ S4 + 19) → pst14 (.returned (some (.ref (gN S4))), S17)) → (∀ S18 : zS, ∀ q18 : Nat, (zFin true S18) → (pJ (tN 19 0 [] b [y4]) = .error (3, b)) → (xFn (sP (sI (sI (sP (sNew S4 11 0 (zslots 11)) 162 (gN S4) (some 0)) 144 (gN S4) (Int32.ofNat b)) 160 (gN S4) 97) 161 (gN S4) (some a4)) (gN S4) S18) → (xFl S18 q18 3 b) → (gN S18 = gN S4 + 1 + 1 ∧ gZ S18 ≤ gZ S4 + 19 + 3) → pst14 (.threw q18, S18)) → zCall (d - 1) 253 [.ref r, .ref (gN S4)] (sP (sI (sI (sP (sNew S4 11 0 (zslots 11)) 162 (gN S4) (some 0)) 144 (gN S4) (Int32.ofNat b)) 160 (gN S4) 97) 161 (gN S4) (some a4)) pst14 := by
        intro pst14 k19 k20
        have ht16 : ztab 253 = ztb253 := rfl
        show zEv (d - 1) 253 0 [.ref r, .ref (gN S4)] [] (sP (sI (sI (sP (sNew S4 11 0 (zslots 11)) 162 (gN S4) (some 0)) 144 (gN S4) (Int32.ofNat b)) 160 (gN S4) 97) 161 (gN S4) (some a4)) pst14
        refine zv_c1 ht16 rfl rfl ?_
        refine zv_cl ht16 rfl rfl rfl (zv_tgm (ztyp_new_at (S := S4) (t := 11) (n := 0) (s := zslots 11) (show 1639 ≤ gN S4 from by omega)) rfl) (by omega) (Nat.le_of_ble_eq_true rfl) (x_judgeR (S := sP (sI (sI (sP (sNew S4 11 0 (zslots 11)) 162 (gN S4) (some 0)) 144 (gN S4) (Int32.ofNat b)) 160 (gN S4) 97) 161 (gN S4) (some a4)) (tp := tp) (sz := sz) (r := r) (a := gN S4) (k := 19) (v := 0) (p := b) (ks := []) (js := [a4]) (cs := [y4]) (g := gN S4 + 1) (lo := gN S) (zFin_sP (zFin_sP (zFin_new hF4) rfl) rfl) (by omega) (by omega) (by omega) (by omega) (by omega) rfl (xOwn_W (by decide) (ztyp_new_at (S := S4) (t := 11) (n := 0) (s := zslots 11) (show 1639 ≤ gN S4 from by omega)) (gI_sI_at) (gP_sP_at)) ⟨a4, _, rfl, (xTl.ch t4 (zKE.tr (zKE.tr (zKE.tr (zKE.tr (zKE.tr zKE.rf (zKE_new (show gN S4 ≤ gN S4 ∧ gN S4 < zLB from ⟨by omega, by have hLB : zLB = 4294967296 := rfl; omega⟩))) (zKE_sP (Or.inr (Or.inr ⟨by omega, by have hLB : zLB = 4294967296 := rfl; omega⟩)))) (zKE_sI (Or.inr (Or.inr ⟨by omega, by have hLB : zLB = 4294967296 := rfl; omega⟩)))) (zKE_sI (Or.inr (Or.inr ⟨by omega, by have hLB : zLB = 4294967296 := rfl; omega⟩)))) (zKE_sP (Or.inr (Or.inr ⟨by omega, by have hLB : zLB = 4294967296 := rfl; omega⟩)))) (by omega) (by intro j h1 h2; omega)), rfl⟩ (by decide) (by omega) (gI_sI_at) (gI_new_at (S := S4) (t := 11) (n := 0) (s := zslots 11)) (gI_new_at (S := S4) (t := 11) (n := 0) (s := zslots 11)) (xR.ke (Fs := []) p4 (zKE.tr (zKE.tr (zKE.tr (zKE.tr (zKE.tr zKE.rf (zKE_new (show gN S4 ≤ gN S4 ∧ gN S4 < zLB from ⟨by omega, by have hLB : zLB = 4294967296 := rfl; omega⟩))) (zKE_sP (Or.inr (Or.inr ⟨by omega, by have hLB : zLB = 4294967296 := rfl; omega⟩)))) (zKE_sI (Or.inr (Or.inr ⟨by omega, by have hLB : zLB = 4294967296 := rfl; omega⟩)))) (zKE_sI (Or.inr (Or.inr ⟨by omega, by have hLB : zLB = 4294967296 := rfl; omega⟩)))) (zKE_sP (Or.inr (Or.inr ⟨by omega, by have hLB : zLB = 4294967296 := rfl; omega⟩)))) (by omega) (by decide)) (by omega) (fun S17 hF17 e17 j17 t17 p17 g17 => ?_) (fun S18 q18 hF18 e18 k18 x18 g18 => ?_))
        · show zEv (d - 1) 253 4 [.ref r, .ref (gN S4)] [] S17 pst14
          refine zv_c1 ht16 rfl rfl ?_
          exact zv_rt ht16 rfl rfl rfl rfl (k19 S17 hF17 e17 j17 t17 p17 g17)
        · exact (k20 S18 q18 hF18 e18 k18 x18 g18)
      refine zv_cl ht rfl rfl rfl (zv_tgv (Eq.trans (ztyp_new (S := S4) (t := 11) (n := 0) (s := zslots 11) (show r ≠ gN S4 from by omega)) p4.1.2.2.2.1) rfl) (by omega) (Nat.le_of_ble_eq_true rfl) (C15 _ (fun S17 hF17 e17 j17 t17 p17 g17 => ?_) (fun S18 q18 hF18 e18 k18 x18 g18 => ?_))
      · show zEv d 260 155 [.ref r, .ref w, .int 0, .int (Int32.ofNat deep), .int (Int32.ofNat b), .int 97, .int 0, .ref a4, .retAddr 0] [.ref (gN S4)] S17 post
        exact zv_rt ht rfl rfl rfl rfl (h1 S2 nd2 hF2 e2 k2 p2 g2 b2 c2 d2 S4 a4 y4 at4 nd4 hF4 e4 k4 t4 p4 g4 c4 S17 hF17 e17 j17 t17 p17 g17)
      · exact (h2 S2 nd2 hF2 e2 k2 p2 g2 b2 c2 d2 S4 a4 y4 at4 nd4 hF4 e4 k4 t4 p4 g4 c4 S18 q18 hF18 e18 k18 x18 g18)
    · exact (h3 S2 nd2 hF2 e2 k2 p2 g2 b2 c2 d2 S5 q5 kk5 z5 hF5 e5 k5 x5 g5)
  · exact (h4 S3 q3 hF3 e3 k3 x3 g3)

theorem wrZ115 {d : Nat} {S : zS} (hF : zFin true S) (hd : 8 ≤ d) {tp : Nat → Nat} {sz at0 nd r : Nat} {rec : Nat → Nat → Nat → pE (zNd × Nat × Nat)} {K n : Nat} {w : Nat} (b e0 wl deep : Nat) (hR : xR tp sz S r b nd) (hs0 : sz ≤ 300) (ha0 : b ≤ sz) (hr1 : 1639 ≤ r) (hr2 : r < gN S) (hN : gN S + 30 * (sz - b) ≤ 1700000) (hdp : deep < 1000) (hnd : nd ≤ 80) (hw : xWd S w (pWl tp b e0)) (hwN : w < gN S) (hwl : (pWl tp b e0).length = wl) (hel : e0 = b + wl) (hes : e0 < sz) (hk : 0 < wl) (hcc : (pWl tp b e0).getD 0 0 = 115) (hbad : pBad (pWl tp b e0) b = .ok ()) (hIH : deep ≤ 24 → xWr tp sz (d - 1) w b e0 rec n 1 (deep + 1)) {post : Outcome × zS → Prop} (h1 : ∀ S2 : zS, ∀ nd2 : Nat, (zFin true S2) → (pRead b deep nd false = .ok nd2) → (xFr S S2) → (xR tp sz S2 r b nd2) → (gN S ≤ gN S2 ∧ gN S2 ≤ gN S + 0 ∧ gZ S2 ≤ gZ S + 0) → (b ≤ sz) → (nd2 ≤ 80) → (deep ≤ 24) → ∀ S4 : zS, ∀ a4 : Nat, ∀ y4 : zNd, ∀ at4 : Nat, ∀ nd4 : Nat, (zFin true S4) → (pWx tp sz rec n (b + 1) (deep + 1) e0 nd2 = .ok (y4, at4, nd4)) → (xFr (sI S2 133 r (Int32.ofNat (b + 1))) S4) → (xTl (gN S2) S4 y4 a4) → (xR tp sz S4 r at4 nd4) → (gN S2 ≤ gN S4 ∧ gN S4 + 30 * (sz - at4) ≤ gN S2 + 30 * (sz - e0) + 2 * (e0 - (b + 1)) ∧ gZ S4 + 150 * (sz - at4) ≤ gZ S2 + 150 * (sz - e0) + 60 * (e0 - (b + 1))) → (at4 ≤ sz ∧ gN S2 ≤ a4 ∧ a4 < gN S4) → ∀ S17 : zS, (zFin true S17) → (pJ (tN 20 0 [] b [y4]) = .ok (tN 20 0 [] b [y4])) → (xJd (sP (sI (sI (sP (sNew S4 11 0 (zslots 11)) 162 (gN S4) (some 0)) 144 (gN S4) (Int32.ofNat b)) 160 (gN S4) 115) 161 (gN S4) (some a4)) (gN S4) S17) → (xTl (gN S) S17 (tN 20 0 [] b [y4]) (gN S4)) → (xR tp sz S17 r at4 nd4) → (gN S17 = gN S4 + 1 ∧ gZ S17 = gZ S4 + 19) → post (.returned (some (.ref (gN S4))), S17)) (h2 : ∀ S2 : zS, ∀ nd2 : Nat, (zFin true S2) → (pRead b deep nd false = .ok nd2) → (xFr S S2) → (xR tp sz S2 r b nd2) → (gN S ≤ gN S2 ∧ gN S2 ≤ gN S + 0 ∧ gZ S2 ≤ gZ S + 0) → (b ≤ sz) → (nd2 ≤ 80) → (deep ≤ 24) → ∀ S4 : zS, ∀ a4 : Nat, ∀ y4 : zNd, ∀ at4 : Nat, ∀ nd4 : Nat, (zFin true S4) → (pWx tp sz rec n (b + 1) (deep + 1) e0 nd2 = .ok (y4, at4, nd4)) → (xFr (sI S2 133 r (Int32.ofNat (b + 1))) S4) → (xTl (gN S2) S4 y4 a4) → (xR tp sz S4 r at4 nd4) → (gN S2 ≤ gN S4 ∧ gN S4 + 30 * (sz - at4) ≤ gN S2 + 30 * (sz - e0) + 2 * (e0 - (b + 1)) ∧ gZ S4 + 150 * (sz - at4) ≤ gZ S2 + 150 * (sz - e0) + 60 * (e0 - (b + 1))) → (at4 ≤ sz ∧ gN S2 ≤ a4 ∧ a4 < gN S4) → ∀ S18 : zS, ∀ q18 : Nat, (zFin true S18) → (pJ (tN 20 0 [] b [y4]) = .error (3, b)) → (xFn (sP (sI (sI (sP (sNew S4 11 0 (zslots 11)) 162 (gN S4) (some 0)) 144 (gN S4) (Int32.ofNat b)) 160 (gN S4) 115) 161 (gN S4) (some a4)) (gN S4) S18) → (xFl S18 q18 3 b) → (gN S18 = gN S4 + 1 + 1 ∧ gZ S18 ≤ gZ S4 + 19 + 3) → post (.threw q18, S18)) (h3 : ∀ S2 : zS, ∀ nd2 : Nat, (zFin true S2) → (pRead b deep nd false = .ok nd2) → (xFr S S2) → (xR tp sz S2 r b nd2) → (gN S ≤ gN S2 ∧ gN S2 ≤ gN S + 0 ∧ gZ S2 ≤ gZ S + 0) → (b ≤ sz) → (nd2 ≤ 80) → (deep ≤ 24) → ∀ S5 : zS, ∀ q5 : Nat, ∀ kk5 : Nat, ∀ z5 : Nat, (zFin true S5) → (pWx tp sz rec n (b + 1) (deep + 1) e0 nd2 = .error (kk5, z5)) → (xFr (sI S2 133 r (Int32.ofNat (b + 1))) S5) → (xFl S5 q5 kk5 z5) → (gN S2 ≤ gN S5 ∧ gN S5 ≤ gN S2 + 30 * (sz - e0) + 2 * (e0 - (b + 1)) + 60 ∧ gZ S5 ≤ gZ S2 + 150 * (sz - e0) + 60 * (e0 - (b + 1)) + 2000) → post (.threw q5, S5)) (h4 : ∀ S3 : zS, ∀ q3 : Nat, (zFin true S3) → (pRead b deep nd false = .error (2, b)) → (xFr S S3) → (xFl S3 q3 2 b) → (gN S ≤ gN S3 ∧ gN S3 ≤ gN S + 1 ∧ gZ S3 ≤ gZ S + 3) → post (.threw q3, S3)) : zCall d 260 [.ref r, .ref w, .int 0, .int (Int32.ofNat deep)] S post := by
  have ht : ztab 260 = ztb260 := rfl
  show zEv d 260 0 [.ref r, .ref w, .int 0, .int (Int32.ofNat deep), .retAddr 0, .retAddr 0, .retAddr 0, .retAddr 0, .retAddr 0] [] S post
  refine zv_c1 ht rfl rfl ?_
  refine zv_ei (x := Int32.ofNat b) ht rfl rfl (zhas_of (hR.1.2.2.2.1) rfl) hR.1.1 ?_
  refine zv_c2 (L' := [.ref r, .ref w, .int 0, .int (Int32.ofNat deep), .int (Int32.ofNat b), .retAddr 0, .retAddr 0, .retAddr 0, .retAddr 0]) ht rfl rfl ?_
  refine zv_c1 ht rfl rfl (zv_c1 ht rfl rfl ?_)
  refine zv_cl ht rfl rfl rfl (zv_tgv ((zStr.t hw.1)) rfl) (by omega) (Nat.le_of_ble_eq_true rfl) (x_len (S := S) hF (by omega) hw.1 (n := wl) hwl ?_)
  show zEv d 260 11 [.ref r, .ref w, .int 0, .int (Int32.ofNat deep), .int (Int32.ofNat b), .retAddr 0, .retAddr 0, .retAddr 0, .retAddr 0] [.int (Int32.ofNat wl), .int 0] S post
  refine zv_br ht rfl rfl rfl (fun b1 => ?_) (fun b1 => (show False from by have hq := b1; have hz : 0 = wl := (zi_eqE (a := 0) (b := wl) rfl rfl (by omega) (by omega)).mp (Classical.not_not.mp hq); omega).elim)
  refine zv_c1 ht rfl rfl (zv_c1 ht rfl rfl ?_)
  refine zv_cl ht rfl rfl rfl (zv_tgv ((zStr.t hw.1)) rfl) (by omega) (Nat.le_of_ble_eq_true rfl) (x_char (S := S) hF (by omega) hw.1 (i := 0) (by omega) (c := 115) hcc ?_)
  show zEv d 260 39 [.ref r, .ref w, .int 0, .int (Int32.ofNat deep), .int (Int32.ofNat b), .retAddr 0, .retAddr 0, .retAddr 0, .retAddr 0] [.int 115] S post
  refine zv_c2 (L' := [.ref r, .ref w, .int 0, .int (Int32.ofNat deep), .int (Int32.ofNat b), .int 115, .retAddr 0, .retAddr 0, .retAddr 0]) ht rfl rfl ?_
  refine zv_c1 ht rfl rfl (zv_c1 ht rfl rfl ?_)
  refine zv_br ht rfl rfl rfl (fun h => absurd h (by decide)) (fun _ => ?_)
  refine zv_c1 ht rfl rfl (zv_c1 ht rfl rfl ?_)
  refine zv_br ht rfl rfl rfl (fun h => absurd h (by decide)) (fun _ => ?_)
  refine zv_c1 ht rfl rfl (zv_c1 ht rfl rfl ?_)
  refine zv_br ht rfl rfl rfl (fun _ => ?_) (fun h => absurd (by decide) h)
  refine zv_c1 ht rfl rfl ?_
  refine zv_c2 (L' := [.ref r, .ref w, .int 0, .int (Int32.ofNat deep), .int (Int32.ofNat b), .int 115, .int 0, .retAddr 0, .retAddr 0]) ht rfl rfl ?_
  refine zv_c1 ht rfl rfl ?_
  refine zv_br ht rfl rfl rfl (fun h => absurd h (by decide)) (fun _ => ?_)
  refine zv_c1 ht rfl rfl (zv_c1 ht rfl rfl ?_)
  refine zv_cl ht rfl rfl rfl (zv_tgv (hR.1.2.2.2.1) rfl) (by omega) (Nat.le_of_ble_eq_true rfl) (x_findOk (S := S) (r := r) hF (by omega) hR (by omega) hw (by omega) hbad ?_)
  show zEv d 260 78 [.ref r, .ref w, .int 0, .int (Int32.ofNat deep), .int (Int32.ofNat b), .int 115, .int 0, .retAddr 0, .retAddr 0] [] S post
  refine zv_c1 ht rfl rfl (zv_c1 ht rfl rfl (zv_c1 ht rfl rfl ?_))
  refine zv_br ht rfl rfl rfl (fun _ => ?_) (fun h => absurd (by decide) h)
  refine zv_c1 ht rfl rfl (zv_c1 ht rfl rfl ?_)
  refine zv_br ht rfl rfl rfl (fun _ => ?_) (fun h => absurd (by decide) h)
  refine zv_c1 ht rfl rfl ?_
  refine zv_cl ht rfl rfl rfl (zv_tgv (hR.1.2.2.2.1) rfl) (by omega) (Nat.le_of_ble_eq_true rfl) (x_begins (S := S) (tp := tp) (sz := sz) (r := r) (p := b) (dp := deep) (m := 1) (dq := deep) (two := false) hF (by omega) hR (by omega) (by omega) (by omega) (by omega) rfl rfl (fun S2 nd2 hF2 e2 k2 p2 g2 b2 c2 d2 => ?_) (fun S3 q3 hF3 e3 k3 x3 g3 => ?_))
  · show zEv d 260 106 [.ref r, .ref w, .int 0, .int (Int32.ofNat deep), .int (Int32.ofNat b), .int 115, .int 0, .retAddr 0, .retAddr 0] [] S2 post
    refine zv_c1 ht rfl rfl (zv_c1 ht rfl rfl ?_)
    refine zv_ei (x := Int32.ofNat b) ht rfl rfl (zhas_of (p2.1.2.2.2.1) rfl) p2.1.1 ?_
    refine zv_c1 ht rfl rfl ?_
    refine zv_e1 (x := Int32.ofNat (b + 1)) ht rfl rfl (zi_addE (a := b) (b := 1) rfl rfl) ?_
    refine zv_ci (S' := sI S2 133 r (Int32.ofNat (b + 1))) ht rfl rfl ⟨(zhas_of (p2.1.2.2.2.1) rfl), (show r < gN S2 from by omega)⟩ ?_
    refine zv_c1 ht rfl rfl (zv_c1 ht rfl rfl (zv_c1 ht rfl rfl (zv_c1 ht rfl rfl ?_)))
    refine zv_c1 (st' := [.int 1, .ref w, .ref r]) (S' := sI S2 133 r (Int32.ofNat (b + 1))) ht rfl rfl ?_
    refine zv_c1 ht rfl rfl (zv_c1 ht rfl rfl ?_)
    refine zv_e1 (x := Int32.ofNat (deep + 1)) ht rfl rfl (zi_addE (a := deep) (b := 1) rfl rfl) ?_
    refine zv_cl ht rfl rfl rfl (zv_tgv (p2.1.2.2.2.1) rfl) (by omega) (Nat.le_of_ble_eq_true rfl) (xEc.use (g := gN S2) (cN := gN S2 + 30 * (sz - e0) + 2 * (e0 - (b + 1))) (cZ := gZ S2 + 150 * (sz - e0) + 60 * (e0 - (b + 1))) rfl ((hIH (by omega)) (S := sI S2 133 r (Int32.ofNat (b + 1))) (r := r) hF2 (xR_at p2 (by omega)) (xWd.k hw (zKE.tr (zKE.tr zKE.rf (zKE.w k2 (show gN S ≤ gN S from by omega) (fun _ h => h) (fun _ h => h))) (zKE_sI (Or.inl (by decide))))) (by omega) (by omega)) (fun S4 a4 y4 at4 nd4 hF4 e4 k4 t4 p4 g4 c4 => ?_) (fun S5 q5 kk5 z5 hF5 e5 k5 x5 g5 => ?_))
    · show zEv d 260 127 [.ref r, .ref w, .int 0, .int (Int32.ofNat deep), .int (Int32.ofNat b), .int 115, .int 0, .retAddr 0, .retAddr 0] [.ref a4] S4 post
      refine zv_c2 (L' := [.ref r, .ref w, .int 0, .int (Int32.ofNat deep), .int (Int32.ofNat b), .int 115, .int 0, .ref a4, .retAddr 0]) ht rfl rfl ?_
      refine zv_c1 ht rfl rfl ?_
      refine zv_br ht rfl rfl rfl (fun h => absurd h (by decide)) (fun _ => ?_)
      refine zv_c1 ht rfl rfl ?_
      refine zv_ci (st' := [.ref (gN S4), .ref r]) (S' := sNew S4 11 0 (zslots 11)) ht rfl rfl (znew_ok (show 1639 ≤ gN S4 from by omega) (show gN S4 < 2000000 from by omega)) ?_
      refine zv_c1 ht rfl rfl (zv_c1 ht rfl rfl ?_)
      refine zv_g3 (q := 0) ht rfl (zFin_new hF4) rfl rfl (zhas_of (Eq.trans (ztyp_new (S := S4) (t := 11) (n := 0) (s := zslots 11) (show r ≠ gN S4 from by omega)) p4.1.2.2.2.1) rfl) (Eq.trans (gP_new (S := S4) (t := 11) (n := 0) (s := zslots 11) (show r ≠ gN S4 from by omega)) p4.1.2.2.2.2) ?_
      refine zv_c1 ht rfl rfl (zv_c1 ht rfl rfl (zv_c1 ht rfl rfl ?_))
      have C7 : ∀ (pst6 : Outcome × zS → Prop), (pst6 (.returned none, sP (sI (sI (sP (sNew S4 11 0 (zslots 11)) 162 (gN S4) (some 0)) 144 (gN S4) (Int32.ofNat b)) 160 (gN S4) 115) 161 (gN S4) (some a4))) → zCall (d - 1) 295 [.ref (gN S4), .ref 0, .int (Int32.ofNat b), .int 115, .ref a4] (sNew S4 11 0 (zslots 11)) pst6 := by
        intro pst6 k13
        have ht8 : ztab 295 = ztb295 := rfl
        show zEv (d - 1) 295 0 [.ref (gN S4), .ref 0, .int (Int32.ofNat b), .int 115, .ref a4] [] (sNew S4 11 0 (zslots 11)) pst6
        refine zv_c1 ht8 rfl rfl (zv_c1 ht8 rfl rfl ?_)
        refine zv_ci (S' := sP (sNew S4 11 0 (zslots 11)) 162 (gN S4) (some 0)) ht8 rfl rfl ⟨(zhas_of (ztyp_new_at (S := S4) (t := 11) (n := 0) (s := zslots 11) (show 1639 ≤ gN S4 from by omega)) rfl), (show gN S4 < gN S4 + 1 from by omega)⟩ ?_
        refine zv_c1 ht8 rfl rfl (zv_c1 ht8 rfl rfl (zv_c1 ht8 rfl rfl ?_))
        have C10 : ∀ (pst9 : Outcome × zS → Prop), (pst9 (.returned none, sI (sP (sNew S4 11 0 (zslots 11)) 162 (gN S4) (some 0)) 144 (gN S4) (Int32.ofNat b))) → zCall ((d - 1) - 1) 280 [.ref (gN S4), .ref 0, .int (Int32.ofNat b)] (sP (sNew S4 11 0 (zslots 11)) 162 (gN S4) (some 0)) pst9 := by
          intro pst9 k12
          have ht11 : ztab 280 = ztb280 := rfl
          show zEv ((d - 1) - 1) 280 0 [.ref (gN S4), .ref 0, .int (Int32.ofNat b)] [] (sP (sNew S4 11 0 (zslots 11)) 162 (gN S4) (some 0)) pst9
          refine zv_c1 ht11 rfl rfl (zv_c1 ht11 rfl rfl ?_)
          refine zv_ci (S' := sP (sNew S4 11 0 (zslots 11)) 162 (gN S4) (some 0)) ht11 rfl rfl (zk5 (ztyp_new_at (S := S4) (t := 11) (n := 0) (s := zslots 11) (show 1639 ≤ gN S4 from by omega)) rfl (show gN S4 < gN S4 + 1 from by omega) rfl gP_sP_at) ?_
          refine zv_c1 ht11 rfl rfl (zv_c1 ht11 rfl rfl (zv_c1 ht11 rfl rfl (zv_c1 ht11 rfl rfl ?_)))
          refine zv_ci (S' := sI (sP (sNew S4 11 0 (zslots 11)) 162 (gN S4) (some 0)) 144 (gN S4) (Int32.ofNat b)) ht11 rfl rfl ⟨(zhas_of (ztyp_new_at (S := S4) (t := 11) (n := 0) (s := zslots 11) (show 1639 ≤ gN S4 from by omega)) rfl), (show gN S4 < gN S4 + 1 from by omega)⟩ ?_
          exact zv_rt ht11 rfl rfl rfl rfl k12
        refine zv_cl ht8 rfl rfl rfl rfl (by omega) (Nat.le_of_ble_eq_true rfl) (C10 _ ?_)
        show zEv (d - 1) 295 11 [.ref (gN S4), .ref 0, .int (Int32.ofNat b), .int 115, .ref a4] [] (sI (sP (sNew S4 11 0 (zslots 11)) 162 (gN S4) (some 0)) 144 (gN S4) (Int32.ofNat b)) pst6
        refine zv_c1 ht8 rfl rfl (zv_c1 ht8 rfl rfl ?_)
        refine zv_ci (S' := sI (sI (sP (sNew S4 11 0 (zslots 11)) 162 (gN S4) (some 0)) 144 (gN S4) (Int32.ofNat b)) 160 (gN S4) 115) ht8 rfl rfl ⟨⟨(zhas_of (ztyp_new_at (S := S4) (t := 11) (n := 0) (s := zslots 11) (show 1639 ≤ gN S4 from by omega)) rfl), (show gN S4 < gN S4 + 1 from by omega)⟩, (by decide)⟩ ?_
        refine zv_c1 ht8 rfl rfl (zv_c1 ht8 rfl rfl ?_)
        refine zv_ci (S' := sP (sI (sI (sP (sNew S4 11 0 (zslots 11)) 162 (gN S4) (some 0)) 144 (gN S4) (Int32.ofNat b)) 160 (gN S4) 115) 161 (gN S4) (some a4)) ht8 rfl rfl ⟨(zhas_of (ztyp_new_at (S := S4) (t := 11) (n := 0) (s := zslots 11) (show 1639 ≤ gN S4 from by omega)) rfl), (show gN S4 < gN S4 + 1 from by omega)⟩ ?_
        exact zv_rt ht8 rfl rfl rfl rfl k13
      refine zv_cl ht rfl rfl rfl rfl (by omega) (Nat.le_of_ble_eq_true rfl) (C7 _ ?_)
      show zEv d 260 152 [.ref r, .ref w, .int 0, .int (Int32.ofNat deep), .int (Int32.ofNat b), .int 115, .int 0, .ref a4, .retAddr 0] [.ref (gN S4), .ref r] (sP (sI (sI (sP (sNew S4 11 0 (zslots 11)) 162 (gN S4) (some 0)) 144 (gN S4) (Int32.ofNat b)) 160 (gN S4) 115) 161 (gN S4) (some a4)) post
      have C15 : ∀ (pst14 : Outcome × zS → Prop), (∀ S17 : zS, (zFin true S17) → (pJ (tN 20 0 [] b [y4]) = .ok (tN 20 0 [] b [y4])) → (xJd (sP (sI (sI (sP (sNew S4 11 0 (zslots 11)) 162 (gN S4) (some 0)) 144 (gN S4) (Int32.ofNat b)) 160 (gN S4) 115) 161 (gN S4) (some a4)) (gN S4) S17) → (xTl (gN S) S17 (tN 20 0 [] b [y4]) (gN S4)) → (xR tp sz S17 r at4 nd4) → (gN S17 = gN S4 + 1 ∧ gZ S17 = gZ S4 + 19) → pst14 (.returned (some (.ref (gN S4))), S17)) → (∀ S18 : zS, ∀ q18 : Nat, (zFin true S18) → (pJ (tN 20 0 [] b [y4]) = .error (3, b)) → (xFn (sP (sI (sI (sP (sNew S4 11 0 (zslots 11)) 162 (gN S4) (some 0)) 144 (gN S4) (Int32.ofNat b)) 160 (gN S4) 115) 161 (gN S4) (some a4)) (gN S4) S18) → (xFl S18 q18 3 b) → (gN S18 = gN S4 + 1 + 1 ∧ gZ S18 ≤ gZ S4 + 19 + 3) → pst14 (.threw q18, S18)) → zCall (d - 1) 253 [.ref r, .ref (gN S4)] (sP (sI (sI (sP (sNew S4 11 0 (zslots 11)) 162 (gN S4) (some 0)) 144 (gN S4) (Int32.ofNat b)) 160 (gN S4) 115) 161 (gN S4) (some a4)) pst14 := by
        intro pst14 k19 k20
        have ht16 : ztab 253 = ztb253 := rfl
        show zEv (d - 1) 253 0 [.ref r, .ref (gN S4)] [] (sP (sI (sI (sP (sNew S4 11 0 (zslots 11)) 162 (gN S4) (some 0)) 144 (gN S4) (Int32.ofNat b)) 160 (gN S4) 115) 161 (gN S4) (some a4)) pst14
        refine zv_c1 ht16 rfl rfl ?_
        refine zv_cl ht16 rfl rfl rfl (zv_tgm (ztyp_new_at (S := S4) (t := 11) (n := 0) (s := zslots 11) (show 1639 ≤ gN S4 from by omega)) rfl) (by omega) (Nat.le_of_ble_eq_true rfl) (x_judgeR (S := sP (sI (sI (sP (sNew S4 11 0 (zslots 11)) 162 (gN S4) (some 0)) 144 (gN S4) (Int32.ofNat b)) 160 (gN S4) 115) 161 (gN S4) (some a4)) (tp := tp) (sz := sz) (r := r) (a := gN S4) (k := 20) (v := 0) (p := b) (ks := []) (js := [a4]) (cs := [y4]) (g := gN S4 + 1) (lo := gN S) (zFin_sP (zFin_sP (zFin_new hF4) rfl) rfl) (by omega) (by omega) (by omega) (by omega) (by omega) rfl (xOwn_W (by decide) (ztyp_new_at (S := S4) (t := 11) (n := 0) (s := zslots 11) (show 1639 ≤ gN S4 from by omega)) (gI_sI_at) (gP_sP_at)) ⟨a4, _, rfl, (xTl.ch t4 (zKE.tr (zKE.tr (zKE.tr (zKE.tr (zKE.tr zKE.rf (zKE_new (show gN S4 ≤ gN S4 ∧ gN S4 < zLB from ⟨by omega, by have hLB : zLB = 4294967296 := rfl; omega⟩))) (zKE_sP (Or.inr (Or.inr ⟨by omega, by have hLB : zLB = 4294967296 := rfl; omega⟩)))) (zKE_sI (Or.inr (Or.inr ⟨by omega, by have hLB : zLB = 4294967296 := rfl; omega⟩)))) (zKE_sI (Or.inr (Or.inr ⟨by omega, by have hLB : zLB = 4294967296 := rfl; omega⟩)))) (zKE_sP (Or.inr (Or.inr ⟨by omega, by have hLB : zLB = 4294967296 := rfl; omega⟩)))) (by omega) (by intro j h1 h2; omega)), rfl⟩ (by decide) (by omega) (gI_sI_at) (gI_new_at (S := S4) (t := 11) (n := 0) (s := zslots 11)) (gI_new_at (S := S4) (t := 11) (n := 0) (s := zslots 11)) (xR.ke (Fs := []) p4 (zKE.tr (zKE.tr (zKE.tr (zKE.tr (zKE.tr zKE.rf (zKE_new (show gN S4 ≤ gN S4 ∧ gN S4 < zLB from ⟨by omega, by have hLB : zLB = 4294967296 := rfl; omega⟩))) (zKE_sP (Or.inr (Or.inr ⟨by omega, by have hLB : zLB = 4294967296 := rfl; omega⟩)))) (zKE_sI (Or.inr (Or.inr ⟨by omega, by have hLB : zLB = 4294967296 := rfl; omega⟩)))) (zKE_sI (Or.inr (Or.inr ⟨by omega, by have hLB : zLB = 4294967296 := rfl; omega⟩)))) (zKE_sP (Or.inr (Or.inr ⟨by omega, by have hLB : zLB = 4294967296 := rfl; omega⟩)))) (by omega) (by decide)) (by omega) (fun S17 hF17 e17 j17 t17 p17 g17 => ?_) (fun S18 q18 hF18 e18 k18 x18 g18 => ?_))
        · show zEv (d - 1) 253 4 [.ref r, .ref (gN S4)] [] S17 pst14
          refine zv_c1 ht16 rfl rfl ?_
          exact zv_rt ht16 rfl rfl rfl rfl (k19 S17 hF17 e17 j17 t17 p17 g17)
        · exact (k20 S18 q18 hF18 e18 k18 x18 g18)
      refine zv_cl ht rfl rfl rfl (zv_tgv (Eq.trans (ztyp_new (S := S4) (t := 11) (n := 0) (s := zslots 11) (show r ≠ gN S4 from by omega)) p4.1.2.2.2.1) rfl) (by omega) (Nat.le_of_ble_eq_true rfl) (C15 _ (fun S17 hF17 e17 j17 t17 p17 g17 => ?_) (fun S18 q18 hF18 e18 k18 x18 g18 => ?_))
      · show zEv d 260 155 [.ref r, .ref w, .int 0, .int (Int32.ofNat deep), .int (Int32.ofNat b), .int 115, .int 0, .ref a4, .retAddr 0] [.ref (gN S4)] S17 post
        exact zv_rt ht rfl rfl rfl rfl (h1 S2 nd2 hF2 e2 k2 p2 g2 b2 c2 d2 S4 a4 y4 at4 nd4 hF4 e4 k4 t4 p4 g4 c4 S17 hF17 e17 j17 t17 p17 g17)
      · exact (h2 S2 nd2 hF2 e2 k2 p2 g2 b2 c2 d2 S4 a4 y4 at4 nd4 hF4 e4 k4 t4 p4 g4 c4 S18 q18 hF18 e18 k18 x18 g18)
    · exact (h3 S2 nd2 hF2 e2 k2 p2 g2 b2 c2 d2 S5 q5 kk5 z5 hF5 e5 k5 x5 g5)
  · exact (h4 S3 q3 hF3 e3 k3 x3 g3)

theorem wrZ99 {d : Nat} {S : zS} (hF : zFin true S) (hd : 8 ≤ d) {tp : Nat → Nat} {sz at0 nd r : Nat} {rec : Nat → Nat → Nat → pE (zNd × Nat × Nat)} {K n : Nat} {w : Nat} (b e0 wl deep : Nat) (hR : xR tp sz S r b nd) (hs0 : sz ≤ 300) (ha0 : b ≤ sz) (hr1 : 1639 ≤ r) (hr2 : r < gN S) (hN : gN S + 30 * (sz - b) ≤ 1700000) (hdp : deep < 1000) (hnd : nd ≤ 80) (hw : xWd S w (pWl tp b e0)) (hwN : w < gN S) (hwl : (pWl tp b e0).length = wl) (hel : e0 = b + wl) (hes : e0 < sz) (hk : 0 < wl) (hcc : (pWl tp b e0).getD 0 0 = 99) (hbad : pBad (pWl tp b e0) b = .ok ()) (hIH : deep ≤ 24 → xWr tp sz (d - 1) w b e0 rec n 1 (deep + 1)) {post : Outcome × zS → Prop} (h1 : ∀ S2 : zS, ∀ nd2 : Nat, (zFin true S2) → (pRead b deep nd false = .ok nd2) → (xFr S S2) → (xR tp sz S2 r b nd2) → (gN S ≤ gN S2 ∧ gN S2 ≤ gN S + 0 ∧ gZ S2 ≤ gZ S + 0) → (b ≤ sz) → (nd2 ≤ 80) → (deep ≤ 24) → ∀ S4 : zS, ∀ a4 : Nat, ∀ y4 : zNd, ∀ at4 : Nat, ∀ nd4 : Nat, (zFin true S4) → (pWx tp sz rec n (b + 1) (deep + 1) e0 nd2 = .ok (y4, at4, nd4)) → (xFr (sI S2 133 r (Int32.ofNat (b + 1))) S4) → (xTl (gN S2) S4 y4 a4) → (xR tp sz S4 r at4 nd4) → (gN S2 ≤ gN S4 ∧ gN S4 + 30 * (sz - at4) ≤ gN S2 + 30 * (sz - e0) + 2 * (e0 - (b + 1)) ∧ gZ S4 + 150 * (sz - at4) ≤ gZ S2 + 150 * (sz - e0) + 60 * (e0 - (b + 1))) → (at4 ≤ sz ∧ gN S2 ≤ a4 ∧ a4 < gN S4) → ∀ S17 : zS, (zFin true S17) → (pJ (tN 21 0 [] b [y4]) = .ok (tN 21 0 [] b [y4])) → (xJd (sP (sI (sI (sP (sNew S4 11 0 (zslots 11)) 162 (gN S4) (some 0)) 144 (gN S4) (Int32.ofNat b)) 160 (gN S4) 99) 161 (gN S4) (some a4)) (gN S4) S17) → (xTl (gN S) S17 (tN 21 0 [] b [y4]) (gN S4)) → (xR tp sz S17 r at4 nd4) → (gN S17 = gN S4 + 1 ∧ gZ S17 = gZ S4 + 19) → post (.returned (some (.ref (gN S4))), S17)) (h2 : ∀ S2 : zS, ∀ nd2 : Nat, (zFin true S2) → (pRead b deep nd false = .ok nd2) → (xFr S S2) → (xR tp sz S2 r b nd2) → (gN S ≤ gN S2 ∧ gN S2 ≤ gN S + 0 ∧ gZ S2 ≤ gZ S + 0) → (b ≤ sz) → (nd2 ≤ 80) → (deep ≤ 24) → ∀ S4 : zS, ∀ a4 : Nat, ∀ y4 : zNd, ∀ at4 : Nat, ∀ nd4 : Nat, (zFin true S4) → (pWx tp sz rec n (b + 1) (deep + 1) e0 nd2 = .ok (y4, at4, nd4)) → (xFr (sI S2 133 r (Int32.ofNat (b + 1))) S4) → (xTl (gN S2) S4 y4 a4) → (xR tp sz S4 r at4 nd4) → (gN S2 ≤ gN S4 ∧ gN S4 + 30 * (sz - at4) ≤ gN S2 + 30 * (sz - e0) + 2 * (e0 - (b + 1)) ∧ gZ S4 + 150 * (sz - at4) ≤ gZ S2 + 150 * (sz - e0) + 60 * (e0 - (b + 1))) → (at4 ≤ sz ∧ gN S2 ≤ a4 ∧ a4 < gN S4) → ∀ S18 : zS, ∀ q18 : Nat, (zFin true S18) → (pJ (tN 21 0 [] b [y4]) = .error (3, b)) → (xFn (sP (sI (sI (sP (sNew S4 11 0 (zslots 11)) 162 (gN S4) (some 0)) 144 (gN S4) (Int32.ofNat b)) 160 (gN S4) 99) 161 (gN S4) (some a4)) (gN S4) S18) → (xFl S18 q18 3 b) → (gN S18 = gN S4 + 1 + 1 ∧ gZ S18 ≤ gZ S4 + 19 + 3) → post (.threw q18, S18)) (h3 : ∀ S2 : zS, ∀ nd2 : Nat, (zFin true S2) → (pRead b deep nd false = .ok nd2) → (xFr S S2) → (xR tp sz S2 r b nd2) → (gN S ≤ gN S2 ∧ gN S2 ≤ gN S + 0 ∧ gZ S2 ≤ gZ S + 0) → (b ≤ sz) → (nd2 ≤ 80) → (deep ≤ 24) → ∀ S5 : zS, ∀ q5 : Nat, ∀ kk5 : Nat, ∀ z5 : Nat, (zFin true S5) → (pWx tp sz rec n (b + 1) (deep + 1) e0 nd2 = .error (kk5, z5)) → (xFr (sI S2 133 r (Int32.ofNat (b + 1))) S5) → (xFl S5 q5 kk5 z5) → (gN S2 ≤ gN S5 ∧ gN S5 ≤ gN S2 + 30 * (sz - e0) + 2 * (e0 - (b + 1)) + 60 ∧ gZ S5 ≤ gZ S2 + 150 * (sz - e0) + 60 * (e0 - (b + 1)) + 2000) → post (.threw q5, S5)) (h4 : ∀ S3 : zS, ∀ q3 : Nat, (zFin true S3) → (pRead b deep nd false = .error (2, b)) → (xFr S S3) → (xFl S3 q3 2 b) → (gN S ≤ gN S3 ∧ gN S3 ≤ gN S + 1 ∧ gZ S3 ≤ gZ S + 3) → post (.threw q3, S3)) : zCall d 260 [.ref r, .ref w, .int 0, .int (Int32.ofNat deep)] S post := by
  have ht : ztab 260 = ztb260 := rfl
  show zEv d 260 0 [.ref r, .ref w, .int 0, .int (Int32.ofNat deep), .retAddr 0, .retAddr 0, .retAddr 0, .retAddr 0, .retAddr 0] [] S post
  refine zv_c1 ht rfl rfl ?_
  refine zv_ei (x := Int32.ofNat b) ht rfl rfl (zhas_of (hR.1.2.2.2.1) rfl) hR.1.1 ?_
  refine zv_c2 (L' := [.ref r, .ref w, .int 0, .int (Int32.ofNat deep), .int (Int32.ofNat b), .retAddr 0, .retAddr 0, .retAddr 0, .retAddr 0]) ht rfl rfl ?_
  refine zv_c1 ht rfl rfl (zv_c1 ht rfl rfl ?_)
  refine zv_cl ht rfl rfl rfl (zv_tgv ((zStr.t hw.1)) rfl) (by omega) (Nat.le_of_ble_eq_true rfl) (x_len (S := S) hF (by omega) hw.1 (n := wl) hwl ?_)
  show zEv d 260 11 [.ref r, .ref w, .int 0, .int (Int32.ofNat deep), .int (Int32.ofNat b), .retAddr 0, .retAddr 0, .retAddr 0, .retAddr 0] [.int (Int32.ofNat wl), .int 0] S post
  refine zv_br ht rfl rfl rfl (fun b1 => ?_) (fun b1 => (show False from by have hq := b1; have hz : 0 = wl := (zi_eqE (a := 0) (b := wl) rfl rfl (by omega) (by omega)).mp (Classical.not_not.mp hq); omega).elim)
  refine zv_c1 ht rfl rfl (zv_c1 ht rfl rfl ?_)
  refine zv_cl ht rfl rfl rfl (zv_tgv ((zStr.t hw.1)) rfl) (by omega) (Nat.le_of_ble_eq_true rfl) (x_char (S := S) hF (by omega) hw.1 (i := 0) (by omega) (c := 99) hcc ?_)
  show zEv d 260 39 [.ref r, .ref w, .int 0, .int (Int32.ofNat deep), .int (Int32.ofNat b), .retAddr 0, .retAddr 0, .retAddr 0, .retAddr 0] [.int 99] S post
  refine zv_c2 (L' := [.ref r, .ref w, .int 0, .int (Int32.ofNat deep), .int (Int32.ofNat b), .int 99, .retAddr 0, .retAddr 0, .retAddr 0]) ht rfl rfl ?_
  refine zv_c1 ht rfl rfl (zv_c1 ht rfl rfl ?_)
  refine zv_br ht rfl rfl rfl (fun h => absurd h (by decide)) (fun _ => ?_)
  refine zv_c1 ht rfl rfl (zv_c1 ht rfl rfl ?_)
  refine zv_br ht rfl rfl rfl (fun h => absurd h (by decide)) (fun _ => ?_)
  refine zv_c1 ht rfl rfl (zv_c1 ht rfl rfl ?_)
  refine zv_br ht rfl rfl rfl (fun _ => ?_) (fun h => absurd (by decide) h)
  refine zv_c1 ht rfl rfl ?_
  refine zv_c2 (L' := [.ref r, .ref w, .int 0, .int (Int32.ofNat deep), .int (Int32.ofNat b), .int 99, .int 0, .retAddr 0, .retAddr 0]) ht rfl rfl ?_
  refine zv_c1 ht rfl rfl ?_
  refine zv_br ht rfl rfl rfl (fun h => absurd h (by decide)) (fun _ => ?_)
  refine zv_c1 ht rfl rfl (zv_c1 ht rfl rfl ?_)
  refine zv_cl ht rfl rfl rfl (zv_tgv (hR.1.2.2.2.1) rfl) (by omega) (Nat.le_of_ble_eq_true rfl) (x_findOk (S := S) (r := r) hF (by omega) hR (by omega) hw (by omega) hbad ?_)
  show zEv d 260 78 [.ref r, .ref w, .int 0, .int (Int32.ofNat deep), .int (Int32.ofNat b), .int 99, .int 0, .retAddr 0, .retAddr 0] [] S post
  refine zv_c1 ht rfl rfl (zv_c1 ht rfl rfl (zv_c1 ht rfl rfl ?_))
  refine zv_br ht rfl rfl rfl (fun _ => ?_) (fun h => absurd (by decide) h)
  refine zv_c1 ht rfl rfl (zv_c1 ht rfl rfl ?_)
  refine zv_br ht rfl rfl rfl (fun _ => ?_) (fun h => absurd (by decide) h)
  refine zv_c1 ht rfl rfl ?_
  refine zv_cl ht rfl rfl rfl (zv_tgv (hR.1.2.2.2.1) rfl) (by omega) (Nat.le_of_ble_eq_true rfl) (x_begins (S := S) (tp := tp) (sz := sz) (r := r) (p := b) (dp := deep) (m := 1) (dq := deep) (two := false) hF (by omega) hR (by omega) (by omega) (by omega) (by omega) rfl rfl (fun S2 nd2 hF2 e2 k2 p2 g2 b2 c2 d2 => ?_) (fun S3 q3 hF3 e3 k3 x3 g3 => ?_))
  · show zEv d 260 106 [.ref r, .ref w, .int 0, .int (Int32.ofNat deep), .int (Int32.ofNat b), .int 99, .int 0, .retAddr 0, .retAddr 0] [] S2 post
    refine zv_c1 ht rfl rfl (zv_c1 ht rfl rfl ?_)
    refine zv_ei (x := Int32.ofNat b) ht rfl rfl (zhas_of (p2.1.2.2.2.1) rfl) p2.1.1 ?_
    refine zv_c1 ht rfl rfl ?_
    refine zv_e1 (x := Int32.ofNat (b + 1)) ht rfl rfl (zi_addE (a := b) (b := 1) rfl rfl) ?_
    refine zv_ci (S' := sI S2 133 r (Int32.ofNat (b + 1))) ht rfl rfl ⟨(zhas_of (p2.1.2.2.2.1) rfl), (show r < gN S2 from by omega)⟩ ?_
    refine zv_c1 ht rfl rfl (zv_c1 ht rfl rfl (zv_c1 ht rfl rfl (zv_c1 ht rfl rfl ?_)))
    refine zv_c1 (st' := [.int 1, .ref w, .ref r]) (S' := sI S2 133 r (Int32.ofNat (b + 1))) ht rfl rfl ?_
    refine zv_c1 ht rfl rfl (zv_c1 ht rfl rfl ?_)
    refine zv_e1 (x := Int32.ofNat (deep + 1)) ht rfl rfl (zi_addE (a := deep) (b := 1) rfl rfl) ?_
    refine zv_cl ht rfl rfl rfl (zv_tgv (p2.1.2.2.2.1) rfl) (by omega) (Nat.le_of_ble_eq_true rfl) (xEc.use (g := gN S2) (cN := gN S2 + 30 * (sz - e0) + 2 * (e0 - (b + 1))) (cZ := gZ S2 + 150 * (sz - e0) + 60 * (e0 - (b + 1))) rfl ((hIH (by omega)) (S := sI S2 133 r (Int32.ofNat (b + 1))) (r := r) hF2 (xR_at p2 (by omega)) (xWd.k hw (zKE.tr (zKE.tr zKE.rf (zKE.w k2 (show gN S ≤ gN S from by omega) (fun _ h => h) (fun _ h => h))) (zKE_sI (Or.inl (by decide))))) (by omega) (by omega)) (fun S4 a4 y4 at4 nd4 hF4 e4 k4 t4 p4 g4 c4 => ?_) (fun S5 q5 kk5 z5 hF5 e5 k5 x5 g5 => ?_))
    · show zEv d 260 127 [.ref r, .ref w, .int 0, .int (Int32.ofNat deep), .int (Int32.ofNat b), .int 99, .int 0, .retAddr 0, .retAddr 0] [.ref a4] S4 post
      refine zv_c2 (L' := [.ref r, .ref w, .int 0, .int (Int32.ofNat deep), .int (Int32.ofNat b), .int 99, .int 0, .ref a4, .retAddr 0]) ht rfl rfl ?_
      refine zv_c1 ht rfl rfl ?_
      refine zv_br ht rfl rfl rfl (fun h => absurd h (by decide)) (fun _ => ?_)
      refine zv_c1 ht rfl rfl ?_
      refine zv_ci (st' := [.ref (gN S4), .ref r]) (S' := sNew S4 11 0 (zslots 11)) ht rfl rfl (znew_ok (show 1639 ≤ gN S4 from by omega) (show gN S4 < 2000000 from by omega)) ?_
      refine zv_c1 ht rfl rfl (zv_c1 ht rfl rfl ?_)
      refine zv_g3 (q := 0) ht rfl (zFin_new hF4) rfl rfl (zhas_of (Eq.trans (ztyp_new (S := S4) (t := 11) (n := 0) (s := zslots 11) (show r ≠ gN S4 from by omega)) p4.1.2.2.2.1) rfl) (Eq.trans (gP_new (S := S4) (t := 11) (n := 0) (s := zslots 11) (show r ≠ gN S4 from by omega)) p4.1.2.2.2.2) ?_
      refine zv_c1 ht rfl rfl (zv_c1 ht rfl rfl (zv_c1 ht rfl rfl ?_))
      have C7 : ∀ (pst6 : Outcome × zS → Prop), (pst6 (.returned none, sP (sI (sI (sP (sNew S4 11 0 (zslots 11)) 162 (gN S4) (some 0)) 144 (gN S4) (Int32.ofNat b)) 160 (gN S4) 99) 161 (gN S4) (some a4))) → zCall (d - 1) 295 [.ref (gN S4), .ref 0, .int (Int32.ofNat b), .int 99, .ref a4] (sNew S4 11 0 (zslots 11)) pst6 := by
        intro pst6 k13
        have ht8 : ztab 295 = ztb295 := rfl
        show zEv (d - 1) 295 0 [.ref (gN S4), .ref 0, .int (Int32.ofNat b), .int 99, .ref a4] [] (sNew S4 11 0 (zslots 11)) pst6
        refine zv_c1 ht8 rfl rfl (zv_c1 ht8 rfl rfl ?_)
        refine zv_ci (S' := sP (sNew S4 11 0 (zslots 11)) 162 (gN S4) (some 0)) ht8 rfl rfl ⟨(zhas_of (ztyp_new_at (S := S4) (t := 11) (n := 0) (s := zslots 11) (show 1639 ≤ gN S4 from by omega)) rfl), (show gN S4 < gN S4 + 1 from by omega)⟩ ?_
        refine zv_c1 ht8 rfl rfl (zv_c1 ht8 rfl rfl (zv_c1 ht8 rfl rfl ?_))
        have C10 : ∀ (pst9 : Outcome × zS → Prop), (pst9 (.returned none, sI (sP (sNew S4 11 0 (zslots 11)) 162 (gN S4) (some 0)) 144 (gN S4) (Int32.ofNat b))) → zCall ((d - 1) - 1) 280 [.ref (gN S4), .ref 0, .int (Int32.ofNat b)] (sP (sNew S4 11 0 (zslots 11)) 162 (gN S4) (some 0)) pst9 := by
          intro pst9 k12
          have ht11 : ztab 280 = ztb280 := rfl
          show zEv ((d - 1) - 1) 280 0 [.ref (gN S4), .ref 0, .int (Int32.ofNat b)] [] (sP (sNew S4 11 0 (zslots 11)) 162 (gN S4) (some 0)) pst9
          refine zv_c1 ht11 rfl rfl (zv_c1 ht11 rfl rfl ?_)
          refine zv_ci (S' := sP (sNew S4 11 0 (zslots 11)) 162 (gN S4) (some 0)) ht11 rfl rfl (zk5 (ztyp_new_at (S := S4) (t := 11) (n := 0) (s := zslots 11) (show 1639 ≤ gN S4 from by omega)) rfl (show gN S4 < gN S4 + 1 from by omega) rfl gP_sP_at) ?_
          refine zv_c1 ht11 rfl rfl (zv_c1 ht11 rfl rfl (zv_c1 ht11 rfl rfl (zv_c1 ht11 rfl rfl ?_)))
          refine zv_ci (S' := sI (sP (sNew S4 11 0 (zslots 11)) 162 (gN S4) (some 0)) 144 (gN S4) (Int32.ofNat b)) ht11 rfl rfl ⟨(zhas_of (ztyp_new_at (S := S4) (t := 11) (n := 0) (s := zslots 11) (show 1639 ≤ gN S4 from by omega)) rfl), (show gN S4 < gN S4 + 1 from by omega)⟩ ?_
          exact zv_rt ht11 rfl rfl rfl rfl k12
        refine zv_cl ht8 rfl rfl rfl rfl (by omega) (Nat.le_of_ble_eq_true rfl) (C10 _ ?_)
        show zEv (d - 1) 295 11 [.ref (gN S4), .ref 0, .int (Int32.ofNat b), .int 99, .ref a4] [] (sI (sP (sNew S4 11 0 (zslots 11)) 162 (gN S4) (some 0)) 144 (gN S4) (Int32.ofNat b)) pst6
        refine zv_c1 ht8 rfl rfl (zv_c1 ht8 rfl rfl ?_)
        refine zv_ci (S' := sI (sI (sP (sNew S4 11 0 (zslots 11)) 162 (gN S4) (some 0)) 144 (gN S4) (Int32.ofNat b)) 160 (gN S4) 99) ht8 rfl rfl ⟨⟨(zhas_of (ztyp_new_at (S := S4) (t := 11) (n := 0) (s := zslots 11) (show 1639 ≤ gN S4 from by omega)) rfl), (show gN S4 < gN S4 + 1 from by omega)⟩, (by decide)⟩ ?_
        refine zv_c1 ht8 rfl rfl (zv_c1 ht8 rfl rfl ?_)
        refine zv_ci (S' := sP (sI (sI (sP (sNew S4 11 0 (zslots 11)) 162 (gN S4) (some 0)) 144 (gN S4) (Int32.ofNat b)) 160 (gN S4) 99) 161 (gN S4) (some a4)) ht8 rfl rfl ⟨(zhas_of (ztyp_new_at (S := S4) (t := 11) (n := 0) (s := zslots 11) (show 1639 ≤ gN S4 from by omega)) rfl), (show gN S4 < gN S4 + 1 from by omega)⟩ ?_
        exact zv_rt ht8 rfl rfl rfl rfl k13
      refine zv_cl ht rfl rfl rfl rfl (by omega) (Nat.le_of_ble_eq_true rfl) (C7 _ ?_)
      show zEv d 260 152 [.ref r, .ref w, .int 0, .int (Int32.ofNat deep), .int (Int32.ofNat b), .int 99, .int 0, .ref a4, .retAddr 0] [.ref (gN S4), .ref r] (sP (sI (sI (sP (sNew S4 11 0 (zslots 11)) 162 (gN S4) (some 0)) 144 (gN S4) (Int32.ofNat b)) 160 (gN S4) 99) 161 (gN S4) (some a4)) post
      have C15 : ∀ (pst14 : Outcome × zS → Prop), (∀ S17 : zS, (zFin true S17) → (pJ (tN 21 0 [] b [y4]) = .ok (tN 21 0 [] b [y4])) → (xJd (sP (sI (sI (sP (sNew S4 11 0 (zslots 11)) 162 (gN S4) (some 0)) 144 (gN S4) (Int32.ofNat b)) 160 (gN S4) 99) 161 (gN S4) (some a4)) (gN S4) S17) → (xTl (gN S) S17 (tN 21 0 [] b [y4]) (gN S4)) → (xR tp sz S17 r at4 nd4) → (gN S17 = gN S4 + 1 ∧ gZ S17 = gZ S4 + 19) → pst14 (.returned (some (.ref (gN S4))), S17)) → (∀ S18 : zS, ∀ q18 : Nat, (zFin true S18) → (pJ (tN 21 0 [] b [y4]) = .error (3, b)) → (xFn (sP (sI (sI (sP (sNew S4 11 0 (zslots 11)) 162 (gN S4) (some 0)) 144 (gN S4) (Int32.ofNat b)) 160 (gN S4) 99) 161 (gN S4) (some a4)) (gN S4) S18) → (xFl S18 q18 3 b) → (gN S18 = gN S4 + 1 + 1 ∧ gZ S18 ≤ gZ S4 + 19 + 3) → pst14 (.threw q18, S18)) → zCall (d - 1) 253 [.ref r, .ref (gN S4)] (sP (sI (sI (sP (sNew S4 11 0 (zslots 11)) 162 (gN S4) (some 0)) 144 (gN S4) (Int32.ofNat b)) 160 (gN S4) 99) 161 (gN S4) (some a4)) pst14 := by
        intro pst14 k19 k20
        have ht16 : ztab 253 = ztb253 := rfl
        show zEv (d - 1) 253 0 [.ref r, .ref (gN S4)] [] (sP (sI (sI (sP (sNew S4 11 0 (zslots 11)) 162 (gN S4) (some 0)) 144 (gN S4) (Int32.ofNat b)) 160 (gN S4) 99) 161 (gN S4) (some a4)) pst14
        refine zv_c1 ht16 rfl rfl ?_
        refine zv_cl ht16 rfl rfl rfl (zv_tgm (ztyp_new_at (S := S4) (t := 11) (n := 0) (s := zslots 11) (show 1639 ≤ gN S4 from by omega)) rfl) (by omega) (Nat.le_of_ble_eq_true rfl) (x_judgeR (S := sP (sI (sI (sP (sNew S4 11 0 (zslots 11)) 162 (gN S4) (some 0)) 144 (gN S4) (Int32.ofNat b)) 160 (gN S4) 99) 161 (gN S4) (some a4)) (tp := tp) (sz := sz) (r := r) (a := gN S4) (k := 21) (v := 0) (p := b) (ks := []) (js := [a4]) (cs := [y4]) (g := gN S4 + 1) (lo := gN S) (zFin_sP (zFin_sP (zFin_new hF4) rfl) rfl) (by omega) (by omega) (by omega) (by omega) (by omega) rfl (xOwn_W (by decide) (ztyp_new_at (S := S4) (t := 11) (n := 0) (s := zslots 11) (show 1639 ≤ gN S4 from by omega)) (gI_sI_at) (gP_sP_at)) ⟨a4, _, rfl, (xTl.ch t4 (zKE.tr (zKE.tr (zKE.tr (zKE.tr (zKE.tr zKE.rf (zKE_new (show gN S4 ≤ gN S4 ∧ gN S4 < zLB from ⟨by omega, by have hLB : zLB = 4294967296 := rfl; omega⟩))) (zKE_sP (Or.inr (Or.inr ⟨by omega, by have hLB : zLB = 4294967296 := rfl; omega⟩)))) (zKE_sI (Or.inr (Or.inr ⟨by omega, by have hLB : zLB = 4294967296 := rfl; omega⟩)))) (zKE_sI (Or.inr (Or.inr ⟨by omega, by have hLB : zLB = 4294967296 := rfl; omega⟩)))) (zKE_sP (Or.inr (Or.inr ⟨by omega, by have hLB : zLB = 4294967296 := rfl; omega⟩)))) (by omega) (by intro j h1 h2; omega)), rfl⟩ (by decide) (by omega) (gI_sI_at) (gI_new_at (S := S4) (t := 11) (n := 0) (s := zslots 11)) (gI_new_at (S := S4) (t := 11) (n := 0) (s := zslots 11)) (xR.ke (Fs := []) p4 (zKE.tr (zKE.tr (zKE.tr (zKE.tr (zKE.tr zKE.rf (zKE_new (show gN S4 ≤ gN S4 ∧ gN S4 < zLB from ⟨by omega, by have hLB : zLB = 4294967296 := rfl; omega⟩))) (zKE_sP (Or.inr (Or.inr ⟨by omega, by have hLB : zLB = 4294967296 := rfl; omega⟩)))) (zKE_sI (Or.inr (Or.inr ⟨by omega, by have hLB : zLB = 4294967296 := rfl; omega⟩)))) (zKE_sI (Or.inr (Or.inr ⟨by omega, by have hLB : zLB = 4294967296 := rfl; omega⟩)))) (zKE_sP (Or.inr (Or.inr ⟨by omega, by have hLB : zLB = 4294967296 := rfl; omega⟩)))) (by omega) (by decide)) (by omega) (fun S17 hF17 e17 j17 t17 p17 g17 => ?_) (fun S18 q18 hF18 e18 k18 x18 g18 => ?_))
        · show zEv (d - 1) 253 4 [.ref r, .ref (gN S4)] [] S17 pst14
          refine zv_c1 ht16 rfl rfl ?_
          exact zv_rt ht16 rfl rfl rfl rfl (k19 S17 hF17 e17 j17 t17 p17 g17)
        · exact (k20 S18 q18 hF18 e18 k18 x18 g18)
      refine zv_cl ht rfl rfl rfl (zv_tgv (Eq.trans (ztyp_new (S := S4) (t := 11) (n := 0) (s := zslots 11) (show r ≠ gN S4 from by omega)) p4.1.2.2.2.1) rfl) (by omega) (Nat.le_of_ble_eq_true rfl) (C15 _ (fun S17 hF17 e17 j17 t17 p17 g17 => ?_) (fun S18 q18 hF18 e18 k18 x18 g18 => ?_))
      · show zEv d 260 155 [.ref r, .ref w, .int 0, .int (Int32.ofNat deep), .int (Int32.ofNat b), .int 99, .int 0, .ref a4, .retAddr 0] [.ref (gN S4)] S17 post
        exact zv_rt ht rfl rfl rfl rfl (h1 S2 nd2 hF2 e2 k2 p2 g2 b2 c2 d2 S4 a4 y4 at4 nd4 hF4 e4 k4 t4 p4 g4 c4 S17 hF17 e17 j17 t17 p17 g17)
      · exact (h2 S2 nd2 hF2 e2 k2 p2 g2 b2 c2 d2 S4 a4 y4 at4 nd4 hF4 e4 k4 t4 p4 g4 c4 S18 q18 hF18 e18 k18 x18 g18)
    · exact (h3 S2 nd2 hF2 e2 k2 p2 g2 b2 c2 d2 S5 q5 kk5 z5 hF5 e5 k5 x5 g5)
  · exact (h4 S3 q3 hF3 e3 k3 x3 g3)

theorem wrZ100 {d : Nat} {S : zS} (hF : zFin true S) (hd : 8 ≤ d) {tp : Nat → Nat} {sz at0 nd r : Nat} {rec : Nat → Nat → Nat → pE (zNd × Nat × Nat)} {K n : Nat} {w : Nat} (b e0 wl deep : Nat) (hR : xR tp sz S r b nd) (hs0 : sz ≤ 300) (ha0 : b ≤ sz) (hr1 : 1639 ≤ r) (hr2 : r < gN S) (hN : gN S + 30 * (sz - b) ≤ 1700000) (hdp : deep < 1000) (hnd : nd ≤ 80) (hw : xWd S w (pWl tp b e0)) (hwN : w < gN S) (hwl : (pWl tp b e0).length = wl) (hel : e0 = b + wl) (hes : e0 < sz) (hk : 0 < wl) (hcc : (pWl tp b e0).getD 0 0 = 100) (hbad : pBad (pWl tp b e0) b = .ok ()) (hIH : deep ≤ 24 → xWr tp sz (d - 1) w b e0 rec n 1 (deep + 1)) {post : Outcome × zS → Prop} (h1 : ∀ S2 : zS, ∀ nd2 : Nat, (zFin true S2) → (pRead b deep nd false = .ok nd2) → (xFr S S2) → (xR tp sz S2 r b nd2) → (gN S ≤ gN S2 ∧ gN S2 ≤ gN S + 0 ∧ gZ S2 ≤ gZ S + 0) → (b ≤ sz) → (nd2 ≤ 80) → (deep ≤ 24) → ∀ S4 : zS, ∀ a4 : Nat, ∀ y4 : zNd, ∀ at4 : Nat, ∀ nd4 : Nat, (zFin true S4) → (pWx tp sz rec n (b + 1) (deep + 1) e0 nd2 = .ok (y4, at4, nd4)) → (xFr (sI S2 133 r (Int32.ofNat (b + 1))) S4) → (xTl (gN S2) S4 y4 a4) → (xR tp sz S4 r at4 nd4) → (gN S2 ≤ gN S4 ∧ gN S4 + 30 * (sz - at4) ≤ gN S2 + 30 * (sz - e0) + 2 * (e0 - (b + 1)) ∧ gZ S4 + 150 * (sz - at4) ≤ gZ S2 + 150 * (sz - e0) + 60 * (e0 - (b + 1))) → (at4 ≤ sz ∧ gN S2 ≤ a4 ∧ a4 < gN S4) → ∀ S17 : zS, (zFin true S17) → (pJ (tN 22 0 [] b [y4]) = .ok (tN 22 0 [] b [y4])) → (xJd (sP (sI (sI (sP (sNew S4 11 0 (zslots 11)) 162 (gN S4) (some 0)) 144 (gN S4) (Int32.ofNat b)) 160 (gN S4) 100) 161 (gN S4) (some a4)) (gN S4) S17) → (xTl (gN S) S17 (tN 22 0 [] b [y4]) (gN S4)) → (xR tp sz S17 r at4 nd4) → (gN S17 = gN S4 + 1 ∧ gZ S17 = gZ S4 + 19) → post (.returned (some (.ref (gN S4))), S17)) (h2 : ∀ S2 : zS, ∀ nd2 : Nat, (zFin true S2) → (pRead b deep nd false = .ok nd2) → (xFr S S2) → (xR tp sz S2 r b nd2) → (gN S ≤ gN S2 ∧ gN S2 ≤ gN S + 0 ∧ gZ S2 ≤ gZ S + 0) → (b ≤ sz) → (nd2 ≤ 80) → (deep ≤ 24) → ∀ S4 : zS, ∀ a4 : Nat, ∀ y4 : zNd, ∀ at4 : Nat, ∀ nd4 : Nat, (zFin true S4) → (pWx tp sz rec n (b + 1) (deep + 1) e0 nd2 = .ok (y4, at4, nd4)) → (xFr (sI S2 133 r (Int32.ofNat (b + 1))) S4) → (xTl (gN S2) S4 y4 a4) → (xR tp sz S4 r at4 nd4) → (gN S2 ≤ gN S4 ∧ gN S4 + 30 * (sz - at4) ≤ gN S2 + 30 * (sz - e0) + 2 * (e0 - (b + 1)) ∧ gZ S4 + 150 * (sz - at4) ≤ gZ S2 + 150 * (sz - e0) + 60 * (e0 - (b + 1))) → (at4 ≤ sz ∧ gN S2 ≤ a4 ∧ a4 < gN S4) → ∀ S18 : zS, ∀ q18 : Nat, (zFin true S18) → (pJ (tN 22 0 [] b [y4]) = .error (3, b)) → (xFn (sP (sI (sI (sP (sNew S4 11 0 (zslots 11)) 162 (gN S4) (some 0)) 144 (gN S4) (Int32.ofNat b)) 160 (gN S4) 100) 161 (gN S4) (some a4)) (gN S4) S18) → (xFl S18 q18 3 b) → (gN S18 = gN S4 + 1 + 1 ∧ gZ S18 ≤ gZ S4 + 19 + 3) → post (.threw q18, S18)) (h3 : ∀ S2 : zS, ∀ nd2 : Nat, (zFin true S2) → (pRead b deep nd false = .ok nd2) → (xFr S S2) → (xR tp sz S2 r b nd2) → (gN S ≤ gN S2 ∧ gN S2 ≤ gN S + 0 ∧ gZ S2 ≤ gZ S + 0) → (b ≤ sz) → (nd2 ≤ 80) → (deep ≤ 24) → ∀ S5 : zS, ∀ q5 : Nat, ∀ kk5 : Nat, ∀ z5 : Nat, (zFin true S5) → (pWx tp sz rec n (b + 1) (deep + 1) e0 nd2 = .error (kk5, z5)) → (xFr (sI S2 133 r (Int32.ofNat (b + 1))) S5) → (xFl S5 q5 kk5 z5) → (gN S2 ≤ gN S5 ∧ gN S5 ≤ gN S2 + 30 * (sz - e0) + 2 * (e0 - (b + 1)) + 60 ∧ gZ S5 ≤ gZ S2 + 150 * (sz - e0) + 60 * (e0 - (b + 1)) + 2000) → post (.threw q5, S5)) (h4 : ∀ S3 : zS, ∀ q3 : Nat, (zFin true S3) → (pRead b deep nd false = .error (2, b)) → (xFr S S3) → (xFl S3 q3 2 b) → (gN S ≤ gN S3 ∧ gN S3 ≤ gN S + 1 ∧ gZ S3 ≤ gZ S + 3) → post (.threw q3, S3)) : zCall d 260 [.ref r, .ref w, .int 0, .int (Int32.ofNat deep)] S post := by
  have ht : ztab 260 = ztb260 := rfl
  show zEv d 260 0 [.ref r, .ref w, .int 0, .int (Int32.ofNat deep), .retAddr 0, .retAddr 0, .retAddr 0, .retAddr 0, .retAddr 0] [] S post
  refine zv_c1 ht rfl rfl ?_
  refine zv_ei (x := Int32.ofNat b) ht rfl rfl (zhas_of (hR.1.2.2.2.1) rfl) hR.1.1 ?_
  refine zv_c2 (L' := [.ref r, .ref w, .int 0, .int (Int32.ofNat deep), .int (Int32.ofNat b), .retAddr 0, .retAddr 0, .retAddr 0, .retAddr 0]) ht rfl rfl ?_
  refine zv_c1 ht rfl rfl (zv_c1 ht rfl rfl ?_)
  refine zv_cl ht rfl rfl rfl (zv_tgv ((zStr.t hw.1)) rfl) (by omega) (Nat.le_of_ble_eq_true rfl) (x_len (S := S) hF (by omega) hw.1 (n := wl) hwl ?_)
  show zEv d 260 11 [.ref r, .ref w, .int 0, .int (Int32.ofNat deep), .int (Int32.ofNat b), .retAddr 0, .retAddr 0, .retAddr 0, .retAddr 0] [.int (Int32.ofNat wl), .int 0] S post
  refine zv_br ht rfl rfl rfl (fun b1 => ?_) (fun b1 => (show False from by have hq := b1; have hz : 0 = wl := (zi_eqE (a := 0) (b := wl) rfl rfl (by omega) (by omega)).mp (Classical.not_not.mp hq); omega).elim)
  refine zv_c1 ht rfl rfl (zv_c1 ht rfl rfl ?_)
  refine zv_cl ht rfl rfl rfl (zv_tgv ((zStr.t hw.1)) rfl) (by omega) (Nat.le_of_ble_eq_true rfl) (x_char (S := S) hF (by omega) hw.1 (i := 0) (by omega) (c := 100) hcc ?_)
  show zEv d 260 39 [.ref r, .ref w, .int 0, .int (Int32.ofNat deep), .int (Int32.ofNat b), .retAddr 0, .retAddr 0, .retAddr 0, .retAddr 0] [.int 100] S post
  refine zv_c2 (L' := [.ref r, .ref w, .int 0, .int (Int32.ofNat deep), .int (Int32.ofNat b), .int 100, .retAddr 0, .retAddr 0, .retAddr 0]) ht rfl rfl ?_
  refine zv_c1 ht rfl rfl (zv_c1 ht rfl rfl ?_)
  refine zv_br ht rfl rfl rfl (fun h => absurd h (by decide)) (fun _ => ?_)
  refine zv_c1 ht rfl rfl (zv_c1 ht rfl rfl ?_)
  refine zv_br ht rfl rfl rfl (fun h => absurd h (by decide)) (fun _ => ?_)
  refine zv_c1 ht rfl rfl (zv_c1 ht rfl rfl ?_)
  refine zv_br ht rfl rfl rfl (fun _ => ?_) (fun h => absurd (by decide) h)
  refine zv_c1 ht rfl rfl ?_
  refine zv_c2 (L' := [.ref r, .ref w, .int 0, .int (Int32.ofNat deep), .int (Int32.ofNat b), .int 100, .int 0, .retAddr 0, .retAddr 0]) ht rfl rfl ?_
  refine zv_c1 ht rfl rfl ?_
  refine zv_br ht rfl rfl rfl (fun h => absurd h (by decide)) (fun _ => ?_)
  refine zv_c1 ht rfl rfl (zv_c1 ht rfl rfl ?_)
  refine zv_cl ht rfl rfl rfl (zv_tgv (hR.1.2.2.2.1) rfl) (by omega) (Nat.le_of_ble_eq_true rfl) (x_findOk (S := S) (r := r) hF (by omega) hR (by omega) hw (by omega) hbad ?_)
  show zEv d 260 78 [.ref r, .ref w, .int 0, .int (Int32.ofNat deep), .int (Int32.ofNat b), .int 100, .int 0, .retAddr 0, .retAddr 0] [] S post
  refine zv_c1 ht rfl rfl (zv_c1 ht rfl rfl (zv_c1 ht rfl rfl ?_))
  refine zv_br ht rfl rfl rfl (fun _ => ?_) (fun h => absurd (by decide) h)
  refine zv_c1 ht rfl rfl (zv_c1 ht rfl rfl ?_)
  refine zv_br ht rfl rfl rfl (fun _ => ?_) (fun h => absurd (by decide) h)
  refine zv_c1 ht rfl rfl ?_
  refine zv_cl ht rfl rfl rfl (zv_tgv (hR.1.2.2.2.1) rfl) (by omega) (Nat.le_of_ble_eq_true rfl) (x_begins (S := S) (tp := tp) (sz := sz) (r := r) (p := b) (dp := deep) (m := 1) (dq := deep) (two := false) hF (by omega) hR (by omega) (by omega) (by omega) (by omega) rfl rfl (fun S2 nd2 hF2 e2 k2 p2 g2 b2 c2 d2 => ?_) (fun S3 q3 hF3 e3 k3 x3 g3 => ?_))
  · show zEv d 260 106 [.ref r, .ref w, .int 0, .int (Int32.ofNat deep), .int (Int32.ofNat b), .int 100, .int 0, .retAddr 0, .retAddr 0] [] S2 post
    refine zv_c1 ht rfl rfl (zv_c1 ht rfl rfl ?_)
    refine zv_ei (x := Int32.ofNat b) ht rfl rfl (zhas_of (p2.1.2.2.2.1) rfl) p2.1.1 ?_
    refine zv_c1 ht rfl rfl ?_
    refine zv_e1 (x := Int32.ofNat (b + 1)) ht rfl rfl (zi_addE (a := b) (b := 1) rfl rfl) ?_
    refine zv_ci (S' := sI S2 133 r (Int32.ofNat (b + 1))) ht rfl rfl ⟨(zhas_of (p2.1.2.2.2.1) rfl), (show r < gN S2 from by omega)⟩ ?_
    refine zv_c1 ht rfl rfl (zv_c1 ht rfl rfl (zv_c1 ht rfl rfl (zv_c1 ht rfl rfl ?_)))
    refine zv_c1 (st' := [.int 1, .ref w, .ref r]) (S' := sI S2 133 r (Int32.ofNat (b + 1))) ht rfl rfl ?_
    refine zv_c1 ht rfl rfl (zv_c1 ht rfl rfl ?_)
    refine zv_e1 (x := Int32.ofNat (deep + 1)) ht rfl rfl (zi_addE (a := deep) (b := 1) rfl rfl) ?_
    refine zv_cl ht rfl rfl rfl (zv_tgv (p2.1.2.2.2.1) rfl) (by omega) (Nat.le_of_ble_eq_true rfl) (xEc.use (g := gN S2) (cN := gN S2 + 30 * (sz - e0) + 2 * (e0 - (b + 1))) (cZ := gZ S2 + 150 * (sz - e0) + 60 * (e0 - (b + 1))) rfl ((hIH (by omega)) (S := sI S2 133 r (Int32.ofNat (b + 1))) (r := r) hF2 (xR_at p2 (by omega)) (xWd.k hw (zKE.tr (zKE.tr zKE.rf (zKE.w k2 (show gN S ≤ gN S from by omega) (fun _ h => h) (fun _ h => h))) (zKE_sI (Or.inl (by decide))))) (by omega) (by omega)) (fun S4 a4 y4 at4 nd4 hF4 e4 k4 t4 p4 g4 c4 => ?_) (fun S5 q5 kk5 z5 hF5 e5 k5 x5 g5 => ?_))
    · show zEv d 260 127 [.ref r, .ref w, .int 0, .int (Int32.ofNat deep), .int (Int32.ofNat b), .int 100, .int 0, .retAddr 0, .retAddr 0] [.ref a4] S4 post
      refine zv_c2 (L' := [.ref r, .ref w, .int 0, .int (Int32.ofNat deep), .int (Int32.ofNat b), .int 100, .int 0, .ref a4, .retAddr 0]) ht rfl rfl ?_
      refine zv_c1 ht rfl rfl ?_
      refine zv_br ht rfl rfl rfl (fun h => absurd h (by decide)) (fun _ => ?_)
      refine zv_c1 ht rfl rfl ?_
      refine zv_ci (st' := [.ref (gN S4), .ref r]) (S' := sNew S4 11 0 (zslots 11)) ht rfl rfl (znew_ok (show 1639 ≤ gN S4 from by omega) (show gN S4 < 2000000 from by omega)) ?_
      refine zv_c1 ht rfl rfl (zv_c1 ht rfl rfl ?_)
      refine zv_g3 (q := 0) ht rfl (zFin_new hF4) rfl rfl (zhas_of (Eq.trans (ztyp_new (S := S4) (t := 11) (n := 0) (s := zslots 11) (show r ≠ gN S4 from by omega)) p4.1.2.2.2.1) rfl) (Eq.trans (gP_new (S := S4) (t := 11) (n := 0) (s := zslots 11) (show r ≠ gN S4 from by omega)) p4.1.2.2.2.2) ?_
      refine zv_c1 ht rfl rfl (zv_c1 ht rfl rfl (zv_c1 ht rfl rfl ?_))
      have C7 : ∀ (pst6 : Outcome × zS → Prop), (pst6 (.returned none, sP (sI (sI (sP (sNew S4 11 0 (zslots 11)) 162 (gN S4) (some 0)) 144 (gN S4) (Int32.ofNat b)) 160 (gN S4) 100) 161 (gN S4) (some a4))) → zCall (d - 1) 295 [.ref (gN S4), .ref 0, .int (Int32.ofNat b), .int 100, .ref a4] (sNew S4 11 0 (zslots 11)) pst6 := by
        intro pst6 k13
        have ht8 : ztab 295 = ztb295 := rfl
        show zEv (d - 1) 295 0 [.ref (gN S4), .ref 0, .int (Int32.ofNat b), .int 100, .ref a4] [] (sNew S4 11 0 (zslots 11)) pst6
        refine zv_c1 ht8 rfl rfl (zv_c1 ht8 rfl rfl ?_)
        refine zv_ci (S' := sP (sNew S4 11 0 (zslots 11)) 162 (gN S4) (some 0)) ht8 rfl rfl ⟨(zhas_of (ztyp_new_at (S := S4) (t := 11) (n := 0) (s := zslots 11) (show 1639 ≤ gN S4 from by omega)) rfl), (show gN S4 < gN S4 + 1 from by omega)⟩ ?_
        refine zv_c1 ht8 rfl rfl (zv_c1 ht8 rfl rfl (zv_c1 ht8 rfl rfl ?_))
        have C10 : ∀ (pst9 : Outcome × zS → Prop), (pst9 (.returned none, sI (sP (sNew S4 11 0 (zslots 11)) 162 (gN S4) (some 0)) 144 (gN S4) (Int32.ofNat b))) → zCall ((d - 1) - 1) 280 [.ref (gN S4), .ref 0, .int (Int32.ofNat b)] (sP (sNew S4 11 0 (zslots 11)) 162 (gN S4) (some 0)) pst9 := by
          intro pst9 k12
          have ht11 : ztab 280 = ztb280 := rfl
          show zEv ((d - 1) - 1) 280 0 [.ref (gN S4), .ref 0, .int (Int32.ofNat b)] [] (sP (sNew S4 11 0 (zslots 11)) 162 (gN S4) (some 0)) pst9
          refine zv_c1 ht11 rfl rfl (zv_c1 ht11 rfl rfl ?_)
          refine zv_ci (S' := sP (sNew S4 11 0 (zslots 11)) 162 (gN S4) (some 0)) ht11 rfl rfl (zk5 (ztyp_new_at (S := S4) (t := 11) (n := 0) (s := zslots 11) (show 1639 ≤ gN S4 from by omega)) rfl (show gN S4 < gN S4 + 1 from by omega) rfl gP_sP_at) ?_
          refine zv_c1 ht11 rfl rfl (zv_c1 ht11 rfl rfl (zv_c1 ht11 rfl rfl (zv_c1 ht11 rfl rfl ?_)))
          refine zv_ci (S' := sI (sP (sNew S4 11 0 (zslots 11)) 162 (gN S4) (some 0)) 144 (gN S4) (Int32.ofNat b)) ht11 rfl rfl ⟨(zhas_of (ztyp_new_at (S := S4) (t := 11) (n := 0) (s := zslots 11) (show 1639 ≤ gN S4 from by omega)) rfl), (show gN S4 < gN S4 + 1 from by omega)⟩ ?_
          exact zv_rt ht11 rfl rfl rfl rfl k12
        refine zv_cl ht8 rfl rfl rfl rfl (by omega) (Nat.le_of_ble_eq_true rfl) (C10 _ ?_)
        show zEv (d - 1) 295 11 [.ref (gN S4), .ref 0, .int (Int32.ofNat b), .int 100, .ref a4] [] (sI (sP (sNew S4 11 0 (zslots 11)) 162 (gN S4) (some 0)) 144 (gN S4) (Int32.ofNat b)) pst6
        refine zv_c1 ht8 rfl rfl (zv_c1 ht8 rfl rfl ?_)
        refine zv_ci (S' := sI (sI (sP (sNew S4 11 0 (zslots 11)) 162 (gN S4) (some 0)) 144 (gN S4) (Int32.ofNat b)) 160 (gN S4) 100) ht8 rfl rfl ⟨⟨(zhas_of (ztyp_new_at (S := S4) (t := 11) (n := 0) (s := zslots 11) (show 1639 ≤ gN S4 from by omega)) rfl), (show gN S4 < gN S4 + 1 from by omega)⟩, (by decide)⟩ ?_
        refine zv_c1 ht8 rfl rfl (zv_c1 ht8 rfl rfl ?_)
        refine zv_ci (S' := sP (sI (sI (sP (sNew S4 11 0 (zslots 11)) 162 (gN S4) (some 0)) 144 (gN S4) (Int32.ofNat b)) 160 (gN S4) 100) 161 (gN S4) (some a4)) ht8 rfl rfl ⟨(zhas_of (ztyp_new_at (S := S4) (t := 11) (n := 0) (s := zslots 11) (show 1639 ≤ gN S4 from by omega)) rfl), (show gN S4 < gN S4 + 1 from by omega)⟩ ?_
        exact zv_rt ht8 rfl rfl rfl rfl k13
      refine zv_cl ht rfl rfl rfl rfl (by omega) (Nat.le_of_ble_eq_true rfl) (C7 _ ?_)
      show zEv d 260 152 [.ref r, .ref w, .int 0, .int (Int32.ofNat deep), .int (Int32.ofNat b), .int 100, .int 0, .ref a4, .retAddr 0] [.ref (gN S4), .ref r] (sP (sI (sI (sP (sNew S4 11 0 (zslots 11)) 162 (gN S4) (some 0)) 144 (gN S4) (Int32.ofNat b)) 160 (gN S4) 100) 161 (gN S4) (some a4)) post
      have C15 : ∀ (pst14 : Outcome × zS → Prop), (∀ S17 : zS, (zFin true S17) → (pJ (tN 22 0 [] b [y4]) = .ok (tN 22 0 [] b [y4])) → (xJd (sP (sI (sI (sP (sNew S4 11 0 (zslots 11)) 162 (gN S4) (some 0)) 144 (gN S4) (Int32.ofNat b)) 160 (gN S4) 100) 161 (gN S4) (some a4)) (gN S4) S17) → (xTl (gN S) S17 (tN 22 0 [] b [y4]) (gN S4)) → (xR tp sz S17 r at4 nd4) → (gN S17 = gN S4 + 1 ∧ gZ S17 = gZ S4 + 19) → pst14 (.returned (some (.ref (gN S4))), S17)) → (∀ S18 : zS, ∀ q18 : Nat, (zFin true S18) → (pJ (tN 22 0 [] b [y4]) = .error (3, b)) → (xFn (sP (sI (sI (sP (sNew S4 11 0 (zslots 11)) 162 (gN S4) (some 0)) 144 (gN S4) (Int32.ofNat b)) 160 (gN S4) 100) 161 (gN S4) (some a4)) (gN S4) S18) → (xFl S18 q18 3 b) → (gN S18 = gN S4 + 1 + 1 ∧ gZ S18 ≤ gZ S4 + 19 + 3) → pst14 (.threw q18, S18)) → zCall (d - 1) 253 [.ref r, .ref (gN S4)] (sP (sI (sI (sP (sNew S4 11 0 (zslots 11)) 162 (gN S4) (some 0)) 144 (gN S4) (Int32.ofNat b)) 160 (gN S4) 100) 161 (gN S4) (some a4)) pst14 := by
        intro pst14 k19 k20
        have ht16 : ztab 253 = ztb253 := rfl
        show zEv (d - 1) 253 0 [.ref r, .ref (gN S4)] [] (sP (sI (sI (sP (sNew S4 11 0 (zslots 11)) 162 (gN S4) (some 0)) 144 (gN S4) (Int32.ofNat b)) 160 (gN S4) 100) 161 (gN S4) (some a4)) pst14
        refine zv_c1 ht16 rfl rfl ?_
        refine zv_cl ht16 rfl rfl rfl (zv_tgm (ztyp_new_at (S := S4) (t := 11) (n := 0) (s := zslots 11) (show 1639 ≤ gN S4 from by omega)) rfl) (by omega) (Nat.le_of_ble_eq_true rfl) (x_judgeR (S := sP (sI (sI (sP (sNew S4 11 0 (zslots 11)) 162 (gN S4) (some 0)) 144 (gN S4) (Int32.ofNat b)) 160 (gN S4) 100) 161 (gN S4) (some a4)) (tp := tp) (sz := sz) (r := r) (a := gN S4) (k := 22) (v := 0) (p := b) (ks := []) (js := [a4]) (cs := [y4]) (g := gN S4 + 1) (lo := gN S) (zFin_sP (zFin_sP (zFin_new hF4) rfl) rfl) (by omega) (by omega) (by omega) (by omega) (by omega) rfl (xOwn_W (by decide) (ztyp_new_at (S := S4) (t := 11) (n := 0) (s := zslots 11) (show 1639 ≤ gN S4 from by omega)) (gI_sI_at) (gP_sP_at)) ⟨a4, _, rfl, (xTl.ch t4 (zKE.tr (zKE.tr (zKE.tr (zKE.tr (zKE.tr zKE.rf (zKE_new (show gN S4 ≤ gN S4 ∧ gN S4 < zLB from ⟨by omega, by have hLB : zLB = 4294967296 := rfl; omega⟩))) (zKE_sP (Or.inr (Or.inr ⟨by omega, by have hLB : zLB = 4294967296 := rfl; omega⟩)))) (zKE_sI (Or.inr (Or.inr ⟨by omega, by have hLB : zLB = 4294967296 := rfl; omega⟩)))) (zKE_sI (Or.inr (Or.inr ⟨by omega, by have hLB : zLB = 4294967296 := rfl; omega⟩)))) (zKE_sP (Or.inr (Or.inr ⟨by omega, by have hLB : zLB = 4294967296 := rfl; omega⟩)))) (by omega) (by intro j h1 h2; omega)), rfl⟩ (by decide) (by omega) (gI_sI_at) (gI_new_at (S := S4) (t := 11) (n := 0) (s := zslots 11)) (gI_new_at (S := S4) (t := 11) (n := 0) (s := zslots 11)) (xR.ke (Fs := []) p4 (zKE.tr (zKE.tr (zKE.tr (zKE.tr (zKE.tr zKE.rf (zKE_new (show gN S4 ≤ gN S4 ∧ gN S4 < zLB from ⟨by omega, by have hLB : zLB = 4294967296 := rfl; omega⟩))) (zKE_sP (Or.inr (Or.inr ⟨by omega, by have hLB : zLB = 4294967296 := rfl; omega⟩)))) (zKE_sI (Or.inr (Or.inr ⟨by omega, by have hLB : zLB = 4294967296 := rfl; omega⟩)))) (zKE_sI (Or.inr (Or.inr ⟨by omega, by have hLB : zLB = 4294967296 := rfl; omega⟩)))) (zKE_sP (Or.inr (Or.inr ⟨by omega, by have hLB : zLB = 4294967296 := rfl; omega⟩)))) (by omega) (by decide)) (by omega) (fun S17 hF17 e17 j17 t17 p17 g17 => ?_) (fun S18 q18 hF18 e18 k18 x18 g18 => ?_))
        · show zEv (d - 1) 253 4 [.ref r, .ref (gN S4)] [] S17 pst14
          refine zv_c1 ht16 rfl rfl ?_
          exact zv_rt ht16 rfl rfl rfl rfl (k19 S17 hF17 e17 j17 t17 p17 g17)
        · exact (k20 S18 q18 hF18 e18 k18 x18 g18)
      refine zv_cl ht rfl rfl rfl (zv_tgv (Eq.trans (ztyp_new (S := S4) (t := 11) (n := 0) (s := zslots 11) (show r ≠ gN S4 from by omega)) p4.1.2.2.2.1) rfl) (by omega) (Nat.le_of_ble_eq_true rfl) (C15 _ (fun S17 hF17 e17 j17 t17 p17 g17 => ?_) (fun S18 q18 hF18 e18 k18 x18 g18 => ?_))
      · show zEv d 260 155 [.ref r, .ref w, .int 0, .int (Int32.ofNat deep), .int (Int32.ofNat b), .int 100, .int 0, .ref a4, .retAddr 0] [.ref (gN S4)] S17 post
        exact zv_rt ht rfl rfl rfl rfl (h1 S2 nd2 hF2 e2 k2 p2 g2 b2 c2 d2 S4 a4 y4 at4 nd4 hF4 e4 k4 t4 p4 g4 c4 S17 hF17 e17 j17 t17 p17 g17)
      · exact (h2 S2 nd2 hF2 e2 k2 p2 g2 b2 c2 d2 S4 a4 y4 at4 nd4 hF4 e4 k4 t4 p4 g4 c4 S18 q18 hF18 e18 k18 x18 g18)
    · exact (h3 S2 nd2 hF2 e2 k2 p2 g2 b2 c2 d2 S5 q5 kk5 z5 hF5 e5 k5 x5 g5)
  · exact (h4 S3 q3 hF3 e3 k3 x3 g3)

theorem wrZ118 {d : Nat} {S : zS} (hF : zFin true S) (hd : 8 ≤ d) {tp : Nat → Nat} {sz at0 nd r : Nat} {rec : Nat → Nat → Nat → pE (zNd × Nat × Nat)} {K n : Nat} {w : Nat} (b e0 wl deep : Nat) (hR : xR tp sz S r b nd) (hs0 : sz ≤ 300) (ha0 : b ≤ sz) (hr1 : 1639 ≤ r) (hr2 : r < gN S) (hN : gN S + 30 * (sz - b) ≤ 1700000) (hdp : deep < 1000) (hnd : nd ≤ 80) (hw : xWd S w (pWl tp b e0)) (hwN : w < gN S) (hwl : (pWl tp b e0).length = wl) (hel : e0 = b + wl) (hes : e0 < sz) (hk : 0 < wl) (hcc : (pWl tp b e0).getD 0 0 = 118) (hbad : pBad (pWl tp b e0) b = .ok ()) (hIH : deep ≤ 24 → xWr tp sz (d - 1) w b e0 rec n 1 (deep + 1)) {post : Outcome × zS → Prop} (h1 : ∀ S2 : zS, ∀ nd2 : Nat, (zFin true S2) → (pRead b deep nd false = .ok nd2) → (xFr S S2) → (xR tp sz S2 r b nd2) → (gN S ≤ gN S2 ∧ gN S2 ≤ gN S + 0 ∧ gZ S2 ≤ gZ S + 0) → (b ≤ sz) → (nd2 ≤ 80) → (deep ≤ 24) → ∀ S4 : zS, ∀ a4 : Nat, ∀ y4 : zNd, ∀ at4 : Nat, ∀ nd4 : Nat, (zFin true S4) → (pWx tp sz rec n (b + 1) (deep + 1) e0 nd2 = .ok (y4, at4, nd4)) → (xFr (sI S2 133 r (Int32.ofNat (b + 1))) S4) → (xTl (gN S2) S4 y4 a4) → (xR tp sz S4 r at4 nd4) → (gN S2 ≤ gN S4 ∧ gN S4 + 30 * (sz - at4) ≤ gN S2 + 30 * (sz - e0) + 2 * (e0 - (b + 1)) ∧ gZ S4 + 150 * (sz - at4) ≤ gZ S2 + 150 * (sz - e0) + 60 * (e0 - (b + 1))) → (at4 ≤ sz ∧ gN S2 ≤ a4 ∧ a4 < gN S4) → ∀ S17 : zS, (zFin true S17) → (pJ (tN 23 0 [] b [y4]) = .ok (tN 23 0 [] b [y4])) → (xJd (sP (sI (sI (sP (sNew S4 11 0 (zslots 11)) 162 (gN S4) (some 0)) 144 (gN S4) (Int32.ofNat b)) 160 (gN S4) 118) 161 (gN S4) (some a4)) (gN S4) S17) → (xTl (gN S) S17 (tN 23 0 [] b [y4]) (gN S4)) → (xR tp sz S17 r at4 nd4) → (gN S17 = gN S4 + 1 ∧ gZ S17 = gZ S4 + 19) → post (.returned (some (.ref (gN S4))), S17)) (h2 : ∀ S2 : zS, ∀ nd2 : Nat, (zFin true S2) → (pRead b deep nd false = .ok nd2) → (xFr S S2) → (xR tp sz S2 r b nd2) → (gN S ≤ gN S2 ∧ gN S2 ≤ gN S + 0 ∧ gZ S2 ≤ gZ S + 0) → (b ≤ sz) → (nd2 ≤ 80) → (deep ≤ 24) → ∀ S4 : zS, ∀ a4 : Nat, ∀ y4 : zNd, ∀ at4 : Nat, ∀ nd4 : Nat, (zFin true S4) → (pWx tp sz rec n (b + 1) (deep + 1) e0 nd2 = .ok (y4, at4, nd4)) → (xFr (sI S2 133 r (Int32.ofNat (b + 1))) S4) → (xTl (gN S2) S4 y4 a4) → (xR tp sz S4 r at4 nd4) → (gN S2 ≤ gN S4 ∧ gN S4 + 30 * (sz - at4) ≤ gN S2 + 30 * (sz - e0) + 2 * (e0 - (b + 1)) ∧ gZ S4 + 150 * (sz - at4) ≤ gZ S2 + 150 * (sz - e0) + 60 * (e0 - (b + 1))) → (at4 ≤ sz ∧ gN S2 ≤ a4 ∧ a4 < gN S4) → ∀ S18 : zS, ∀ q18 : Nat, (zFin true S18) → (pJ (tN 23 0 [] b [y4]) = .error (3, b)) → (xFn (sP (sI (sI (sP (sNew S4 11 0 (zslots 11)) 162 (gN S4) (some 0)) 144 (gN S4) (Int32.ofNat b)) 160 (gN S4) 118) 161 (gN S4) (some a4)) (gN S4) S18) → (xFl S18 q18 3 b) → (gN S18 = gN S4 + 1 + 1 ∧ gZ S18 ≤ gZ S4 + 19 + 3) → post (.threw q18, S18)) (h3 : ∀ S2 : zS, ∀ nd2 : Nat, (zFin true S2) → (pRead b deep nd false = .ok nd2) → (xFr S S2) → (xR tp sz S2 r b nd2) → (gN S ≤ gN S2 ∧ gN S2 ≤ gN S + 0 ∧ gZ S2 ≤ gZ S + 0) → (b ≤ sz) → (nd2 ≤ 80) → (deep ≤ 24) → ∀ S5 : zS, ∀ q5 : Nat, ∀ kk5 : Nat, ∀ z5 : Nat, (zFin true S5) → (pWx tp sz rec n (b + 1) (deep + 1) e0 nd2 = .error (kk5, z5)) → (xFr (sI S2 133 r (Int32.ofNat (b + 1))) S5) → (xFl S5 q5 kk5 z5) → (gN S2 ≤ gN S5 ∧ gN S5 ≤ gN S2 + 30 * (sz - e0) + 2 * (e0 - (b + 1)) + 60 ∧ gZ S5 ≤ gZ S2 + 150 * (sz - e0) + 60 * (e0 - (b + 1)) + 2000) → post (.threw q5, S5)) (h4 : ∀ S3 : zS, ∀ q3 : Nat, (zFin true S3) → (pRead b deep nd false = .error (2, b)) → (xFr S S3) → (xFl S3 q3 2 b) → (gN S ≤ gN S3 ∧ gN S3 ≤ gN S + 1 ∧ gZ S3 ≤ gZ S + 3) → post (.threw q3, S3)) : zCall d 260 [.ref r, .ref w, .int 0, .int (Int32.ofNat deep)] S post := by
  have ht : ztab 260 = ztb260 := rfl
  show zEv d 260 0 [.ref r, .ref w, .int 0, .int (Int32.ofNat deep), .retAddr 0, .retAddr 0, .retAddr 0, .retAddr 0, .retAddr 0] [] S post
  refine zv_c1 ht rfl rfl ?_
  refine zv_ei (x := Int32.ofNat b) ht rfl rfl (zhas_of (hR.1.2.2.2.1) rfl) hR.1.1 ?_
  refine zv_c2 (L' := [.ref r, .ref w, .int 0, .int (Int32.ofNat deep), .int (Int32.ofNat b), .retAddr 0, .retAddr 0, .retAddr 0, .retAddr 0]) ht rfl rfl ?_
  refine zv_c1 ht rfl rfl (zv_c1 ht rfl rfl ?_)
  refine zv_cl ht rfl rfl rfl (zv_tgv ((zStr.t hw.1)) rfl) (by omega) (Nat.le_of_ble_eq_true rfl) (x_len (S := S) hF (by omega) hw.1 (n := wl) hwl ?_)
  show zEv d 260 11 [.ref r, .ref w, .int 0, .int (Int32.ofNat deep), .int (Int32.ofNat b), .retAddr 0, .retAddr 0, .retAddr 0, .retAddr 0] [.int (Int32.ofNat wl), .int 0] S post
  refine zv_br ht rfl rfl rfl (fun b1 => ?_) (fun b1 => (show False from by have hq := b1; have hz : 0 = wl := (zi_eqE (a := 0) (b := wl) rfl rfl (by omega) (by omega)).mp (Classical.not_not.mp hq); omega).elim)
  refine zv_c1 ht rfl rfl (zv_c1 ht rfl rfl ?_)
  refine zv_cl ht rfl rfl rfl (zv_tgv ((zStr.t hw.1)) rfl) (by omega) (Nat.le_of_ble_eq_true rfl) (x_char (S := S) hF (by omega) hw.1 (i := 0) (by omega) (c := 118) hcc ?_)
  show zEv d 260 39 [.ref r, .ref w, .int 0, .int (Int32.ofNat deep), .int (Int32.ofNat b), .retAddr 0, .retAddr 0, .retAddr 0, .retAddr 0] [.int 118] S post
  refine zv_c2 (L' := [.ref r, .ref w, .int 0, .int (Int32.ofNat deep), .int (Int32.ofNat b), .int 118, .retAddr 0, .retAddr 0, .retAddr 0]) ht rfl rfl ?_
  refine zv_c1 ht rfl rfl (zv_c1 ht rfl rfl ?_)
  refine zv_br ht rfl rfl rfl (fun h => absurd h (by decide)) (fun _ => ?_)
  refine zv_c1 ht rfl rfl (zv_c1 ht rfl rfl ?_)
  refine zv_br ht rfl rfl rfl (fun h => absurd h (by decide)) (fun _ => ?_)
  refine zv_c1 ht rfl rfl (zv_c1 ht rfl rfl ?_)
  refine zv_br ht rfl rfl rfl (fun _ => ?_) (fun h => absurd (by decide) h)
  refine zv_c1 ht rfl rfl ?_
  refine zv_c2 (L' := [.ref r, .ref w, .int 0, .int (Int32.ofNat deep), .int (Int32.ofNat b), .int 118, .int 0, .retAddr 0, .retAddr 0]) ht rfl rfl ?_
  refine zv_c1 ht rfl rfl ?_
  refine zv_br ht rfl rfl rfl (fun h => absurd h (by decide)) (fun _ => ?_)
  refine zv_c1 ht rfl rfl (zv_c1 ht rfl rfl ?_)
  refine zv_cl ht rfl rfl rfl (zv_tgv (hR.1.2.2.2.1) rfl) (by omega) (Nat.le_of_ble_eq_true rfl) (x_findOk (S := S) (r := r) hF (by omega) hR (by omega) hw (by omega) hbad ?_)
  show zEv d 260 78 [.ref r, .ref w, .int 0, .int (Int32.ofNat deep), .int (Int32.ofNat b), .int 118, .int 0, .retAddr 0, .retAddr 0] [] S post
  refine zv_c1 ht rfl rfl (zv_c1 ht rfl rfl (zv_c1 ht rfl rfl ?_))
  refine zv_br ht rfl rfl rfl (fun _ => ?_) (fun h => absurd (by decide) h)
  refine zv_c1 ht rfl rfl (zv_c1 ht rfl rfl ?_)
  refine zv_br ht rfl rfl rfl (fun _ => ?_) (fun h => absurd (by decide) h)
  refine zv_c1 ht rfl rfl ?_
  refine zv_cl ht rfl rfl rfl (zv_tgv (hR.1.2.2.2.1) rfl) (by omega) (Nat.le_of_ble_eq_true rfl) (x_begins (S := S) (tp := tp) (sz := sz) (r := r) (p := b) (dp := deep) (m := 1) (dq := deep) (two := false) hF (by omega) hR (by omega) (by omega) (by omega) (by omega) rfl rfl (fun S2 nd2 hF2 e2 k2 p2 g2 b2 c2 d2 => ?_) (fun S3 q3 hF3 e3 k3 x3 g3 => ?_))
  · show zEv d 260 106 [.ref r, .ref w, .int 0, .int (Int32.ofNat deep), .int (Int32.ofNat b), .int 118, .int 0, .retAddr 0, .retAddr 0] [] S2 post
    refine zv_c1 ht rfl rfl (zv_c1 ht rfl rfl ?_)
    refine zv_ei (x := Int32.ofNat b) ht rfl rfl (zhas_of (p2.1.2.2.2.1) rfl) p2.1.1 ?_
    refine zv_c1 ht rfl rfl ?_
    refine zv_e1 (x := Int32.ofNat (b + 1)) ht rfl rfl (zi_addE (a := b) (b := 1) rfl rfl) ?_
    refine zv_ci (S' := sI S2 133 r (Int32.ofNat (b + 1))) ht rfl rfl ⟨(zhas_of (p2.1.2.2.2.1) rfl), (show r < gN S2 from by omega)⟩ ?_
    refine zv_c1 ht rfl rfl (zv_c1 ht rfl rfl (zv_c1 ht rfl rfl (zv_c1 ht rfl rfl ?_)))
    refine zv_c1 (st' := [.int 1, .ref w, .ref r]) (S' := sI S2 133 r (Int32.ofNat (b + 1))) ht rfl rfl ?_
    refine zv_c1 ht rfl rfl (zv_c1 ht rfl rfl ?_)
    refine zv_e1 (x := Int32.ofNat (deep + 1)) ht rfl rfl (zi_addE (a := deep) (b := 1) rfl rfl) ?_
    refine zv_cl ht rfl rfl rfl (zv_tgv (p2.1.2.2.2.1) rfl) (by omega) (Nat.le_of_ble_eq_true rfl) (xEc.use (g := gN S2) (cN := gN S2 + 30 * (sz - e0) + 2 * (e0 - (b + 1))) (cZ := gZ S2 + 150 * (sz - e0) + 60 * (e0 - (b + 1))) rfl ((hIH (by omega)) (S := sI S2 133 r (Int32.ofNat (b + 1))) (r := r) hF2 (xR_at p2 (by omega)) (xWd.k hw (zKE.tr (zKE.tr zKE.rf (zKE.w k2 (show gN S ≤ gN S from by omega) (fun _ h => h) (fun _ h => h))) (zKE_sI (Or.inl (by decide))))) (by omega) (by omega)) (fun S4 a4 y4 at4 nd4 hF4 e4 k4 t4 p4 g4 c4 => ?_) (fun S5 q5 kk5 z5 hF5 e5 k5 x5 g5 => ?_))
    · show zEv d 260 127 [.ref r, .ref w, .int 0, .int (Int32.ofNat deep), .int (Int32.ofNat b), .int 118, .int 0, .retAddr 0, .retAddr 0] [.ref a4] S4 post
      refine zv_c2 (L' := [.ref r, .ref w, .int 0, .int (Int32.ofNat deep), .int (Int32.ofNat b), .int 118, .int 0, .ref a4, .retAddr 0]) ht rfl rfl ?_
      refine zv_c1 ht rfl rfl ?_
      refine zv_br ht rfl rfl rfl (fun h => absurd h (by decide)) (fun _ => ?_)
      refine zv_c1 ht rfl rfl ?_
      refine zv_ci (st' := [.ref (gN S4), .ref r]) (S' := sNew S4 11 0 (zslots 11)) ht rfl rfl (znew_ok (show 1639 ≤ gN S4 from by omega) (show gN S4 < 2000000 from by omega)) ?_
      refine zv_c1 ht rfl rfl (zv_c1 ht rfl rfl ?_)
      refine zv_g3 (q := 0) ht rfl (zFin_new hF4) rfl rfl (zhas_of (Eq.trans (ztyp_new (S := S4) (t := 11) (n := 0) (s := zslots 11) (show r ≠ gN S4 from by omega)) p4.1.2.2.2.1) rfl) (Eq.trans (gP_new (S := S4) (t := 11) (n := 0) (s := zslots 11) (show r ≠ gN S4 from by omega)) p4.1.2.2.2.2) ?_
      refine zv_c1 ht rfl rfl (zv_c1 ht rfl rfl (zv_c1 ht rfl rfl ?_))
      have C7 : ∀ (pst6 : Outcome × zS → Prop), (pst6 (.returned none, sP (sI (sI (sP (sNew S4 11 0 (zslots 11)) 162 (gN S4) (some 0)) 144 (gN S4) (Int32.ofNat b)) 160 (gN S4) 118) 161 (gN S4) (some a4))) → zCall (d - 1) 295 [.ref (gN S4), .ref 0, .int (Int32.ofNat b), .int 118, .ref a4] (sNew S4 11 0 (zslots 11)) pst6 := by
        intro pst6 k13
        have ht8 : ztab 295 = ztb295 := rfl
        show zEv (d - 1) 295 0 [.ref (gN S4), .ref 0, .int (Int32.ofNat b), .int 118, .ref a4] [] (sNew S4 11 0 (zslots 11)) pst6
        refine zv_c1 ht8 rfl rfl (zv_c1 ht8 rfl rfl ?_)
        refine zv_ci (S' := sP (sNew S4 11 0 (zslots 11)) 162 (gN S4) (some 0)) ht8 rfl rfl ⟨(zhas_of (ztyp_new_at (S := S4) (t := 11) (n := 0) (s := zslots 11) (show 1639 ≤ gN S4 from by omega)) rfl), (show gN S4 < gN S4 + 1 from by omega)⟩ ?_
        refine zv_c1 ht8 rfl rfl (zv_c1 ht8 rfl rfl (zv_c1 ht8 rfl rfl ?_))
        have C10 : ∀ (pst9 : Outcome × zS → Prop), (pst9 (.returned none, sI (sP (sNew S4 11 0 (zslots 11)) 162 (gN S4) (some 0)) 144 (gN S4) (Int32.ofNat b))) → zCall ((d - 1) - 1) 280 [.ref (gN S4), .ref 0, .int (Int32.ofNat b)] (sP (sNew S4 11 0 (zslots 11)) 162 (gN S4) (some 0)) pst9 := by
          intro pst9 k12
          have ht11 : ztab 280 = ztb280 := rfl
          show zEv ((d - 1) - 1) 280 0 [.ref (gN S4), .ref 0, .int (Int32.ofNat b)] [] (sP (sNew S4 11 0 (zslots 11)) 162 (gN S4) (some 0)) pst9
          refine zv_c1 ht11 rfl rfl (zv_c1 ht11 rfl rfl ?_)
          refine zv_ci (S' := sP (sNew S4 11 0 (zslots 11)) 162 (gN S4) (some 0)) ht11 rfl rfl (zk5 (ztyp_new_at (S := S4) (t := 11) (n := 0) (s := zslots 11) (show 1639 ≤ gN S4 from by omega)) rfl (show gN S4 < gN S4 + 1 from by omega) rfl gP_sP_at) ?_
          refine zv_c1 ht11 rfl rfl (zv_c1 ht11 rfl rfl (zv_c1 ht11 rfl rfl (zv_c1 ht11 rfl rfl ?_)))
          refine zv_ci (S' := sI (sP (sNew S4 11 0 (zslots 11)) 162 (gN S4) (some 0)) 144 (gN S4) (Int32.ofNat b)) ht11 rfl rfl ⟨(zhas_of (ztyp_new_at (S := S4) (t := 11) (n := 0) (s := zslots 11) (show 1639 ≤ gN S4 from by omega)) rfl), (show gN S4 < gN S4 + 1 from by omega)⟩ ?_
          exact zv_rt ht11 rfl rfl rfl rfl k12
        refine zv_cl ht8 rfl rfl rfl rfl (by omega) (Nat.le_of_ble_eq_true rfl) (C10 _ ?_)
        show zEv (d - 1) 295 11 [.ref (gN S4), .ref 0, .int (Int32.ofNat b), .int 118, .ref a4] [] (sI (sP (sNew S4 11 0 (zslots 11)) 162 (gN S4) (some 0)) 144 (gN S4) (Int32.ofNat b)) pst6
        refine zv_c1 ht8 rfl rfl (zv_c1 ht8 rfl rfl ?_)
        refine zv_ci (S' := sI (sI (sP (sNew S4 11 0 (zslots 11)) 162 (gN S4) (some 0)) 144 (gN S4) (Int32.ofNat b)) 160 (gN S4) 118) ht8 rfl rfl ⟨⟨(zhas_of (ztyp_new_at (S := S4) (t := 11) (n := 0) (s := zslots 11) (show 1639 ≤ gN S4 from by omega)) rfl), (show gN S4 < gN S4 + 1 from by omega)⟩, (by decide)⟩ ?_
        refine zv_c1 ht8 rfl rfl (zv_c1 ht8 rfl rfl ?_)
        refine zv_ci (S' := sP (sI (sI (sP (sNew S4 11 0 (zslots 11)) 162 (gN S4) (some 0)) 144 (gN S4) (Int32.ofNat b)) 160 (gN S4) 118) 161 (gN S4) (some a4)) ht8 rfl rfl ⟨(zhas_of (ztyp_new_at (S := S4) (t := 11) (n := 0) (s := zslots 11) (show 1639 ≤ gN S4 from by omega)) rfl), (show gN S4 < gN S4 + 1 from by omega)⟩ ?_
        exact zv_rt ht8 rfl rfl rfl rfl k13
      refine zv_cl ht rfl rfl rfl rfl (by omega) (Nat.le_of_ble_eq_true rfl) (C7 _ ?_)
      show zEv d 260 152 [.ref r, .ref w, .int 0, .int (Int32.ofNat deep), .int (Int32.ofNat b), .int 118, .int 0, .ref a4, .retAddr 0] [.ref (gN S4), .ref r] (sP (sI (sI (sP (sNew S4 11 0 (zslots 11)) 162 (gN S4) (some 0)) 144 (gN S4) (Int32.ofNat b)) 160 (gN S4) 118) 161 (gN S4) (some a4)) post
      have C15 : ∀ (pst14 : Outcome × zS → Prop), (∀ S17 : zS, (zFin true S17) → (pJ (tN 23 0 [] b [y4]) = .ok (tN 23 0 [] b [y4])) → (xJd (sP (sI (sI (sP (sNew S4 11 0 (zslots 11)) 162 (gN S4) (some 0)) 144 (gN S4) (Int32.ofNat b)) 160 (gN S4) 118) 161 (gN S4) (some a4)) (gN S4) S17) → (xTl (gN S) S17 (tN 23 0 [] b [y4]) (gN S4)) → (xR tp sz S17 r at4 nd4) → (gN S17 = gN S4 + 1 ∧ gZ S17 = gZ S4 + 19) → pst14 (.returned (some (.ref (gN S4))), S17)) → (∀ S18 : zS, ∀ q18 : Nat, (zFin true S18) → (pJ (tN 23 0 [] b [y4]) = .error (3, b)) → (xFn (sP (sI (sI (sP (sNew S4 11 0 (zslots 11)) 162 (gN S4) (some 0)) 144 (gN S4) (Int32.ofNat b)) 160 (gN S4) 118) 161 (gN S4) (some a4)) (gN S4) S18) → (xFl S18 q18 3 b) → (gN S18 = gN S4 + 1 + 1 ∧ gZ S18 ≤ gZ S4 + 19 + 3) → pst14 (.threw q18, S18)) → zCall (d - 1) 253 [.ref r, .ref (gN S4)] (sP (sI (sI (sP (sNew S4 11 0 (zslots 11)) 162 (gN S4) (some 0)) 144 (gN S4) (Int32.ofNat b)) 160 (gN S4) 118) 161 (gN S4) (some a4)) pst14 := by
        intro pst14 k19 k20
        have ht16 : ztab 253 = ztb253 := rfl
        show zEv (d - 1) 253 0 [.ref r, .ref (gN S4)] [] (sP (sI (sI (sP (sNew S4 11 0 (zslots 11)) 162 (gN S4) (some 0)) 144 (gN S4) (Int32.ofNat b)) 160 (gN S4) 118) 161 (gN S4) (some a4)) pst14
        refine zv_c1 ht16 rfl rfl ?_
        refine zv_cl ht16 rfl rfl rfl (zv_tgm (ztyp_new_at (S := S4) (t := 11) (n := 0) (s := zslots 11) (show 1639 ≤ gN S4 from by omega)) rfl) (by omega) (Nat.le_of_ble_eq_true rfl) (x_judgeR (S := sP (sI (sI (sP (sNew S4 11 0 (zslots 11)) 162 (gN S4) (some 0)) 144 (gN S4) (Int32.ofNat b)) 160 (gN S4) 118) 161 (gN S4) (some a4)) (tp := tp) (sz := sz) (r := r) (a := gN S4) (k := 23) (v := 0) (p := b) (ks := []) (js := [a4]) (cs := [y4]) (g := gN S4 + 1) (lo := gN S) (zFin_sP (zFin_sP (zFin_new hF4) rfl) rfl) (by omega) (by omega) (by omega) (by omega) (by omega) rfl (xOwn_W (by decide) (ztyp_new_at (S := S4) (t := 11) (n := 0) (s := zslots 11) (show 1639 ≤ gN S4 from by omega)) (gI_sI_at) (gP_sP_at)) ⟨a4, _, rfl, (xTl.ch t4 (zKE.tr (zKE.tr (zKE.tr (zKE.tr (zKE.tr zKE.rf (zKE_new (show gN S4 ≤ gN S4 ∧ gN S4 < zLB from ⟨by omega, by have hLB : zLB = 4294967296 := rfl; omega⟩))) (zKE_sP (Or.inr (Or.inr ⟨by omega, by have hLB : zLB = 4294967296 := rfl; omega⟩)))) (zKE_sI (Or.inr (Or.inr ⟨by omega, by have hLB : zLB = 4294967296 := rfl; omega⟩)))) (zKE_sI (Or.inr (Or.inr ⟨by omega, by have hLB : zLB = 4294967296 := rfl; omega⟩)))) (zKE_sP (Or.inr (Or.inr ⟨by omega, by have hLB : zLB = 4294967296 := rfl; omega⟩)))) (by omega) (by intro j h1 h2; omega)), rfl⟩ (by decide) (by omega) (gI_sI_at) (gI_new_at (S := S4) (t := 11) (n := 0) (s := zslots 11)) (gI_new_at (S := S4) (t := 11) (n := 0) (s := zslots 11)) (xR.ke (Fs := []) p4 (zKE.tr (zKE.tr (zKE.tr (zKE.tr (zKE.tr zKE.rf (zKE_new (show gN S4 ≤ gN S4 ∧ gN S4 < zLB from ⟨by omega, by have hLB : zLB = 4294967296 := rfl; omega⟩))) (zKE_sP (Or.inr (Or.inr ⟨by omega, by have hLB : zLB = 4294967296 := rfl; omega⟩)))) (zKE_sI (Or.inr (Or.inr ⟨by omega, by have hLB : zLB = 4294967296 := rfl; omega⟩)))) (zKE_sI (Or.inr (Or.inr ⟨by omega, by have hLB : zLB = 4294967296 := rfl; omega⟩)))) (zKE_sP (Or.inr (Or.inr ⟨by omega, by have hLB : zLB = 4294967296 := rfl; omega⟩)))) (by omega) (by decide)) (by omega) (fun S17 hF17 e17 j17 t17 p17 g17 => ?_) (fun S18 q18 hF18 e18 k18 x18 g18 => ?_))
        · show zEv (d - 1) 253 4 [.ref r, .ref (gN S4)] [] S17 pst14
          refine zv_c1 ht16 rfl rfl ?_
          exact zv_rt ht16 rfl rfl rfl rfl (k19 S17 hF17 e17 j17 t17 p17 g17)
        · exact (k20 S18 q18 hF18 e18 k18 x18 g18)
      refine zv_cl ht rfl rfl rfl (zv_tgv (Eq.trans (ztyp_new (S := S4) (t := 11) (n := 0) (s := zslots 11) (show r ≠ gN S4 from by omega)) p4.1.2.2.2.1) rfl) (by omega) (Nat.le_of_ble_eq_true rfl) (C15 _ (fun S17 hF17 e17 j17 t17 p17 g17 => ?_) (fun S18 q18 hF18 e18 k18 x18 g18 => ?_))
      · show zEv d 260 155 [.ref r, .ref w, .int 0, .int (Int32.ofNat deep), .int (Int32.ofNat b), .int 118, .int 0, .ref a4, .retAddr 0] [.ref (gN S4)] S17 post
        exact zv_rt ht rfl rfl rfl rfl (h1 S2 nd2 hF2 e2 k2 p2 g2 b2 c2 d2 S4 a4 y4 at4 nd4 hF4 e4 k4 t4 p4 g4 c4 S17 hF17 e17 j17 t17 p17 g17)
      · exact (h2 S2 nd2 hF2 e2 k2 p2 g2 b2 c2 d2 S4 a4 y4 at4 nd4 hF4 e4 k4 t4 p4 g4 c4 S18 q18 hF18 e18 k18 x18 g18)
    · exact (h3 S2 nd2 hF2 e2 k2 p2 g2 b2 c2 d2 S5 q5 kk5 z5 hF5 e5 k5 x5 g5)
  · exact (h4 S3 q3 hF3 e3 k3 x3 g3)

theorem wrZ106 {d : Nat} {S : zS} (hF : zFin true S) (hd : 8 ≤ d) {tp : Nat → Nat} {sz at0 nd r : Nat} {rec : Nat → Nat → Nat → pE (zNd × Nat × Nat)} {K n : Nat} {w : Nat} (b e0 wl deep : Nat) (hR : xR tp sz S r b nd) (hs0 : sz ≤ 300) (ha0 : b ≤ sz) (hr1 : 1639 ≤ r) (hr2 : r < gN S) (hN : gN S + 30 * (sz - b) ≤ 1700000) (hdp : deep < 1000) (hnd : nd ≤ 80) (hw : xWd S w (pWl tp b e0)) (hwN : w < gN S) (hwl : (pWl tp b e0).length = wl) (hel : e0 = b + wl) (hes : e0 < sz) (hk : 0 < wl) (hcc : (pWl tp b e0).getD 0 0 = 106) (hbad : pBad (pWl tp b e0) b = .ok ()) (hIH : deep ≤ 24 → xWr tp sz (d - 1) w b e0 rec n 1 (deep + 1)) {post : Outcome × zS → Prop} (h1 : ∀ S2 : zS, ∀ nd2 : Nat, (zFin true S2) → (pRead b deep nd false = .ok nd2) → (xFr S S2) → (xR tp sz S2 r b nd2) → (gN S ≤ gN S2 ∧ gN S2 ≤ gN S + 0 ∧ gZ S2 ≤ gZ S + 0) → (b ≤ sz) → (nd2 ≤ 80) → (deep ≤ 24) → ∀ S4 : zS, ∀ a4 : Nat, ∀ y4 : zNd, ∀ at4 : Nat, ∀ nd4 : Nat, (zFin true S4) → (pWx tp sz rec n (b + 1) (deep + 1) e0 nd2 = .ok (y4, at4, nd4)) → (xFr (sI S2 133 r (Int32.ofNat (b + 1))) S4) → (xTl (gN S2) S4 y4 a4) → (xR tp sz S4 r at4 nd4) → (gN S2 ≤ gN S4 ∧ gN S4 + 30 * (sz - at4) ≤ gN S2 + 30 * (sz - e0) + 2 * (e0 - (b + 1)) ∧ gZ S4 + 150 * (sz - at4) ≤ gZ S2 + 150 * (sz - e0) + 60 * (e0 - (b + 1))) → (at4 ≤ sz ∧ gN S2 ≤ a4 ∧ a4 < gN S4) → ∀ S17 : zS, (zFin true S17) → (pJ (tN 24 0 [] b [y4]) = .ok (tN 24 0 [] b [y4])) → (xJd (sP (sI (sI (sP (sNew S4 11 0 (zslots 11)) 162 (gN S4) (some 0)) 144 (gN S4) (Int32.ofNat b)) 160 (gN S4) 106) 161 (gN S4) (some a4)) (gN S4) S17) → (xTl (gN S) S17 (tN 24 0 [] b [y4]) (gN S4)) → (xR tp sz S17 r at4 nd4) → (gN S17 = gN S4 + 1 ∧ gZ S17 = gZ S4 + 19) → post (.returned (some (.ref (gN S4))), S17)) (h2 : ∀ S2 : zS, ∀ nd2 : Nat, (zFin true S2) → (pRead b deep nd false = .ok nd2) → (xFr S S2) → (xR tp sz S2 r b nd2) → (gN S ≤ gN S2 ∧ gN S2 ≤ gN S + 0 ∧ gZ S2 ≤ gZ S + 0) → (b ≤ sz) → (nd2 ≤ 80) → (deep ≤ 24) → ∀ S4 : zS, ∀ a4 : Nat, ∀ y4 : zNd, ∀ at4 : Nat, ∀ nd4 : Nat, (zFin true S4) → (pWx tp sz rec n (b + 1) (deep + 1) e0 nd2 = .ok (y4, at4, nd4)) → (xFr (sI S2 133 r (Int32.ofNat (b + 1))) S4) → (xTl (gN S2) S4 y4 a4) → (xR tp sz S4 r at4 nd4) → (gN S2 ≤ gN S4 ∧ gN S4 + 30 * (sz - at4) ≤ gN S2 + 30 * (sz - e0) + 2 * (e0 - (b + 1)) ∧ gZ S4 + 150 * (sz - at4) ≤ gZ S2 + 150 * (sz - e0) + 60 * (e0 - (b + 1))) → (at4 ≤ sz ∧ gN S2 ≤ a4 ∧ a4 < gN S4) → ∀ S18 : zS, ∀ q18 : Nat, (zFin true S18) → (pJ (tN 24 0 [] b [y4]) = .error (3, b)) → (xFn (sP (sI (sI (sP (sNew S4 11 0 (zslots 11)) 162 (gN S4) (some 0)) 144 (gN S4) (Int32.ofNat b)) 160 (gN S4) 106) 161 (gN S4) (some a4)) (gN S4) S18) → (xFl S18 q18 3 b) → (gN S18 = gN S4 + 1 + 1 ∧ gZ S18 ≤ gZ S4 + 19 + 3) → post (.threw q18, S18)) (h3 : ∀ S2 : zS, ∀ nd2 : Nat, (zFin true S2) → (pRead b deep nd false = .ok nd2) → (xFr S S2) → (xR tp sz S2 r b nd2) → (gN S ≤ gN S2 ∧ gN S2 ≤ gN S + 0 ∧ gZ S2 ≤ gZ S + 0) → (b ≤ sz) → (nd2 ≤ 80) → (deep ≤ 24) → ∀ S5 : zS, ∀ q5 : Nat, ∀ kk5 : Nat, ∀ z5 : Nat, (zFin true S5) → (pWx tp sz rec n (b + 1) (deep + 1) e0 nd2 = .error (kk5, z5)) → (xFr (sI S2 133 r (Int32.ofNat (b + 1))) S5) → (xFl S5 q5 kk5 z5) → (gN S2 ≤ gN S5 ∧ gN S5 ≤ gN S2 + 30 * (sz - e0) + 2 * (e0 - (b + 1)) + 60 ∧ gZ S5 ≤ gZ S2 + 150 * (sz - e0) + 60 * (e0 - (b + 1)) + 2000) → post (.threw q5, S5)) (h4 : ∀ S3 : zS, ∀ q3 : Nat, (zFin true S3) → (pRead b deep nd false = .error (2, b)) → (xFr S S3) → (xFl S3 q3 2 b) → (gN S ≤ gN S3 ∧ gN S3 ≤ gN S + 1 ∧ gZ S3 ≤ gZ S + 3) → post (.threw q3, S3)) : zCall d 260 [.ref r, .ref w, .int 0, .int (Int32.ofNat deep)] S post := by
  have ht : ztab 260 = ztb260 := rfl
  show zEv d 260 0 [.ref r, .ref w, .int 0, .int (Int32.ofNat deep), .retAddr 0, .retAddr 0, .retAddr 0, .retAddr 0, .retAddr 0] [] S post
  refine zv_c1 ht rfl rfl ?_
  refine zv_ei (x := Int32.ofNat b) ht rfl rfl (zhas_of (hR.1.2.2.2.1) rfl) hR.1.1 ?_
  refine zv_c2 (L' := [.ref r, .ref w, .int 0, .int (Int32.ofNat deep), .int (Int32.ofNat b), .retAddr 0, .retAddr 0, .retAddr 0, .retAddr 0]) ht rfl rfl ?_
  refine zv_c1 ht rfl rfl (zv_c1 ht rfl rfl ?_)
  refine zv_cl ht rfl rfl rfl (zv_tgv ((zStr.t hw.1)) rfl) (by omega) (Nat.le_of_ble_eq_true rfl) (x_len (S := S) hF (by omega) hw.1 (n := wl) hwl ?_)
  show zEv d 260 11 [.ref r, .ref w, .int 0, .int (Int32.ofNat deep), .int (Int32.ofNat b), .retAddr 0, .retAddr 0, .retAddr 0, .retAddr 0] [.int (Int32.ofNat wl), .int 0] S post
  refine zv_br ht rfl rfl rfl (fun b1 => ?_) (fun b1 => (show False from by have hq := b1; have hz : 0 = wl := (zi_eqE (a := 0) (b := wl) rfl rfl (by omega) (by omega)).mp (Classical.not_not.mp hq); omega).elim)
  refine zv_c1 ht rfl rfl (zv_c1 ht rfl rfl ?_)
  refine zv_cl ht rfl rfl rfl (zv_tgv ((zStr.t hw.1)) rfl) (by omega) (Nat.le_of_ble_eq_true rfl) (x_char (S := S) hF (by omega) hw.1 (i := 0) (by omega) (c := 106) hcc ?_)
  show zEv d 260 39 [.ref r, .ref w, .int 0, .int (Int32.ofNat deep), .int (Int32.ofNat b), .retAddr 0, .retAddr 0, .retAddr 0, .retAddr 0] [.int 106] S post
  refine zv_c2 (L' := [.ref r, .ref w, .int 0, .int (Int32.ofNat deep), .int (Int32.ofNat b), .int 106, .retAddr 0, .retAddr 0, .retAddr 0]) ht rfl rfl ?_
  refine zv_c1 ht rfl rfl (zv_c1 ht rfl rfl ?_)
  refine zv_br ht rfl rfl rfl (fun h => absurd h (by decide)) (fun _ => ?_)
  refine zv_c1 ht rfl rfl (zv_c1 ht rfl rfl ?_)
  refine zv_br ht rfl rfl rfl (fun h => absurd h (by decide)) (fun _ => ?_)
  refine zv_c1 ht rfl rfl (zv_c1 ht rfl rfl ?_)
  refine zv_br ht rfl rfl rfl (fun _ => ?_) (fun h => absurd (by decide) h)
  refine zv_c1 ht rfl rfl ?_
  refine zv_c2 (L' := [.ref r, .ref w, .int 0, .int (Int32.ofNat deep), .int (Int32.ofNat b), .int 106, .int 0, .retAddr 0, .retAddr 0]) ht rfl rfl ?_
  refine zv_c1 ht rfl rfl ?_
  refine zv_br ht rfl rfl rfl (fun h => absurd h (by decide)) (fun _ => ?_)
  refine zv_c1 ht rfl rfl (zv_c1 ht rfl rfl ?_)
  refine zv_cl ht rfl rfl rfl (zv_tgv (hR.1.2.2.2.1) rfl) (by omega) (Nat.le_of_ble_eq_true rfl) (x_findOk (S := S) (r := r) hF (by omega) hR (by omega) hw (by omega) hbad ?_)
  show zEv d 260 78 [.ref r, .ref w, .int 0, .int (Int32.ofNat deep), .int (Int32.ofNat b), .int 106, .int 0, .retAddr 0, .retAddr 0] [] S post
  refine zv_c1 ht rfl rfl (zv_c1 ht rfl rfl (zv_c1 ht rfl rfl ?_))
  refine zv_br ht rfl rfl rfl (fun _ => ?_) (fun h => absurd (by decide) h)
  refine zv_c1 ht rfl rfl (zv_c1 ht rfl rfl ?_)
  refine zv_br ht rfl rfl rfl (fun _ => ?_) (fun h => absurd (by decide) h)
  refine zv_c1 ht rfl rfl ?_
  refine zv_cl ht rfl rfl rfl (zv_tgv (hR.1.2.2.2.1) rfl) (by omega) (Nat.le_of_ble_eq_true rfl) (x_begins (S := S) (tp := tp) (sz := sz) (r := r) (p := b) (dp := deep) (m := 1) (dq := deep) (two := false) hF (by omega) hR (by omega) (by omega) (by omega) (by omega) rfl rfl (fun S2 nd2 hF2 e2 k2 p2 g2 b2 c2 d2 => ?_) (fun S3 q3 hF3 e3 k3 x3 g3 => ?_))
  · show zEv d 260 106 [.ref r, .ref w, .int 0, .int (Int32.ofNat deep), .int (Int32.ofNat b), .int 106, .int 0, .retAddr 0, .retAddr 0] [] S2 post
    refine zv_c1 ht rfl rfl (zv_c1 ht rfl rfl ?_)
    refine zv_ei (x := Int32.ofNat b) ht rfl rfl (zhas_of (p2.1.2.2.2.1) rfl) p2.1.1 ?_
    refine zv_c1 ht rfl rfl ?_
    refine zv_e1 (x := Int32.ofNat (b + 1)) ht rfl rfl (zi_addE (a := b) (b := 1) rfl rfl) ?_
    refine zv_ci (S' := sI S2 133 r (Int32.ofNat (b + 1))) ht rfl rfl ⟨(zhas_of (p2.1.2.2.2.1) rfl), (show r < gN S2 from by omega)⟩ ?_
    refine zv_c1 ht rfl rfl (zv_c1 ht rfl rfl (zv_c1 ht rfl rfl (zv_c1 ht rfl rfl ?_)))
    refine zv_c1 (st' := [.int 1, .ref w, .ref r]) (S' := sI S2 133 r (Int32.ofNat (b + 1))) ht rfl rfl ?_
    refine zv_c1 ht rfl rfl (zv_c1 ht rfl rfl ?_)
    refine zv_e1 (x := Int32.ofNat (deep + 1)) ht rfl rfl (zi_addE (a := deep) (b := 1) rfl rfl) ?_
    refine zv_cl ht rfl rfl rfl (zv_tgv (p2.1.2.2.2.1) rfl) (by omega) (Nat.le_of_ble_eq_true rfl) (xEc.use (g := gN S2) (cN := gN S2 + 30 * (sz - e0) + 2 * (e0 - (b + 1))) (cZ := gZ S2 + 150 * (sz - e0) + 60 * (e0 - (b + 1))) rfl ((hIH (by omega)) (S := sI S2 133 r (Int32.ofNat (b + 1))) (r := r) hF2 (xR_at p2 (by omega)) (xWd.k hw (zKE.tr (zKE.tr zKE.rf (zKE.w k2 (show gN S ≤ gN S from by omega) (fun _ h => h) (fun _ h => h))) (zKE_sI (Or.inl (by decide))))) (by omega) (by omega)) (fun S4 a4 y4 at4 nd4 hF4 e4 k4 t4 p4 g4 c4 => ?_) (fun S5 q5 kk5 z5 hF5 e5 k5 x5 g5 => ?_))
    · show zEv d 260 127 [.ref r, .ref w, .int 0, .int (Int32.ofNat deep), .int (Int32.ofNat b), .int 106, .int 0, .retAddr 0, .retAddr 0] [.ref a4] S4 post
      refine zv_c2 (L' := [.ref r, .ref w, .int 0, .int (Int32.ofNat deep), .int (Int32.ofNat b), .int 106, .int 0, .ref a4, .retAddr 0]) ht rfl rfl ?_
      refine zv_c1 ht rfl rfl ?_
      refine zv_br ht rfl rfl rfl (fun h => absurd h (by decide)) (fun _ => ?_)
      refine zv_c1 ht rfl rfl ?_
      refine zv_ci (st' := [.ref (gN S4), .ref r]) (S' := sNew S4 11 0 (zslots 11)) ht rfl rfl (znew_ok (show 1639 ≤ gN S4 from by omega) (show gN S4 < 2000000 from by omega)) ?_
      refine zv_c1 ht rfl rfl (zv_c1 ht rfl rfl ?_)
      refine zv_g3 (q := 0) ht rfl (zFin_new hF4) rfl rfl (zhas_of (Eq.trans (ztyp_new (S := S4) (t := 11) (n := 0) (s := zslots 11) (show r ≠ gN S4 from by omega)) p4.1.2.2.2.1) rfl) (Eq.trans (gP_new (S := S4) (t := 11) (n := 0) (s := zslots 11) (show r ≠ gN S4 from by omega)) p4.1.2.2.2.2) ?_
      refine zv_c1 ht rfl rfl (zv_c1 ht rfl rfl (zv_c1 ht rfl rfl ?_))
      have C7 : ∀ (pst6 : Outcome × zS → Prop), (pst6 (.returned none, sP (sI (sI (sP (sNew S4 11 0 (zslots 11)) 162 (gN S4) (some 0)) 144 (gN S4) (Int32.ofNat b)) 160 (gN S4) 106) 161 (gN S4) (some a4))) → zCall (d - 1) 295 [.ref (gN S4), .ref 0, .int (Int32.ofNat b), .int 106, .ref a4] (sNew S4 11 0 (zslots 11)) pst6 := by
        intro pst6 k13
        have ht8 : ztab 295 = ztb295 := rfl
        show zEv (d - 1) 295 0 [.ref (gN S4), .ref 0, .int (Int32.ofNat b), .int 106, .ref a4] [] (sNew S4 11 0 (zslots 11)) pst6
        refine zv_c1 ht8 rfl rfl (zv_c1 ht8 rfl rfl ?_)
        refine zv_ci (S' := sP (sNew S4 11 0 (zslots 11)) 162 (gN S4) (some 0)) ht8 rfl rfl ⟨(zhas_of (ztyp_new_at (S := S4) (t := 11) (n := 0) (s := zslots 11) (show 1639 ≤ gN S4 from by omega)) rfl), (show gN S4 < gN S4 + 1 from by omega)⟩ ?_
        refine zv_c1 ht8 rfl rfl (zv_c1 ht8 rfl rfl (zv_c1 ht8 rfl rfl ?_))
        have C10 : ∀ (pst9 : Outcome × zS → Prop), (pst9 (.returned none, sI (sP (sNew S4 11 0 (zslots 11)) 162 (gN S4) (some 0)) 144 (gN S4) (Int32.ofNat b))) → zCall ((d - 1) - 1) 280 [.ref (gN S4), .ref 0, .int (Int32.ofNat b)] (sP (sNew S4 11 0 (zslots 11)) 162 (gN S4) (some 0)) pst9 := by
          intro pst9 k12
          have ht11 : ztab 280 = ztb280 := rfl
          show zEv ((d - 1) - 1) 280 0 [.ref (gN S4), .ref 0, .int (Int32.ofNat b)] [] (sP (sNew S4 11 0 (zslots 11)) 162 (gN S4) (some 0)) pst9
          refine zv_c1 ht11 rfl rfl (zv_c1 ht11 rfl rfl ?_)
          refine zv_ci (S' := sP (sNew S4 11 0 (zslots 11)) 162 (gN S4) (some 0)) ht11 rfl rfl (zk5 (ztyp_new_at (S := S4) (t := 11) (n := 0) (s := zslots 11) (show 1639 ≤ gN S4 from by omega)) rfl (show gN S4 < gN S4 + 1 from by omega) rfl gP_sP_at) ?_
          refine zv_c1 ht11 rfl rfl (zv_c1 ht11 rfl rfl (zv_c1 ht11 rfl rfl (zv_c1 ht11 rfl rfl ?_)))
          refine zv_ci (S' := sI (sP (sNew S4 11 0 (zslots 11)) 162 (gN S4) (some 0)) 144 (gN S4) (Int32.ofNat b)) ht11 rfl rfl ⟨(zhas_of (ztyp_new_at (S := S4) (t := 11) (n := 0) (s := zslots 11) (show 1639 ≤ gN S4 from by omega)) rfl), (show gN S4 < gN S4 + 1 from by omega)⟩ ?_
          exact zv_rt ht11 rfl rfl rfl rfl k12
        refine zv_cl ht8 rfl rfl rfl rfl (by omega) (Nat.le_of_ble_eq_true rfl) (C10 _ ?_)
        show zEv (d - 1) 295 11 [.ref (gN S4), .ref 0, .int (Int32.ofNat b), .int 106, .ref a4] [] (sI (sP (sNew S4 11 0 (zslots 11)) 162 (gN S4) (some 0)) 144 (gN S4) (Int32.ofNat b)) pst6
        refine zv_c1 ht8 rfl rfl (zv_c1 ht8 rfl rfl ?_)
        refine zv_ci (S' := sI (sI (sP (sNew S4 11 0 (zslots 11)) 162 (gN S4) (some 0)) 144 (gN S4) (Int32.ofNat b)) 160 (gN S4) 106) ht8 rfl rfl ⟨⟨(zhas_of (ztyp_new_at (S := S4) (t := 11) (n := 0) (s := zslots 11) (show 1639 ≤ gN S4 from by omega)) rfl), (show gN S4 < gN S4 + 1 from by omega)⟩, (by decide)⟩ ?_
        refine zv_c1 ht8 rfl rfl (zv_c1 ht8 rfl rfl ?_)
        refine zv_ci (S' := sP (sI (sI (sP (sNew S4 11 0 (zslots 11)) 162 (gN S4) (some 0)) 144 (gN S4) (Int32.ofNat b)) 160 (gN S4) 106) 161 (gN S4) (some a4)) ht8 rfl rfl ⟨(zhas_of (ztyp_new_at (S := S4) (t := 11) (n := 0) (s := zslots 11) (show 1639 ≤ gN S4 from by omega)) rfl), (show gN S4 < gN S4 + 1 from by omega)⟩ ?_
        exact zv_rt ht8 rfl rfl rfl rfl k13
      refine zv_cl ht rfl rfl rfl rfl (by omega) (Nat.le_of_ble_eq_true rfl) (C7 _ ?_)
      show zEv d 260 152 [.ref r, .ref w, .int 0, .int (Int32.ofNat deep), .int (Int32.ofNat b), .int 106, .int 0, .ref a4, .retAddr 0] [.ref (gN S4), .ref r] (sP (sI (sI (sP (sNew S4 11 0 (zslots 11)) 162 (gN S4) (some 0)) 144 (gN S4) (Int32.ofNat b)) 160 (gN S4) 106) 161 (gN S4) (some a4)) post
      have C15 : ∀ (pst14 : Outcome × zS → Prop), (∀ S17 : zS, (zFin true S17) → (pJ (tN 24 0 [] b [y4]) = .ok (tN 24 0 [] b [y4])) → (xJd (sP (sI (sI (sP (sNew S4 11 0 (zslots 11)) 162 (gN S4) (some 0)) 144 (gN S4) (Int32.ofNat b)) 160 (gN S4) 106) 161 (gN S4) (some a4)) (gN S4) S17) → (xTl (gN S) S17 (tN 24 0 [] b [y4]) (gN S4)) → (xR tp sz S17 r at4 nd4) → (gN S17 = gN S4 + 1 ∧ gZ S17 = gZ S4 + 19) → pst14 (.returned (some (.ref (gN S4))), S17)) → (∀ S18 : zS, ∀ q18 : Nat, (zFin true S18) → (pJ (tN 24 0 [] b [y4]) = .error (3, b)) → (xFn (sP (sI (sI (sP (sNew S4 11 0 (zslots 11)) 162 (gN S4) (some 0)) 144 (gN S4) (Int32.ofNat b)) 160 (gN S4) 106) 161 (gN S4) (some a4)) (gN S4) S18) → (xFl S18 q18 3 b) → (gN S18 = gN S4 + 1 + 1 ∧ gZ S18 ≤ gZ S4 + 19 + 3) → pst14 (.threw q18, S18)) → zCall (d - 1) 253 [.ref r, .ref (gN S4)] (sP (sI (sI (sP (sNew S4 11 0 (zslots 11)) 162 (gN S4) (some 0)) 144 (gN S4) (Int32.ofNat b)) 160 (gN S4) 106) 161 (gN S4) (some a4)) pst14 := by
        intro pst14 k19 k20
        have ht16 : ztab 253 = ztb253 := rfl
        show zEv (d - 1) 253 0 [.ref r, .ref (gN S4)] [] (sP (sI (sI (sP (sNew S4 11 0 (zslots 11)) 162 (gN S4) (some 0)) 144 (gN S4) (Int32.ofNat b)) 160 (gN S4) 106) 161 (gN S4) (some a4)) pst14
        refine zv_c1 ht16 rfl rfl ?_
        refine zv_cl ht16 rfl rfl rfl (zv_tgm (ztyp_new_at (S := S4) (t := 11) (n := 0) (s := zslots 11) (show 1639 ≤ gN S4 from by omega)) rfl) (by omega) (Nat.le_of_ble_eq_true rfl) (x_judgeR (S := sP (sI (sI (sP (sNew S4 11 0 (zslots 11)) 162 (gN S4) (some 0)) 144 (gN S4) (Int32.ofNat b)) 160 (gN S4) 106) 161 (gN S4) (some a4)) (tp := tp) (sz := sz) (r := r) (a := gN S4) (k := 24) (v := 0) (p := b) (ks := []) (js := [a4]) (cs := [y4]) (g := gN S4 + 1) (lo := gN S) (zFin_sP (zFin_sP (zFin_new hF4) rfl) rfl) (by omega) (by omega) (by omega) (by omega) (by omega) rfl (xOwn_W (by decide) (ztyp_new_at (S := S4) (t := 11) (n := 0) (s := zslots 11) (show 1639 ≤ gN S4 from by omega)) (gI_sI_at) (gP_sP_at)) ⟨a4, _, rfl, (xTl.ch t4 (zKE.tr (zKE.tr (zKE.tr (zKE.tr (zKE.tr zKE.rf (zKE_new (show gN S4 ≤ gN S4 ∧ gN S4 < zLB from ⟨by omega, by have hLB : zLB = 4294967296 := rfl; omega⟩))) (zKE_sP (Or.inr (Or.inr ⟨by omega, by have hLB : zLB = 4294967296 := rfl; omega⟩)))) (zKE_sI (Or.inr (Or.inr ⟨by omega, by have hLB : zLB = 4294967296 := rfl; omega⟩)))) (zKE_sI (Or.inr (Or.inr ⟨by omega, by have hLB : zLB = 4294967296 := rfl; omega⟩)))) (zKE_sP (Or.inr (Or.inr ⟨by omega, by have hLB : zLB = 4294967296 := rfl; omega⟩)))) (by omega) (by intro j h1 h2; omega)), rfl⟩ (by decide) (by omega) (gI_sI_at) (gI_new_at (S := S4) (t := 11) (n := 0) (s := zslots 11)) (gI_new_at (S := S4) (t := 11) (n := 0) (s := zslots 11)) (xR.ke (Fs := []) p4 (zKE.tr (zKE.tr (zKE.tr (zKE.tr (zKE.tr zKE.rf (zKE_new (show gN S4 ≤ gN S4 ∧ gN S4 < zLB from ⟨by omega, by have hLB : zLB = 4294967296 := rfl; omega⟩))) (zKE_sP (Or.inr (Or.inr ⟨by omega, by have hLB : zLB = 4294967296 := rfl; omega⟩)))) (zKE_sI (Or.inr (Or.inr ⟨by omega, by have hLB : zLB = 4294967296 := rfl; omega⟩)))) (zKE_sI (Or.inr (Or.inr ⟨by omega, by have hLB : zLB = 4294967296 := rfl; omega⟩)))) (zKE_sP (Or.inr (Or.inr ⟨by omega, by have hLB : zLB = 4294967296 := rfl; omega⟩)))) (by omega) (by decide)) (by omega) (fun S17 hF17 e17 j17 t17 p17 g17 => ?_) (fun S18 q18 hF18 e18 k18 x18 g18 => ?_))
        · show zEv (d - 1) 253 4 [.ref r, .ref (gN S4)] [] S17 pst14
          refine zv_c1 ht16 rfl rfl ?_
          exact zv_rt ht16 rfl rfl rfl rfl (k19 S17 hF17 e17 j17 t17 p17 g17)
        · exact (k20 S18 q18 hF18 e18 k18 x18 g18)
      refine zv_cl ht rfl rfl rfl (zv_tgv (Eq.trans (ztyp_new (S := S4) (t := 11) (n := 0) (s := zslots 11) (show r ≠ gN S4 from by omega)) p4.1.2.2.2.1) rfl) (by omega) (Nat.le_of_ble_eq_true rfl) (C15 _ (fun S17 hF17 e17 j17 t17 p17 g17 => ?_) (fun S18 q18 hF18 e18 k18 x18 g18 => ?_))
      · show zEv d 260 155 [.ref r, .ref w, .int 0, .int (Int32.ofNat deep), .int (Int32.ofNat b), .int 106, .int 0, .ref a4, .retAddr 0] [.ref (gN S4)] S17 post
        exact zv_rt ht rfl rfl rfl rfl (h1 S2 nd2 hF2 e2 k2 p2 g2 b2 c2 d2 S4 a4 y4 at4 nd4 hF4 e4 k4 t4 p4 g4 c4 S17 hF17 e17 j17 t17 p17 g17)
      · exact (h2 S2 nd2 hF2 e2 k2 p2 g2 b2 c2 d2 S4 a4 y4 at4 nd4 hF4 e4 k4 t4 p4 g4 c4 S18 q18 hF18 e18 k18 x18 g18)
    · exact (h3 S2 nd2 hF2 e2 k2 p2 g2 b2 c2 d2 S5 q5 kk5 z5 hF5 e5 k5 x5 g5)
  · exact (h4 S3 q3 hF3 e3 k3 x3 g3)

theorem wrZ110 {d : Nat} {S : zS} (hF : zFin true S) (hd : 8 ≤ d) {tp : Nat → Nat} {sz at0 nd r : Nat} {rec : Nat → Nat → Nat → pE (zNd × Nat × Nat)} {K n : Nat} {w : Nat} (b e0 wl deep : Nat) (hR : xR tp sz S r b nd) (hs0 : sz ≤ 300) (ha0 : b ≤ sz) (hr1 : 1639 ≤ r) (hr2 : r < gN S) (hN : gN S + 30 * (sz - b) ≤ 1700000) (hdp : deep < 1000) (hnd : nd ≤ 80) (hw : xWd S w (pWl tp b e0)) (hwN : w < gN S) (hwl : (pWl tp b e0).length = wl) (hel : e0 = b + wl) (hes : e0 < sz) (hk : 0 < wl) (hcc : (pWl tp b e0).getD 0 0 = 110) (hbad : pBad (pWl tp b e0) b = .ok ()) (hIH : deep ≤ 24 → xWr tp sz (d - 1) w b e0 rec n 1 (deep + 1)) {post : Outcome × zS → Prop} (h1 : ∀ S2 : zS, ∀ nd2 : Nat, (zFin true S2) → (pRead b deep nd false = .ok nd2) → (xFr S S2) → (xR tp sz S2 r b nd2) → (gN S ≤ gN S2 ∧ gN S2 ≤ gN S + 0 ∧ gZ S2 ≤ gZ S + 0) → (b ≤ sz) → (nd2 ≤ 80) → (deep ≤ 24) → ∀ S4 : zS, ∀ a4 : Nat, ∀ y4 : zNd, ∀ at4 : Nat, ∀ nd4 : Nat, (zFin true S4) → (pWx tp sz rec n (b + 1) (deep + 1) e0 nd2 = .ok (y4, at4, nd4)) → (xFr (sI S2 133 r (Int32.ofNat (b + 1))) S4) → (xTl (gN S2) S4 y4 a4) → (xR tp sz S4 r at4 nd4) → (gN S2 ≤ gN S4 ∧ gN S4 + 30 * (sz - at4) ≤ gN S2 + 30 * (sz - e0) + 2 * (e0 - (b + 1)) ∧ gZ S4 + 150 * (sz - at4) ≤ gZ S2 + 150 * (sz - e0) + 60 * (e0 - (b + 1))) → (at4 ≤ sz ∧ gN S2 ≤ a4 ∧ a4 < gN S4) → ∀ S17 : zS, (zFin true S17) → (pJ (tN 25 0 [] b [y4]) = .ok (tN 25 0 [] b [y4])) → (xJd (sP (sI (sI (sP (sNew S4 11 0 (zslots 11)) 162 (gN S4) (some 0)) 144 (gN S4) (Int32.ofNat b)) 160 (gN S4) 110) 161 (gN S4) (some a4)) (gN S4) S17) → (xTl (gN S) S17 (tN 25 0 [] b [y4]) (gN S4)) → (xR tp sz S17 r at4 nd4) → (gN S17 = gN S4 + 1 ∧ gZ S17 = gZ S4 + 19) → post (.returned (some (.ref (gN S4))), S17)) (h2 : ∀ S2 : zS, ∀ nd2 : Nat, (zFin true S2) → (pRead b deep nd false = .ok nd2) → (xFr S S2) → (xR tp sz S2 r b nd2) → (gN S ≤ gN S2 ∧ gN S2 ≤ gN S + 0 ∧ gZ S2 ≤ gZ S + 0) → (b ≤ sz) → (nd2 ≤ 80) → (deep ≤ 24) → ∀ S4 : zS, ∀ a4 : Nat, ∀ y4 : zNd, ∀ at4 : Nat, ∀ nd4 : Nat, (zFin true S4) → (pWx tp sz rec n (b + 1) (deep + 1) e0 nd2 = .ok (y4, at4, nd4)) → (xFr (sI S2 133 r (Int32.ofNat (b + 1))) S4) → (xTl (gN S2) S4 y4 a4) → (xR tp sz S4 r at4 nd4) → (gN S2 ≤ gN S4 ∧ gN S4 + 30 * (sz - at4) ≤ gN S2 + 30 * (sz - e0) + 2 * (e0 - (b + 1)) ∧ gZ S4 + 150 * (sz - at4) ≤ gZ S2 + 150 * (sz - e0) + 60 * (e0 - (b + 1))) → (at4 ≤ sz ∧ gN S2 ≤ a4 ∧ a4 < gN S4) → ∀ S18 : zS, ∀ q18 : Nat, (zFin true S18) → (pJ (tN 25 0 [] b [y4]) = .error (3, b)) → (xFn (sP (sI (sI (sP (sNew S4 11 0 (zslots 11)) 162 (gN S4) (some 0)) 144 (gN S4) (Int32.ofNat b)) 160 (gN S4) 110) 161 (gN S4) (some a4)) (gN S4) S18) → (xFl S18 q18 3 b) → (gN S18 = gN S4 + 1 + 1 ∧ gZ S18 ≤ gZ S4 + 19 + 3) → post (.threw q18, S18)) (h3 : ∀ S2 : zS, ∀ nd2 : Nat, (zFin true S2) → (pRead b deep nd false = .ok nd2) → (xFr S S2) → (xR tp sz S2 r b nd2) → (gN S ≤ gN S2 ∧ gN S2 ≤ gN S + 0 ∧ gZ S2 ≤ gZ S + 0) → (b ≤ sz) → (nd2 ≤ 80) → (deep ≤ 24) → ∀ S5 : zS, ∀ q5 : Nat, ∀ kk5 : Nat, ∀ z5 : Nat, (zFin true S5) → (pWx tp sz rec n (b + 1) (deep + 1) e0 nd2 = .error (kk5, z5)) → (xFr (sI S2 133 r (Int32.ofNat (b + 1))) S5) → (xFl S5 q5 kk5 z5) → (gN S2 ≤ gN S5 ∧ gN S5 ≤ gN S2 + 30 * (sz - e0) + 2 * (e0 - (b + 1)) + 60 ∧ gZ S5 ≤ gZ S2 + 150 * (sz - e0) + 60 * (e0 - (b + 1)) + 2000) → post (.threw q5, S5)) (h4 : ∀ S3 : zS, ∀ q3 : Nat, (zFin true S3) → (pRead b deep nd false = .error (2, b)) → (xFr S S3) → (xFl S3 q3 2 b) → (gN S ≤ gN S3 ∧ gN S3 ≤ gN S + 1 ∧ gZ S3 ≤ gZ S + 3) → post (.threw q3, S3)) : zCall d 260 [.ref r, .ref w, .int 0, .int (Int32.ofNat deep)] S post := by
  have ht : ztab 260 = ztb260 := rfl
  show zEv d 260 0 [.ref r, .ref w, .int 0, .int (Int32.ofNat deep), .retAddr 0, .retAddr 0, .retAddr 0, .retAddr 0, .retAddr 0] [] S post
  refine zv_c1 ht rfl rfl ?_
  refine zv_ei (x := Int32.ofNat b) ht rfl rfl (zhas_of (hR.1.2.2.2.1) rfl) hR.1.1 ?_
  refine zv_c2 (L' := [.ref r, .ref w, .int 0, .int (Int32.ofNat deep), .int (Int32.ofNat b), .retAddr 0, .retAddr 0, .retAddr 0, .retAddr 0]) ht rfl rfl ?_
  refine zv_c1 ht rfl rfl (zv_c1 ht rfl rfl ?_)
  refine zv_cl ht rfl rfl rfl (zv_tgv ((zStr.t hw.1)) rfl) (by omega) (Nat.le_of_ble_eq_true rfl) (x_len (S := S) hF (by omega) hw.1 (n := wl) hwl ?_)
  show zEv d 260 11 [.ref r, .ref w, .int 0, .int (Int32.ofNat deep), .int (Int32.ofNat b), .retAddr 0, .retAddr 0, .retAddr 0, .retAddr 0] [.int (Int32.ofNat wl), .int 0] S post
  refine zv_br ht rfl rfl rfl (fun b1 => ?_) (fun b1 => (show False from by have hq := b1; have hz : 0 = wl := (zi_eqE (a := 0) (b := wl) rfl rfl (by omega) (by omega)).mp (Classical.not_not.mp hq); omega).elim)
  refine zv_c1 ht rfl rfl (zv_c1 ht rfl rfl ?_)
  refine zv_cl ht rfl rfl rfl (zv_tgv ((zStr.t hw.1)) rfl) (by omega) (Nat.le_of_ble_eq_true rfl) (x_char (S := S) hF (by omega) hw.1 (i := 0) (by omega) (c := 110) hcc ?_)
  show zEv d 260 39 [.ref r, .ref w, .int 0, .int (Int32.ofNat deep), .int (Int32.ofNat b), .retAddr 0, .retAddr 0, .retAddr 0, .retAddr 0] [.int 110] S post
  refine zv_c2 (L' := [.ref r, .ref w, .int 0, .int (Int32.ofNat deep), .int (Int32.ofNat b), .int 110, .retAddr 0, .retAddr 0, .retAddr 0]) ht rfl rfl ?_
  refine zv_c1 ht rfl rfl (zv_c1 ht rfl rfl ?_)
  refine zv_br ht rfl rfl rfl (fun h => absurd h (by decide)) (fun _ => ?_)
  refine zv_c1 ht rfl rfl (zv_c1 ht rfl rfl ?_)
  refine zv_br ht rfl rfl rfl (fun h => absurd h (by decide)) (fun _ => ?_)
  refine zv_c1 ht rfl rfl (zv_c1 ht rfl rfl ?_)
  refine zv_br ht rfl rfl rfl (fun _ => ?_) (fun h => absurd (by decide) h)
  refine zv_c1 ht rfl rfl ?_
  refine zv_c2 (L' := [.ref r, .ref w, .int 0, .int (Int32.ofNat deep), .int (Int32.ofNat b), .int 110, .int 0, .retAddr 0, .retAddr 0]) ht rfl rfl ?_
  refine zv_c1 ht rfl rfl ?_
  refine zv_br ht rfl rfl rfl (fun h => absurd h (by decide)) (fun _ => ?_)
  refine zv_c1 ht rfl rfl (zv_c1 ht rfl rfl ?_)
  refine zv_cl ht rfl rfl rfl (zv_tgv (hR.1.2.2.2.1) rfl) (by omega) (Nat.le_of_ble_eq_true rfl) (x_findOk (S := S) (r := r) hF (by omega) hR (by omega) hw (by omega) hbad ?_)
  show zEv d 260 78 [.ref r, .ref w, .int 0, .int (Int32.ofNat deep), .int (Int32.ofNat b), .int 110, .int 0, .retAddr 0, .retAddr 0] [] S post
  refine zv_c1 ht rfl rfl (zv_c1 ht rfl rfl (zv_c1 ht rfl rfl ?_))
  refine zv_br ht rfl rfl rfl (fun _ => ?_) (fun h => absurd (by decide) h)
  refine zv_c1 ht rfl rfl (zv_c1 ht rfl rfl ?_)
  refine zv_br ht rfl rfl rfl (fun _ => ?_) (fun h => absurd (by decide) h)
  refine zv_c1 ht rfl rfl ?_
  refine zv_cl ht rfl rfl rfl (zv_tgv (hR.1.2.2.2.1) rfl) (by omega) (Nat.le_of_ble_eq_true rfl) (x_begins (S := S) (tp := tp) (sz := sz) (r := r) (p := b) (dp := deep) (m := 1) (dq := deep) (two := false) hF (by omega) hR (by omega) (by omega) (by omega) (by omega) rfl rfl (fun S2 nd2 hF2 e2 k2 p2 g2 b2 c2 d2 => ?_) (fun S3 q3 hF3 e3 k3 x3 g3 => ?_))
  · show zEv d 260 106 [.ref r, .ref w, .int 0, .int (Int32.ofNat deep), .int (Int32.ofNat b), .int 110, .int 0, .retAddr 0, .retAddr 0] [] S2 post
    refine zv_c1 ht rfl rfl (zv_c1 ht rfl rfl ?_)
    refine zv_ei (x := Int32.ofNat b) ht rfl rfl (zhas_of (p2.1.2.2.2.1) rfl) p2.1.1 ?_
    refine zv_c1 ht rfl rfl ?_
    refine zv_e1 (x := Int32.ofNat (b + 1)) ht rfl rfl (zi_addE (a := b) (b := 1) rfl rfl) ?_
    refine zv_ci (S' := sI S2 133 r (Int32.ofNat (b + 1))) ht rfl rfl ⟨(zhas_of (p2.1.2.2.2.1) rfl), (show r < gN S2 from by omega)⟩ ?_
    refine zv_c1 ht rfl rfl (zv_c1 ht rfl rfl (zv_c1 ht rfl rfl (zv_c1 ht rfl rfl ?_)))
    refine zv_c1 (st' := [.int 1, .ref w, .ref r]) (S' := sI S2 133 r (Int32.ofNat (b + 1))) ht rfl rfl ?_
    refine zv_c1 ht rfl rfl (zv_c1 ht rfl rfl ?_)
    refine zv_e1 (x := Int32.ofNat (deep + 1)) ht rfl rfl (zi_addE (a := deep) (b := 1) rfl rfl) ?_
    refine zv_cl ht rfl rfl rfl (zv_tgv (p2.1.2.2.2.1) rfl) (by omega) (Nat.le_of_ble_eq_true rfl) (xEc.use (g := gN S2) (cN := gN S2 + 30 * (sz - e0) + 2 * (e0 - (b + 1))) (cZ := gZ S2 + 150 * (sz - e0) + 60 * (e0 - (b + 1))) rfl ((hIH (by omega)) (S := sI S2 133 r (Int32.ofNat (b + 1))) (r := r) hF2 (xR_at p2 (by omega)) (xWd.k hw (zKE.tr (zKE.tr zKE.rf (zKE.w k2 (show gN S ≤ gN S from by omega) (fun _ h => h) (fun _ h => h))) (zKE_sI (Or.inl (by decide))))) (by omega) (by omega)) (fun S4 a4 y4 at4 nd4 hF4 e4 k4 t4 p4 g4 c4 => ?_) (fun S5 q5 kk5 z5 hF5 e5 k5 x5 g5 => ?_))
    · show zEv d 260 127 [.ref r, .ref w, .int 0, .int (Int32.ofNat deep), .int (Int32.ofNat b), .int 110, .int 0, .retAddr 0, .retAddr 0] [.ref a4] S4 post
      refine zv_c2 (L' := [.ref r, .ref w, .int 0, .int (Int32.ofNat deep), .int (Int32.ofNat b), .int 110, .int 0, .ref a4, .retAddr 0]) ht rfl rfl ?_
      refine zv_c1 ht rfl rfl ?_
      refine zv_br ht rfl rfl rfl (fun h => absurd h (by decide)) (fun _ => ?_)
      refine zv_c1 ht rfl rfl ?_
      refine zv_ci (st' := [.ref (gN S4), .ref r]) (S' := sNew S4 11 0 (zslots 11)) ht rfl rfl (znew_ok (show 1639 ≤ gN S4 from by omega) (show gN S4 < 2000000 from by omega)) ?_
      refine zv_c1 ht rfl rfl (zv_c1 ht rfl rfl ?_)
      refine zv_g3 (q := 0) ht rfl (zFin_new hF4) rfl rfl (zhas_of (Eq.trans (ztyp_new (S := S4) (t := 11) (n := 0) (s := zslots 11) (show r ≠ gN S4 from by omega)) p4.1.2.2.2.1) rfl) (Eq.trans (gP_new (S := S4) (t := 11) (n := 0) (s := zslots 11) (show r ≠ gN S4 from by omega)) p4.1.2.2.2.2) ?_
      refine zv_c1 ht rfl rfl (zv_c1 ht rfl rfl (zv_c1 ht rfl rfl ?_))
      have C7 : ∀ (pst6 : Outcome × zS → Prop), (pst6 (.returned none, sP (sI (sI (sP (sNew S4 11 0 (zslots 11)) 162 (gN S4) (some 0)) 144 (gN S4) (Int32.ofNat b)) 160 (gN S4) 110) 161 (gN S4) (some a4))) → zCall (d - 1) 295 [.ref (gN S4), .ref 0, .int (Int32.ofNat b), .int 110, .ref a4] (sNew S4 11 0 (zslots 11)) pst6 := by
        intro pst6 k13
        have ht8 : ztab 295 = ztb295 := rfl
        show zEv (d - 1) 295 0 [.ref (gN S4), .ref 0, .int (Int32.ofNat b), .int 110, .ref a4] [] (sNew S4 11 0 (zslots 11)) pst6
        refine zv_c1 ht8 rfl rfl (zv_c1 ht8 rfl rfl ?_)
        refine zv_ci (S' := sP (sNew S4 11 0 (zslots 11)) 162 (gN S4) (some 0)) ht8 rfl rfl ⟨(zhas_of (ztyp_new_at (S := S4) (t := 11) (n := 0) (s := zslots 11) (show 1639 ≤ gN S4 from by omega)) rfl), (show gN S4 < gN S4 + 1 from by omega)⟩ ?_
        refine zv_c1 ht8 rfl rfl (zv_c1 ht8 rfl rfl (zv_c1 ht8 rfl rfl ?_))
        have C10 : ∀ (pst9 : Outcome × zS → Prop), (pst9 (.returned none, sI (sP (sNew S4 11 0 (zslots 11)) 162 (gN S4) (some 0)) 144 (gN S4) (Int32.ofNat b))) → zCall ((d - 1) - 1) 280 [.ref (gN S4), .ref 0, .int (Int32.ofNat b)] (sP (sNew S4 11 0 (zslots 11)) 162 (gN S4) (some 0)) pst9 := by
          intro pst9 k12
          have ht11 : ztab 280 = ztb280 := rfl
          show zEv ((d - 1) - 1) 280 0 [.ref (gN S4), .ref 0, .int (Int32.ofNat b)] [] (sP (sNew S4 11 0 (zslots 11)) 162 (gN S4) (some 0)) pst9
          refine zv_c1 ht11 rfl rfl (zv_c1 ht11 rfl rfl ?_)
          refine zv_ci (S' := sP (sNew S4 11 0 (zslots 11)) 162 (gN S4) (some 0)) ht11 rfl rfl (zk5 (ztyp_new_at (S := S4) (t := 11) (n := 0) (s := zslots 11) (show 1639 ≤ gN S4 from by omega)) rfl (show gN S4 < gN S4 + 1 from by omega) rfl gP_sP_at) ?_
          refine zv_c1 ht11 rfl rfl (zv_c1 ht11 rfl rfl (zv_c1 ht11 rfl rfl (zv_c1 ht11 rfl rfl ?_)))
          refine zv_ci (S' := sI (sP (sNew S4 11 0 (zslots 11)) 162 (gN S4) (some 0)) 144 (gN S4) (Int32.ofNat b)) ht11 rfl rfl ⟨(zhas_of (ztyp_new_at (S := S4) (t := 11) (n := 0) (s := zslots 11) (show 1639 ≤ gN S4 from by omega)) rfl), (show gN S4 < gN S4 + 1 from by omega)⟩ ?_
          exact zv_rt ht11 rfl rfl rfl rfl k12
        refine zv_cl ht8 rfl rfl rfl rfl (by omega) (Nat.le_of_ble_eq_true rfl) (C10 _ ?_)
        show zEv (d - 1) 295 11 [.ref (gN S4), .ref 0, .int (Int32.ofNat b), .int 110, .ref a4] [] (sI (sP (sNew S4 11 0 (zslots 11)) 162 (gN S4) (some 0)) 144 (gN S4) (Int32.ofNat b)) pst6
        refine zv_c1 ht8 rfl rfl (zv_c1 ht8 rfl rfl ?_)
        refine zv_ci (S' := sI (sI (sP (sNew S4 11 0 (zslots 11)) 162 (gN S4) (some 0)) 144 (gN S4) (Int32.ofNat b)) 160 (gN S4) 110) ht8 rfl rfl ⟨⟨(zhas_of (ztyp_new_at (S := S4) (t := 11) (n := 0) (s := zslots 11) (show 1639 ≤ gN S4 from by omega)) rfl), (show gN S4 < gN S4 + 1 from by omega)⟩, (by decide)⟩ ?_
        refine zv_c1 ht8 rfl rfl (zv_c1 ht8 rfl rfl ?_)
        refine zv_ci (S' := sP (sI (sI (sP (sNew S4 11 0 (zslots 11)) 162 (gN S4) (some 0)) 144 (gN S4) (Int32.ofNat b)) 160 (gN S4) 110) 161 (gN S4) (some a4)) ht8 rfl rfl ⟨(zhas_of (ztyp_new_at (S := S4) (t := 11) (n := 0) (s := zslots 11) (show 1639 ≤ gN S4 from by omega)) rfl), (show gN S4 < gN S4 + 1 from by omega)⟩ ?_
        exact zv_rt ht8 rfl rfl rfl rfl k13
      refine zv_cl ht rfl rfl rfl rfl (by omega) (Nat.le_of_ble_eq_true rfl) (C7 _ ?_)
      show zEv d 260 152 [.ref r, .ref w, .int 0, .int (Int32.ofNat deep), .int (Int32.ofNat b), .int 110, .int 0, .ref a4, .retAddr 0] [.ref (gN S4), .ref r] (sP (sI (sI (sP (sNew S4 11 0 (zslots 11)) 162 (gN S4) (some 0)) 144 (gN S4) (Int32.ofNat b)) 160 (gN S4) 110) 161 (gN S4) (some a4)) post
      have C15 : ∀ (pst14 : Outcome × zS → Prop), (∀ S17 : zS, (zFin true S17) → (pJ (tN 25 0 [] b [y4]) = .ok (tN 25 0 [] b [y4])) → (xJd (sP (sI (sI (sP (sNew S4 11 0 (zslots 11)) 162 (gN S4) (some 0)) 144 (gN S4) (Int32.ofNat b)) 160 (gN S4) 110) 161 (gN S4) (some a4)) (gN S4) S17) → (xTl (gN S) S17 (tN 25 0 [] b [y4]) (gN S4)) → (xR tp sz S17 r at4 nd4) → (gN S17 = gN S4 + 1 ∧ gZ S17 = gZ S4 + 19) → pst14 (.returned (some (.ref (gN S4))), S17)) → (∀ S18 : zS, ∀ q18 : Nat, (zFin true S18) → (pJ (tN 25 0 [] b [y4]) = .error (3, b)) → (xFn (sP (sI (sI (sP (sNew S4 11 0 (zslots 11)) 162 (gN S4) (some 0)) 144 (gN S4) (Int32.ofNat b)) 160 (gN S4) 110) 161 (gN S4) (some a4)) (gN S4) S18) → (xFl S18 q18 3 b) → (gN S18 = gN S4 + 1 + 1 ∧ gZ S18 ≤ gZ S4 + 19 + 3) → pst14 (.threw q18, S18)) → zCall (d - 1) 253 [.ref r, .ref (gN S4)] (sP (sI (sI (sP (sNew S4 11 0 (zslots 11)) 162 (gN S4) (some 0)) 144 (gN S4) (Int32.ofNat b)) 160 (gN S4) 110) 161 (gN S4) (some a4)) pst14 := by
        intro pst14 k19 k20
        have ht16 : ztab 253 = ztb253 := rfl
        show zEv (d - 1) 253 0 [.ref r, .ref (gN S4)] [] (sP (sI (sI (sP (sNew S4 11 0 (zslots 11)) 162 (gN S4) (some 0)) 144 (gN S4) (Int32.ofNat b)) 160 (gN S4) 110) 161 (gN S4) (some a4)) pst14
        refine zv_c1 ht16 rfl rfl ?_
        refine zv_cl ht16 rfl rfl rfl (zv_tgm (ztyp_new_at (S := S4) (t := 11) (n := 0) (s := zslots 11) (show 1639 ≤ gN S4 from by omega)) rfl) (by omega) (Nat.le_of_ble_eq_true rfl) (x_judgeR (S := sP (sI (sI (sP (sNew S4 11 0 (zslots 11)) 162 (gN S4) (some 0)) 144 (gN S4) (Int32.ofNat b)) 160 (gN S4) 110) 161 (gN S4) (some a4)) (tp := tp) (sz := sz) (r := r) (a := gN S4) (k := 25) (v := 0) (p := b) (ks := []) (js := [a4]) (cs := [y4]) (g := gN S4 + 1) (lo := gN S) (zFin_sP (zFin_sP (zFin_new hF4) rfl) rfl) (by omega) (by omega) (by omega) (by omega) (by omega) rfl (xOwn_W (by decide) (ztyp_new_at (S := S4) (t := 11) (n := 0) (s := zslots 11) (show 1639 ≤ gN S4 from by omega)) (gI_sI_at) (gP_sP_at)) ⟨a4, _, rfl, (xTl.ch t4 (zKE.tr (zKE.tr (zKE.tr (zKE.tr (zKE.tr zKE.rf (zKE_new (show gN S4 ≤ gN S4 ∧ gN S4 < zLB from ⟨by omega, by have hLB : zLB = 4294967296 := rfl; omega⟩))) (zKE_sP (Or.inr (Or.inr ⟨by omega, by have hLB : zLB = 4294967296 := rfl; omega⟩)))) (zKE_sI (Or.inr (Or.inr ⟨by omega, by have hLB : zLB = 4294967296 := rfl; omega⟩)))) (zKE_sI (Or.inr (Or.inr ⟨by omega, by have hLB : zLB = 4294967296 := rfl; omega⟩)))) (zKE_sP (Or.inr (Or.inr ⟨by omega, by have hLB : zLB = 4294967296 := rfl; omega⟩)))) (by omega) (by intro j h1 h2; omega)), rfl⟩ (by decide) (by omega) (gI_sI_at) (gI_new_at (S := S4) (t := 11) (n := 0) (s := zslots 11)) (gI_new_at (S := S4) (t := 11) (n := 0) (s := zslots 11)) (xR.ke (Fs := []) p4 (zKE.tr (zKE.tr (zKE.tr (zKE.tr (zKE.tr zKE.rf (zKE_new (show gN S4 ≤ gN S4 ∧ gN S4 < zLB from ⟨by omega, by have hLB : zLB = 4294967296 := rfl; omega⟩))) (zKE_sP (Or.inr (Or.inr ⟨by omega, by have hLB : zLB = 4294967296 := rfl; omega⟩)))) (zKE_sI (Or.inr (Or.inr ⟨by omega, by have hLB : zLB = 4294967296 := rfl; omega⟩)))) (zKE_sI (Or.inr (Or.inr ⟨by omega, by have hLB : zLB = 4294967296 := rfl; omega⟩)))) (zKE_sP (Or.inr (Or.inr ⟨by omega, by have hLB : zLB = 4294967296 := rfl; omega⟩)))) (by omega) (by decide)) (by omega) (fun S17 hF17 e17 j17 t17 p17 g17 => ?_) (fun S18 q18 hF18 e18 k18 x18 g18 => ?_))
        · show zEv (d - 1) 253 4 [.ref r, .ref (gN S4)] [] S17 pst14
          refine zv_c1 ht16 rfl rfl ?_
          exact zv_rt ht16 rfl rfl rfl rfl (k19 S17 hF17 e17 j17 t17 p17 g17)
        · exact (k20 S18 q18 hF18 e18 k18 x18 g18)
      refine zv_cl ht rfl rfl rfl (zv_tgv (Eq.trans (ztyp_new (S := S4) (t := 11) (n := 0) (s := zslots 11) (show r ≠ gN S4 from by omega)) p4.1.2.2.2.1) rfl) (by omega) (Nat.le_of_ble_eq_true rfl) (C15 _ (fun S17 hF17 e17 j17 t17 p17 g17 => ?_) (fun S18 q18 hF18 e18 k18 x18 g18 => ?_))
      · show zEv d 260 155 [.ref r, .ref w, .int 0, .int (Int32.ofNat deep), .int (Int32.ofNat b), .int 110, .int 0, .ref a4, .retAddr 0] [.ref (gN S4)] S17 post
        exact zv_rt ht rfl rfl rfl rfl (h1 S2 nd2 hF2 e2 k2 p2 g2 b2 c2 d2 S4 a4 y4 at4 nd4 hF4 e4 k4 t4 p4 g4 c4 S17 hF17 e17 j17 t17 p17 g17)
      · exact (h2 S2 nd2 hF2 e2 k2 p2 g2 b2 c2 d2 S4 a4 y4 at4 nd4 hF4 e4 k4 t4 p4 g4 c4 S18 q18 hF18 e18 k18 x18 g18)
    · exact (h3 S2 nd2 hF2 e2 k2 p2 g2 b2 c2 d2 S5 q5 kk5 z5 hF5 e5 k5 x5 g5)
  · exact (h4 S3 q3 hF3 e3 k3 x3 g3)

theorem wrZ116 {d : Nat} {S : zS} (hF : zFin true S) (hd : 8 ≤ d) {tp : Nat → Nat} {sz at0 nd r : Nat} {rec : Nat → Nat → Nat → pE (zNd × Nat × Nat)} {K n : Nat} {w : Nat} (b e0 wl deep : Nat) (hR : xR tp sz S r b nd) (hs0 : sz ≤ 300) (ha0 : b ≤ sz) (hr1 : 1639 ≤ r) (hr2 : r < gN S) (hN : gN S + 30 * (sz - b) ≤ 1700000) (hdp : deep < 1000) (hnd : nd ≤ 80) (hw : xWd S w (pWl tp b e0)) (hwN : w < gN S) (hwl : (pWl tp b e0).length = wl) (hel : e0 = b + wl) (hes : e0 < sz) (hk : 0 < wl) (hcc : (pWl tp b e0).getD 0 0 = 116) (hbad : pBad (pWl tp b e0) b = .ok ()) (hIH : deep ≤ 24 → xWr tp sz (d - 1) w b e0 rec n 1 (deep + 1)) {post : Outcome × zS → Prop} (h1 : ∀ S2 : zS, ∀ nd2 : Nat, (zFin true S2) → (pRead b deep nd true = .ok nd2) → (xFr S S2) → (xR tp sz S2 r b nd2) → (gN S ≤ gN S2 ∧ gN S2 ≤ gN S + 0 ∧ gZ S2 ≤ gZ S + 0) → (b ≤ sz) → (nd2 ≤ 80) → (deep ≤ 24) → ∀ S4 : zS, ∀ a4 : Nat, ∀ y4 : zNd, ∀ at4 : Nat, ∀ nd4 : Nat, (zFin true S4) → (pWx tp sz rec n (b + 1) (deep + 1) e0 nd2 = .ok (y4, at4, nd4)) → (xFr (sI S2 133 r (Int32.ofNat (b + 1))) S4) → (xTl (gN S2) S4 y4 a4) → (xR tp sz S4 r at4 nd4) → (gN S2 ≤ gN S4 ∧ gN S4 + 30 * (sz - at4) ≤ gN S2 + 30 * (sz - e0) + 2 * (e0 - (b + 1)) ∧ gZ S4 + 150 * (sz - at4) ≤ gZ S2 + 150 * (sz - e0) + 60 * (e0 - (b + 1))) → (at4 ≤ sz ∧ gN S2 ≤ a4 ∧ a4 < gN S4) → ∀ S21 : zS, (zFin true S21) → (pJ (tN 1 0 [] b []) = .ok (tN 1 0 [] b [])) → (xJd (sI (sI (sP (sNew S4 16 0 (zslots 16)) 174 (gN S4) (some 0)) 144 (gN S4) (Int32.ofNat b)) 173 (gN S4) 1) (gN S4) S21) → (xTl (gN S) S21 (tN 1 0 [] b []) (gN S4)) → (xR tp sz S21 r at4 nd4) → (gN S21 = gN S4 + 1 ∧ gZ S21 = gZ S4 + 19) → ∀ S36 : zS, (zFin true S36) → (pJ (tN 11 0 [] b [y4, tN 1 0 [] b []]) = .ok (tN 11 0 [] b [y4, tN 1 0 [] b []])) → (xJd (sP (sP (sI (sI (sP (sNew S21 20 0 (zslots 20)) 190 (gN S21) (some 0)) 144 (gN S21) (Int32.ofNat b)) 187 (gN S21) 0) 188 (gN S21) (some a4)) 189 (gN S21) (some (gN S4))) (gN S21) S36) → (xTl (gN S) S36 (tN 11 0 [] b [y4, tN 1 0 [] b []]) (gN S21)) → (xR tp sz S36 r at4 nd4) → (gN S36 = gN S21 + 1 ∧ gZ S36 = gZ S21 + 20) → post (.returned (some (.ref (gN S21))), S36)) (h2 : ∀ S2 : zS, ∀ nd2 : Nat, (zFin true S2) → (pRead b deep nd true = .ok nd2) → (xFr S S2) → (xR tp sz S2 r b nd2) → (gN S ≤ gN S2 ∧ gN S2 ≤ gN S + 0 ∧ gZ S2 ≤ gZ S + 0) → (b ≤ sz) → (nd2 ≤ 80) → (deep ≤ 24) → ∀ S4 : zS, ∀ a4 : Nat, ∀ y4 : zNd, ∀ at4 : Nat, ∀ nd4 : Nat, (zFin true S4) → (pWx tp sz rec n (b + 1) (deep + 1) e0 nd2 = .ok (y4, at4, nd4)) → (xFr (sI S2 133 r (Int32.ofNat (b + 1))) S4) → (xTl (gN S2) S4 y4 a4) → (xR tp sz S4 r at4 nd4) → (gN S2 ≤ gN S4 ∧ gN S4 + 30 * (sz - at4) ≤ gN S2 + 30 * (sz - e0) + 2 * (e0 - (b + 1)) ∧ gZ S4 + 150 * (sz - at4) ≤ gZ S2 + 150 * (sz - e0) + 60 * (e0 - (b + 1))) → (at4 ≤ sz ∧ gN S2 ≤ a4 ∧ a4 < gN S4) → ∀ S21 : zS, (zFin true S21) → (pJ (tN 1 0 [] b []) = .ok (tN 1 0 [] b [])) → (xJd (sI (sI (sP (sNew S4 16 0 (zslots 16)) 174 (gN S4) (some 0)) 144 (gN S4) (Int32.ofNat b)) 173 (gN S4) 1) (gN S4) S21) → (xTl (gN S) S21 (tN 1 0 [] b []) (gN S4)) → (xR tp sz S21 r at4 nd4) → (gN S21 = gN S4 + 1 ∧ gZ S21 = gZ S4 + 19) → ∀ S37 : zS, ∀ q37 : Nat, (zFin true S37) → (pJ (tN 11 0 [] b [y4, tN 1 0 [] b []]) = .error (3, b)) → (xFn (sP (sP (sI (sI (sP (sNew S21 20 0 (zslots 20)) 190 (gN S21) (some 0)) 144 (gN S21) (Int32.ofNat b)) 187 (gN S21) 0) 188 (gN S21) (some a4)) 189 (gN S21) (some (gN S4))) (gN S21) S37) → (xFl S37 q37 3 b) → (gN S37 = gN S21 + 1 + 1 ∧ gZ S37 ≤ gZ S21 + 20 + 3) → post (.threw q37, S37)) (h3 : ∀ S2 : zS, ∀ nd2 : Nat, (zFin true S2) → (pRead b deep nd true = .ok nd2) → (xFr S S2) → (xR tp sz S2 r b nd2) → (gN S ≤ gN S2 ∧ gN S2 ≤ gN S + 0 ∧ gZ S2 ≤ gZ S + 0) → (b ≤ sz) → (nd2 ≤ 80) → (deep ≤ 24) → ∀ S4 : zS, ∀ a4 : Nat, ∀ y4 : zNd, ∀ at4 : Nat, ∀ nd4 : Nat, (zFin true S4) → (pWx tp sz rec n (b + 1) (deep + 1) e0 nd2 = .ok (y4, at4, nd4)) → (xFr (sI S2 133 r (Int32.ofNat (b + 1))) S4) → (xTl (gN S2) S4 y4 a4) → (xR tp sz S4 r at4 nd4) → (gN S2 ≤ gN S4 ∧ gN S4 + 30 * (sz - at4) ≤ gN S2 + 30 * (sz - e0) + 2 * (e0 - (b + 1)) ∧ gZ S4 + 150 * (sz - at4) ≤ gZ S2 + 150 * (sz - e0) + 60 * (e0 - (b + 1))) → (at4 ≤ sz ∧ gN S2 ≤ a4 ∧ a4 < gN S4) → ∀ S22 : zS, ∀ q22 : Nat, (zFin true S22) → (pJ (tN 1 0 [] b []) = .error (3, b)) → (xFn (sI (sI (sP (sNew S4 16 0 (zslots 16)) 174 (gN S4) (some 0)) 144 (gN S4) (Int32.ofNat b)) 173 (gN S4) 1) (gN S4) S22) → (xFl S22 q22 3 b) → (gN S22 = gN S4 + 1 + 1 ∧ gZ S22 ≤ gZ S4 + 19 + 3) → post (.threw q22, S22)) (h4 : ∀ S2 : zS, ∀ nd2 : Nat, (zFin true S2) → (pRead b deep nd true = .ok nd2) → (xFr S S2) → (xR tp sz S2 r b nd2) → (gN S ≤ gN S2 ∧ gN S2 ≤ gN S + 0 ∧ gZ S2 ≤ gZ S + 0) → (b ≤ sz) → (nd2 ≤ 80) → (deep ≤ 24) → ∀ S5 : zS, ∀ q5 : Nat, ∀ kk5 : Nat, ∀ z5 : Nat, (zFin true S5) → (pWx tp sz rec n (b + 1) (deep + 1) e0 nd2 = .error (kk5, z5)) → (xFr (sI S2 133 r (Int32.ofNat (b + 1))) S5) → (xFl S5 q5 kk5 z5) → (gN S2 ≤ gN S5 ∧ gN S5 ≤ gN S2 + 30 * (sz - e0) + 2 * (e0 - (b + 1)) + 60 ∧ gZ S5 ≤ gZ S2 + 150 * (sz - e0) + 60 * (e0 - (b + 1)) + 2000) → post (.threw q5, S5)) (h5 : ∀ S3 : zS, ∀ q3 : Nat, (zFin true S3) → (pRead b deep nd true = .error (2, b)) → (xFr S S3) → (xFl S3 q3 2 b) → (gN S ≤ gN S3 ∧ gN S3 ≤ gN S + 1 ∧ gZ S3 ≤ gZ S + 3) → post (.threw q3, S3)) : zCall d 260 [.ref r, .ref w, .int 0, .int (Int32.ofNat deep)] S post := by
  have ht : ztab 260 = ztb260 := rfl
  show zEv d 260 0 [.ref r, .ref w, .int 0, .int (Int32.ofNat deep), .retAddr 0, .retAddr 0, .retAddr 0, .retAddr 0, .retAddr 0] [] S post
  refine zv_c1 ht rfl rfl ?_
  refine zv_ei (x := Int32.ofNat b) ht rfl rfl (zhas_of (hR.1.2.2.2.1) rfl) hR.1.1 ?_
  refine zv_c2 (L' := [.ref r, .ref w, .int 0, .int (Int32.ofNat deep), .int (Int32.ofNat b), .retAddr 0, .retAddr 0, .retAddr 0, .retAddr 0]) ht rfl rfl ?_
  refine zv_c1 ht rfl rfl (zv_c1 ht rfl rfl ?_)
  refine zv_cl ht rfl rfl rfl (zv_tgv ((zStr.t hw.1)) rfl) (by omega) (Nat.le_of_ble_eq_true rfl) (x_len (S := S) hF (by omega) hw.1 (n := wl) hwl ?_)
  show zEv d 260 11 [.ref r, .ref w, .int 0, .int (Int32.ofNat deep), .int (Int32.ofNat b), .retAddr 0, .retAddr 0, .retAddr 0, .retAddr 0] [.int (Int32.ofNat wl), .int 0] S post
  refine zv_br ht rfl rfl rfl (fun b1 => ?_) (fun b1 => (show False from by have hq := b1; have hz : 0 = wl := (zi_eqE (a := 0) (b := wl) rfl rfl (by omega) (by omega)).mp (Classical.not_not.mp hq); omega).elim)
  refine zv_c1 ht rfl rfl (zv_c1 ht rfl rfl ?_)
  refine zv_cl ht rfl rfl rfl (zv_tgv ((zStr.t hw.1)) rfl) (by omega) (Nat.le_of_ble_eq_true rfl) (x_char (S := S) hF (by omega) hw.1 (i := 0) (by omega) (c := 116) hcc ?_)
  show zEv d 260 39 [.ref r, .ref w, .int 0, .int (Int32.ofNat deep), .int (Int32.ofNat b), .retAddr 0, .retAddr 0, .retAddr 0, .retAddr 0] [.int 116] S post
  refine zv_c2 (L' := [.ref r, .ref w, .int 0, .int (Int32.ofNat deep), .int (Int32.ofNat b), .int 116, .retAddr 0, .retAddr 0, .retAddr 0]) ht rfl rfl ?_
  refine zv_c1 ht rfl rfl (zv_c1 ht rfl rfl ?_)
  refine zv_br ht rfl rfl rfl (fun _ => ?_) (fun h => absurd (by decide) h)
  refine zv_c1 ht rfl rfl (zv_c1 ht rfl rfl ?_)
  refine zv_c2 (L' := [.ref r, .ref w, .int 0, .int (Int32.ofNat deep), .int (Int32.ofNat b), .int 116, .int 1, .retAddr 0, .retAddr 0]) ht rfl rfl ?_
  refine zv_c1 ht rfl rfl ?_
  refine zv_br ht rfl rfl rfl (fun h => absurd h (by decide)) (fun _ => ?_)
  refine zv_c1 ht rfl rfl (zv_c1 ht rfl rfl ?_)
  refine zv_cl ht rfl rfl rfl (zv_tgv (hR.1.2.2.2.1) rfl) (by omega) (Nat.le_of_ble_eq_true rfl) (x_findOk (S := S) (r := r) hF (by omega) hR (by omega) hw (by omega) hbad ?_)
  show zEv d 260 78 [.ref r, .ref w, .int 0, .int (Int32.ofNat deep), .int (Int32.ofNat b), .int 116, .int 1, .retAddr 0, .retAddr 0] [] S post
  refine zv_c1 ht rfl rfl (zv_c1 ht rfl rfl (zv_c1 ht rfl rfl ?_))
  refine zv_br ht rfl rfl rfl (fun h => absurd h (by decide)) (fun _ => ?_)
  refine zv_c1 ht rfl rfl (zv_c1 ht rfl rfl (zv_c1 ht rfl rfl ?_))
  refine zv_br ht rfl rfl rfl (fun h => absurd h (by decide)) (fun _ => ?_)
  refine zv_c1 ht rfl rfl (zv_c1 ht rfl rfl ?_)
  refine zv_e1 (x := Int32.ofNat (deep + 1)) ht rfl rfl (zi_addE (a := deep) (b := 1) rfl rfl) ?_
  refine zv_c1 ht rfl rfl ?_
  refine zv_cl ht rfl rfl rfl (zv_tgv (hR.1.2.2.2.1) rfl) (by omega) (Nat.le_of_ble_eq_true rfl) (x_begins (S := S) (tp := tp) (sz := sz) (r := r) (p := b) (dp := deep) (m := 2) (dq := deep + 1) (two := true) hF (by omega) hR (by omega) (by omega) (by omega) (by omega) rfl rfl (fun S2 nd2 hF2 e2 k2 p2 g2 b2 c2 d2 => ?_) (fun S3 q3 hF3 e3 k3 x3 g3 => ?_))
  · show zEv d 260 106 [.ref r, .ref w, .int 0, .int (Int32.ofNat deep), .int (Int32.ofNat b), .int 116, .int 1, .retAddr 0, .retAddr 0] [] S2 post
    refine zv_c1 ht rfl rfl (zv_c1 ht rfl rfl ?_)
    refine zv_ei (x := Int32.ofNat b) ht rfl rfl (zhas_of (p2.1.2.2.2.1) rfl) p2.1.1 ?_
    refine zv_c1 ht rfl rfl ?_
    refine zv_e1 (x := Int32.ofNat (b + 1)) ht rfl rfl (zi_addE (a := b) (b := 1) rfl rfl) ?_
    refine zv_ci (S' := sI S2 133 r (Int32.ofNat (b + 1))) ht rfl rfl ⟨(zhas_of (p2.1.2.2.2.1) rfl), (show r < gN S2 from by omega)⟩ ?_
    refine zv_c1 ht rfl rfl (zv_c1 ht rfl rfl (zv_c1 ht rfl rfl (zv_c1 ht rfl rfl ?_)))
    refine zv_c1 (st' := [.int 1, .ref w, .ref r]) (S' := sI S2 133 r (Int32.ofNat (b + 1))) ht rfl rfl ?_
    refine zv_c1 ht rfl rfl (zv_c1 ht rfl rfl ?_)
    refine zv_e1 (x := Int32.ofNat (deep + 1)) ht rfl rfl (zi_addE (a := deep) (b := 1) rfl rfl) ?_
    refine zv_cl ht rfl rfl rfl (zv_tgv (p2.1.2.2.2.1) rfl) (by omega) (Nat.le_of_ble_eq_true rfl) (xEc.use (g := gN S2) (cN := gN S2 + 30 * (sz - e0) + 2 * (e0 - (b + 1))) (cZ := gZ S2 + 150 * (sz - e0) + 60 * (e0 - (b + 1))) rfl ((hIH (by omega)) (S := sI S2 133 r (Int32.ofNat (b + 1))) (r := r) hF2 (xR_at p2 (by omega)) (xWd.k hw (zKE.tr (zKE.tr zKE.rf (zKE.w k2 (show gN S ≤ gN S from by omega) (fun _ h => h) (fun _ h => h))) (zKE_sI (Or.inl (by decide))))) (by omega) (by omega)) (fun S4 a4 y4 at4 nd4 hF4 e4 k4 t4 p4 g4 c4 => ?_) (fun S5 q5 kk5 z5 hF5 e5 k5 x5 g5 => ?_))
    · show zEv d 260 127 [.ref r, .ref w, .int 0, .int (Int32.ofNat deep), .int (Int32.ofNat b), .int 116, .int 1, .retAddr 0, .retAddr 0] [.ref a4] S4 post
      refine zv_c2 (L' := [.ref r, .ref w, .int 0, .int (Int32.ofNat deep), .int (Int32.ofNat b), .int 116, .int 1, .ref a4, .retAddr 0]) ht rfl rfl ?_
      refine zv_c1 ht rfl rfl ?_
      refine zv_br ht rfl rfl rfl (fun _ => ?_) (fun h => absurd (by decide) h)
      refine zv_c1 ht rfl rfl ?_
      refine zv_ci (st' := [.ref (gN S4), .ref r]) (S' := sNew S4 16 0 (zslots 16)) ht rfl rfl (znew_ok (show 1639 ≤ gN S4 from by omega) (show gN S4 < 2000000 from by omega)) ?_
      refine zv_c1 ht rfl rfl (zv_c1 ht rfl rfl ?_)
      refine zv_g3 (q := 0) ht rfl (zFin_new hF4) rfl rfl (zhas_of (Eq.trans (ztyp_new (S := S4) (t := 16) (n := 0) (s := zslots 16) (show r ≠ gN S4 from by omega)) p4.1.2.2.2.1) rfl) (Eq.trans (gP_new (S := S4) (t := 16) (n := 0) (s := zslots 16) (show r ≠ gN S4 from by omega)) p4.1.2.2.2.2) ?_
      refine zv_c1 ht rfl rfl (zv_c1 ht rfl rfl (zv_c1 ht rfl rfl ?_))
      refine zv_br ht rfl rfl rfl (fun h => absurd h (by decide)) (fun _ => ?_)
      refine zv_c1 ht rfl rfl (zv_c1 ht rfl rfl ?_)
      have C7 : ∀ (pst6 : Outcome × zS → Prop), (pst6 (.returned none, sI (sI (sP (sNew S4 16 0 (zslots 16)) 174 (gN S4) (some 0)) 144 (gN S4) (Int32.ofNat b)) 173 (gN S4) 1)) → zCall (d - 1) 334 [.ref (gN S4), .ref 0, .int (Int32.ofNat b), .int 1] (sNew S4 16 0 (zslots 16)) pst6 := by
        intro pst6 k17
        have ht8 : ztab 334 = ztb334 := rfl
        show zEv (d - 1) 334 0 [.ref (gN S4), .ref 0, .int (Int32.ofNat b), .int 1] [] (sNew S4 16 0 (zslots 16)) pst6
        refine zv_c1 ht8 rfl rfl (zv_c1 ht8 rfl rfl ?_)
        refine zv_ci (S' := sP (sNew S4 16 0 (zslots 16)) 174 (gN S4) (some 0)) ht8 rfl rfl ⟨(zhas_of (ztyp_new_at (S := S4) (t := 16) (n := 0) (s := zslots 16) (show 1639 ≤ gN S4 from by omega)) rfl), (show gN S4 < gN S4 + 1 from by omega)⟩ ?_
        refine zv_c1 ht8 rfl rfl (zv_c1 ht8 rfl rfl (zv_c1 ht8 rfl rfl ?_))
        have C10 : ∀ (pst9 : Outcome × zS → Prop), (pst9 (.returned none, sI (sP (sNew S4 16 0 (zslots 16)) 174 (gN S4) (some 0)) 144 (gN S4) (Int32.ofNat b))) → zCall ((d - 1) - 1) 306 [.ref (gN S4), .ref 0, .int (Int32.ofNat b)] (sP (sNew S4 16 0 (zslots 16)) 174 (gN S4) (some 0)) pst9 := by
          intro pst9 k16
          have ht11 : ztab 306 = ztb306 := rfl
          show zEv ((d - 1) - 1) 306 0 [.ref (gN S4), .ref 0, .int (Int32.ofNat b)] [] (sP (sNew S4 16 0 (zslots 16)) 174 (gN S4) (some 0)) pst9
          refine zv_c1 ht11 rfl rfl (zv_c1 ht11 rfl rfl ?_)
          refine zv_ci (S' := sP (sNew S4 16 0 (zslots 16)) 174 (gN S4) (some 0)) ht11 rfl rfl (zk5 (ztyp_new_at (S := S4) (t := 16) (n := 0) (s := zslots 16) (show 1639 ≤ gN S4 from by omega)) rfl (show gN S4 < gN S4 + 1 from by omega) rfl gP_sP_at) ?_
          refine zv_c1 ht11 rfl rfl (zv_c1 ht11 rfl rfl (zv_c1 ht11 rfl rfl ?_))
          have C13 : ∀ (pst12 : Outcome × zS → Prop), (pst12 (.returned none, sI (sP (sNew S4 16 0 (zslots 16)) 174 (gN S4) (some 0)) 144 (gN S4) (Int32.ofNat b))) → zCall (((d - 1) - 1) - 1) 280 [.ref (gN S4), .ref 0, .int (Int32.ofNat b)] (sP (sNew S4 16 0 (zslots 16)) 174 (gN S4) (some 0)) pst12 := by
            intro pst12 k15
            have ht14 : ztab 280 = ztb280 := rfl
            show zEv (((d - 1) - 1) - 1) 280 0 [.ref (gN S4), .ref 0, .int (Int32.ofNat b)] [] (sP (sNew S4 16 0 (zslots 16)) 174 (gN S4) (some 0)) pst12
            refine zv_c1 ht14 rfl rfl (zv_c1 ht14 rfl rfl ?_)
            refine zv_ci (S' := sP (sNew S4 16 0 (zslots 16)) 174 (gN S4) (some 0)) ht14 rfl rfl (zk5 (ztyp_new_at (S := S4) (t := 16) (n := 0) (s := zslots 16) (show 1639 ≤ gN S4 from by omega)) rfl (show gN S4 < gN S4 + 1 from by omega) rfl gP_sP_at) ?_
            refine zv_c1 ht14 rfl rfl (zv_c1 ht14 rfl rfl (zv_c1 ht14 rfl rfl (zv_c1 ht14 rfl rfl ?_)))
            refine zv_ci (S' := sI (sP (sNew S4 16 0 (zslots 16)) 174 (gN S4) (some 0)) 144 (gN S4) (Int32.ofNat b)) ht14 rfl rfl ⟨(zhas_of (ztyp_new_at (S := S4) (t := 16) (n := 0) (s := zslots 16) (show 1639 ≤ gN S4 from by omega)) rfl), (show gN S4 < gN S4 + 1 from by omega)⟩ ?_
            exact zv_rt ht14 rfl rfl rfl rfl k15
          refine zv_cl ht11 rfl rfl rfl rfl (by omega) (Nat.le_of_ble_eq_true rfl) (C13 _ ?_)
          show zEv ((d - 1) - 1) 306 11 [.ref (gN S4), .ref 0, .int (Int32.ofNat b)] [] (sI (sP (sNew S4 16 0 (zslots 16)) 174 (gN S4) (some 0)) 144 (gN S4) (Int32.ofNat b)) pst9
          exact zv_rt ht11 rfl rfl rfl rfl k16
        refine zv_cl ht8 rfl rfl rfl rfl (by omega) (Nat.le_of_ble_eq_true rfl) (C10 _ ?_)
        show zEv (d - 1) 334 11 [.ref (gN S4), .ref 0, .int (Int32.ofNat b), .int 1] [] (sI (sP (sNew S4 16 0 (zslots 16)) 174 (gN S4) (some 0)) 144 (gN S4) (Int32.ofNat b)) pst6
        refine zv_c1 ht8 rfl rfl (zv_c1 ht8 rfl rfl ?_)
        refine zv_ci (S' := sI (sI (sP (sNew S4 16 0 (zslots 16)) 174 (gN S4) (some 0)) 144 (gN S4) (Int32.ofNat b)) 173 (gN S4) 1) ht8 rfl rfl ⟨⟨(zhas_of (ztyp_new_at (S := S4) (t := 16) (n := 0) (s := zslots 16) (show 1639 ≤ gN S4 from by omega)) rfl), (show gN S4 < gN S4 + 1 from by omega)⟩, (by decide)⟩ ?_
        exact zv_rt ht8 rfl rfl rfl rfl k17
      refine zv_cl ht rfl rfl rfl rfl (by omega) (Nat.le_of_ble_eq_true rfl) (C7 _ ?_)
      show zEv d 260 182 [.ref r, .ref w, .int 0, .int (Int32.ofNat deep), .int (Int32.ofNat b), .int 116, .int 1, .ref a4, .retAddr 0] [.ref (gN S4), .ref r] (sI (sI (sP (sNew S4 16 0 (zslots 16)) 174 (gN S4) (some 0)) 144 (gN S4) (Int32.ofNat b)) 173 (gN S4) 1) post
      have C19 : ∀ (pst18 : Outcome × zS → Prop), (∀ S21 : zS, (zFin true S21) → (pJ (tN 1 0 [] b []) = .ok (tN 1 0 [] b [])) → (xJd (sI (sI (sP (sNew S4 16 0 (zslots 16)) 174 (gN S4) (some 0)) 144 (gN S4) (Int32.ofNat b)) 173 (gN S4) 1) (gN S4) S21) → (xTl (gN S) S21 (tN 1 0 [] b []) (gN S4)) → (xR tp sz S21 r at4 nd4) → (gN S21 = gN S4 + 1 ∧ gZ S21 = gZ S4 + 19) → pst18 (.returned (some (.ref (gN S4))), S21)) → (∀ S22 : zS, ∀ q22 : Nat, (zFin true S22) → (pJ (tN 1 0 [] b []) = .error (3, b)) → (xFn (sI (sI (sP (sNew S4 16 0 (zslots 16)) 174 (gN S4) (some 0)) 144 (gN S4) (Int32.ofNat b)) 173 (gN S4) 1) (gN S4) S22) → (xFl S22 q22 3 b) → (gN S22 = gN S4 + 1 + 1 ∧ gZ S22 ≤ gZ S4 + 19 + 3) → pst18 (.threw q22, S22)) → zCall (d - 1) 253 [.ref r, .ref (gN S4)] (sI (sI (sP (sNew S4 16 0 (zslots 16)) 174 (gN S4) (some 0)) 144 (gN S4) (Int32.ofNat b)) 173 (gN S4) 1) pst18 := by
        intro pst18 k23 k24
        have ht20 : ztab 253 = ztb253 := rfl
        show zEv (d - 1) 253 0 [.ref r, .ref (gN S4)] [] (sI (sI (sP (sNew S4 16 0 (zslots 16)) 174 (gN S4) (some 0)) 144 (gN S4) (Int32.ofNat b)) 173 (gN S4) 1) pst18
        refine zv_c1 ht20 rfl rfl ?_
        refine zv_cl ht20 rfl rfl rfl (zv_tgm (ztyp_new_at (S := S4) (t := 16) (n := 0) (s := zslots 16) (show 1639 ≤ gN S4 from by omega)) rfl) (by omega) (Nat.le_of_ble_eq_true rfl) (x_judgeR (S := sI (sI (sP (sNew S4 16 0 (zslots 16)) 174 (gN S4) (some 0)) 144 (gN S4) (Int32.ofNat b)) 173 (gN S4) 1) (tp := tp) (sz := sz) (r := r) (a := gN S4) (k := 1) (v := 0) (p := b) (ks := []) (js := []) (cs := []) (g := gN S4 + 1) (lo := gN S) (zFin_sP (zFin_new hF4) rfl) (by omega) (by omega) (by omega) (by omega) (by omega) rfl (xOwn_B (by decide) (ztyp_new_at (S := S4) (t := 16) (n := 0) (s := zslots 16) (show 1639 ≤ gN S4 from by omega)) (gI_sI_at)) rfl (by decide) (by omega) (gI_sI_at) (gI_new_at (S := S4) (t := 16) (n := 0) (s := zslots 16)) (gI_new_at (S := S4) (t := 16) (n := 0) (s := zslots 16)) (xR.ke (Fs := []) p4 (zKE.tr (zKE.tr (zKE.tr (zKE.tr zKE.rf (zKE_new (show gN S4 ≤ gN S4 ∧ gN S4 < zLB from ⟨by omega, by have hLB : zLB = 4294967296 := rfl; omega⟩))) (zKE_sP (Or.inr (Or.inr ⟨by omega, by have hLB : zLB = 4294967296 := rfl; omega⟩)))) (zKE_sI (Or.inr (Or.inr ⟨by omega, by have hLB : zLB = 4294967296 := rfl; omega⟩)))) (zKE_sI (Or.inr (Or.inr ⟨by omega, by have hLB : zLB = 4294967296 := rfl; omega⟩)))) (by omega) (by decide)) (by omega) (fun S21 hF21 e21 j21 t21 p21 g21 => ?_) (fun S22 q22 hF22 e22 k22 x22 g22 => ?_))
        · show zEv (d - 1) 253 4 [.ref r, .ref (gN S4)] [] S21 pst18
          refine zv_c1 ht20 rfl rfl ?_
          exact zv_rt ht20 rfl rfl rfl rfl (k23 S21 hF21 e21 j21 t21 p21 g21)
        · exact (k24 S22 q22 hF22 e22 k22 x22 g22)
      refine zv_cl ht rfl rfl rfl (zv_tgv (Eq.trans (ztyp_new (S := S4) (t := 16) (n := 0) (s := zslots 16) (show r ≠ gN S4 from by omega)) p4.1.2.2.2.1) rfl) (by omega) (Nat.le_of_ble_eq_true rfl) (C19 _ (fun S21 hF21 e21 j21 t21 p21 g21 => ?_) (fun S22 q22 hF22 e22 k22 x22 g22 => ?_))
      · show zEv d 260 185 [.ref r, .ref w, .int 0, .int (Int32.ofNat deep), .int (Int32.ofNat b), .int 116, .int 1, .ref a4, .retAddr 0] [.ref (gN S4)] S21 post
        refine zv_c2 (L' := [.ref r, .ref w, .int 0, .int (Int32.ofNat deep), .int (Int32.ofNat b), .int 116, .int 1, .ref a4, .ref (gN S4)]) ht rfl rfl ?_
        refine zv_c1 ht rfl rfl (zv_c1 ht rfl rfl (zv_c1 ht rfl rfl ?_))
        refine zv_br ht rfl rfl rfl (fun h => absurd h (by decide)) (fun _ => ?_)
        refine zv_ci (st' := [.ref (gN S21), .ref r]) (S' := sNew S21 20 0 (zslots 20)) ht rfl rfl (znew_ok (show 1639 ≤ gN S21 from by omega) (show gN S21 < 2000000 from by omega)) ?_
        refine zv_c1 ht rfl rfl (zv_c1 ht rfl rfl ?_)
        refine zv_g3 (q := 0) ht rfl (zFin_new hF21) rfl rfl (zhas_of (Eq.trans (ztyp_new (S := S21) (t := 20) (n := 0) (s := zslots 20) (show r ≠ gN S21 from by omega)) p21.1.2.2.2.1) rfl) (Eq.trans (gP_new (S := S21) (t := 20) (n := 0) (s := zslots 20) (show r ≠ gN S21 from by omega)) p21.1.2.2.2.2) ?_
        refine zv_c1 ht rfl rfl (zv_c1 ht rfl rfl (zv_c1 ht rfl rfl (zv_c1 ht rfl rfl ?_)))
        have C26 : ∀ (pst25 : Outcome × zS → Prop), (pst25 (.returned none, sP (sP (sI (sI (sP (sNew S21 20 0 (zslots 20)) 190 (gN S21) (some 0)) 144 (gN S21) (Int32.ofNat b)) 187 (gN S21) 0) 188 (gN S21) (some a4)) 189 (gN S21) (some (gN S4)))) → zCall (d - 1) 373 [.ref (gN S21), .ref 0, .int (Int32.ofNat b), .int 0, .ref a4, .ref (gN S4)] (sNew S21 20 0 (zslots 20)) pst25 := by
          intro pst25 k32
          have ht27 : ztab 373 = ztb373 := rfl
          show zEv (d - 1) 373 0 [.ref (gN S21), .ref 0, .int (Int32.ofNat b), .int 0, .ref a4, .ref (gN S4)] [] (sNew S21 20 0 (zslots 20)) pst25
          refine zv_c1 ht27 rfl rfl (zv_c1 ht27 rfl rfl ?_)
          refine zv_ci (S' := sP (sNew S21 20 0 (zslots 20)) 190 (gN S21) (some 0)) ht27 rfl rfl ⟨(zhas_of (ztyp_new_at (S := S21) (t := 20) (n := 0) (s := zslots 20) (show 1639 ≤ gN S21 from by omega)) rfl), (show gN S21 < gN S21 + 1 from by omega)⟩ ?_
          refine zv_c1 ht27 rfl rfl (zv_c1 ht27 rfl rfl (zv_c1 ht27 rfl rfl ?_))
          have C29 : ∀ (pst28 : Outcome × zS → Prop), (pst28 (.returned none, sI (sP (sNew S21 20 0 (zslots 20)) 190 (gN S21) (some 0)) 144 (gN S21) (Int32.ofNat b))) → zCall ((d - 1) - 1) 280 [.ref (gN S21), .ref 0, .int (Int32.ofNat b)] (sP (sNew S21 20 0 (zslots 20)) 190 (gN S21) (some 0)) pst28 := by
            intro pst28 k31
            have ht30 : ztab 280 = ztb280 := rfl
            show zEv ((d - 1) - 1) 280 0 [.ref (gN S21), .ref 0, .int (Int32.ofNat b)] [] (sP (sNew S21 20 0 (zslots 20)) 190 (gN S21) (some 0)) pst28
            refine zv_c1 ht30 rfl rfl (zv_c1 ht30 rfl rfl ?_)
            refine zv_ci (S' := sP (sNew S21 20 0 (zslots 20)) 190 (gN S21) (some 0)) ht30 rfl rfl (zk5 (ztyp_new_at (S := S21) (t := 20) (n := 0) (s := zslots 20) (show 1639 ≤ gN S21 from by omega)) rfl (show gN S21 < gN S21 + 1 from by omega) rfl gP_sP_at) ?_
            refine zv_c1 ht30 rfl rfl (zv_c1 ht30 rfl rfl (zv_c1 ht30 rfl rfl (zv_c1 ht30 rfl rfl ?_)))
            refine zv_ci (S' := sI (sP (sNew S21 20 0 (zslots 20)) 190 (gN S21) (some 0)) 144 (gN S21) (Int32.ofNat b)) ht30 rfl rfl ⟨(zhas_of (ztyp_new_at (S := S21) (t := 20) (n := 0) (s := zslots 20) (show 1639 ≤ gN S21 from by omega)) rfl), (show gN S21 < gN S21 + 1 from by omega)⟩ ?_
            exact zv_rt ht30 rfl rfl rfl rfl k31
          refine zv_cl ht27 rfl rfl rfl rfl (by omega) (Nat.le_of_ble_eq_true rfl) (C29 _ ?_)
          show zEv (d - 1) 373 11 [.ref (gN S21), .ref 0, .int (Int32.ofNat b), .int 0, .ref a4, .ref (gN S4)] [] (sI (sP (sNew S21 20 0 (zslots 20)) 190 (gN S21) (some 0)) 144 (gN S21) (Int32.ofNat b)) pst25
          refine zv_c1 ht27 rfl rfl (zv_c1 ht27 rfl rfl ?_)
          refine zv_ci (S' := sI (sI (sP (sNew S21 20 0 (zslots 20)) 190 (gN S21) (some 0)) 144 (gN S21) (Int32.ofNat b)) 187 (gN S21) 0) ht27 rfl rfl ⟨(zhas_of (ztyp_new_at (S := S21) (t := 20) (n := 0) (s := zslots 20) (show 1639 ≤ gN S21 from by omega)) rfl), (show gN S21 < gN S21 + 1 from by omega)⟩ ?_
          refine zv_c1 ht27 rfl rfl (zv_c1 ht27 rfl rfl ?_)
          refine zv_ci (S' := sP (sI (sI (sP (sNew S21 20 0 (zslots 20)) 190 (gN S21) (some 0)) 144 (gN S21) (Int32.ofNat b)) 187 (gN S21) 0) 188 (gN S21) (some a4)) ht27 rfl rfl ⟨(zhas_of (ztyp_new_at (S := S21) (t := 20) (n := 0) (s := zslots 20) (show 1639 ≤ gN S21 from by omega)) rfl), (show gN S21 < gN S21 + 1 from by omega)⟩ ?_
          refine zv_c1 ht27 rfl rfl (zv_c1 ht27 rfl rfl ?_)
          refine zv_ci (S' := sP (sP (sI (sI (sP (sNew S21 20 0 (zslots 20)) 190 (gN S21) (some 0)) 144 (gN S21) (Int32.ofNat b)) 187 (gN S21) 0) 188 (gN S21) (some a4)) 189 (gN S21) (some (gN S4))) ht27 rfl rfl ⟨(zhas_of (ztyp_new_at (S := S21) (t := 20) (n := 0) (s := zslots 20) (show 1639 ≤ gN S21 from by omega)) rfl), (show gN S21 < gN S21 + 1 from by omega)⟩ ?_
          exact zv_rt ht27 rfl rfl rfl rfl k32
        refine zv_cl ht rfl rfl rfl rfl (by omega) (Nat.le_of_ble_eq_true rfl) (C26 _ ?_)
        show zEv d 260 213 [.ref r, .ref w, .int 0, .int (Int32.ofNat deep), .int (Int32.ofNat b), .int 116, .int 1, .ref a4, .ref (gN S4)] [.ref (gN S21), .ref r] (sP (sP (sI (sI (sP (sNew S21 20 0 (zslots 20)) 190 (gN S21) (some 0)) 144 (gN S21) (Int32.ofNat b)) 187 (gN S21) 0) 188 (gN S21) (some a4)) 189 (gN S21) (some (gN S4))) post
        refine zv_c1 ht rfl rfl ?_
        have C34 : ∀ (pst33 : Outcome × zS → Prop), (∀ S36 : zS, (zFin true S36) → (pJ (tN 11 0 [] b [y4, tN 1 0 [] b []]) = .ok (tN 11 0 [] b [y4, tN 1 0 [] b []])) → (xJd (sP (sP (sI (sI (sP (sNew S21 20 0 (zslots 20)) 190 (gN S21) (some 0)) 144 (gN S21) (Int32.ofNat b)) 187 (gN S21) 0) 188 (gN S21) (some a4)) 189 (gN S21) (some (gN S4))) (gN S21) S36) → (xTl (gN S) S36 (tN 11 0 [] b [y4, tN 1 0 [] b []]) (gN S21)) → (xR tp sz S36 r at4 nd4) → (gN S36 = gN S21 + 1 ∧ gZ S36 = gZ S21 + 20) → pst33 (.returned (some (.ref (gN S21))), S36)) → (∀ S37 : zS, ∀ q37 : Nat, (zFin true S37) → (pJ (tN 11 0 [] b [y4, tN 1 0 [] b []]) = .error (3, b)) → (xFn (sP (sP (sI (sI (sP (sNew S21 20 0 (zslots 20)) 190 (gN S21) (some 0)) 144 (gN S21) (Int32.ofNat b)) 187 (gN S21) 0) 188 (gN S21) (some a4)) 189 (gN S21) (some (gN S4))) (gN S21) S37) → (xFl S37 q37 3 b) → (gN S37 = gN S21 + 1 + 1 ∧ gZ S37 ≤ gZ S21 + 20 + 3) → pst33 (.threw q37, S37)) → zCall (d - 1) 253 [.ref r, .ref (gN S21)] (sP (sP (sI (sI (sP (sNew S21 20 0 (zslots 20)) 190 (gN S21) (some 0)) 144 (gN S21) (Int32.ofNat b)) 187 (gN S21) 0) 188 (gN S21) (some a4)) 189 (gN S21) (some (gN S4))) pst33 := by
          intro pst33 k38 k39
          have ht35 : ztab 253 = ztb253 := rfl
          show zEv (d - 1) 253 0 [.ref r, .ref (gN S21)] [] (sP (sP (sI (sI (sP (sNew S21 20 0 (zslots 20)) 190 (gN S21) (some 0)) 144 (gN S21) (Int32.ofNat b)) 187 (gN S21) 0) 188 (gN S21) (some a4)) 189 (gN S21) (some (gN S4))) pst33
          refine zv_c1 ht35 rfl rfl ?_
          refine zv_cl ht35 rfl rfl rfl (zv_tgm (ztyp_new_at (S := S21) (t := 20) (n := 0) (s := zslots 20) (show 1639 ≤ gN S21 from by omega)) rfl) (by omega) (Nat.le_of_ble_eq_true rfl) (x_judgeR (S := sP (sP (sI (sI (sP (sNew S21 20 0 (zslots 20)) 190 (gN S21) (some 0)) 144 (gN S21) (Int32.ofNat b)) 187 (gN S21) 0) 188 (gN S21) (some a4)) 189 (gN S21) (some (gN S4))) (tp := tp) (sz := sz) (r := r) (a := gN S21) (k := 11) (v := 0) (p := b) (ks := []) (js := [a4, gN S4]) (cs := [y4, tN 1 0 [] b []]) (g := gN S21 + 1) (lo := gN S) (zFin_sP (zFin_sP (zFin_sP (zFin_new hF21) rfl) rfl) rfl) (by omega) (by omega) (by omega) (by omega) (by omega) rfl (xOwn_P (by decide) (ztyp_new_at (S := S21) (t := 20) (n := 0) (s := zslots 20) (show 1639 ≤ gN S21 from by omega)) (gI_sI_at) (gP_sP_at) (gP_sP_at)) ⟨a4, _, rfl, (xTl.ch t4 (zKE.tr (zKE.tr (zKE.tr (zKE.tr (zKE.tr (zKE.tr (zKE.tr (zKE.tr (zKE.tr (zKE.tr (zKE.tr zKE.rf (zKE_new (show gN S4 ≤ gN S4 ∧ gN S4 < zLB from ⟨by omega, by have hLB : zLB = 4294967296 := rfl; omega⟩))) (zKE_sP (Or.inr (Or.inr ⟨by omega, by have hLB : zLB = 4294967296 := rfl; omega⟩)))) (zKE_sI (Or.inr (Or.inr ⟨by omega, by have hLB : zLB = 4294967296 := rfl; omega⟩)))) (zKE_sI (Or.inr (Or.inr ⟨by omega, by have hLB : zLB = 4294967296 := rfl; omega⟩)))) (xJd.ke j21 ⟨by omega, by have hLB : zLB = 4294967296 := rfl; omega⟩)) (zKE_new (show gN S4 ≤ gN S21 ∧ gN S21 < zLB from ⟨by omega, by have hLB : zLB = 4294967296 := rfl; omega⟩))) (zKE_sP (Or.inr (Or.inr ⟨by omega, by have hLB : zLB = 4294967296 := rfl; omega⟩)))) (zKE_sI (Or.inr (Or.inr ⟨by omega, by have hLB : zLB = 4294967296 := rfl; omega⟩)))) (zKE_sI (Or.inr (Or.inr ⟨by omega, by have hLB : zLB = 4294967296 := rfl; omega⟩)))) (zKE_sP (Or.inr (Or.inr ⟨by omega, by have hLB : zLB = 4294967296 := rfl; omega⟩)))) (zKE_sP (Or.inr (Or.inr ⟨by omega, by have hLB : zLB = 4294967296 := rfl; omega⟩)))) (by omega) (by intro j h1 h2; omega)), ⟨gN S4, _, rfl, (xTl.ch t21 (zKE.tr (zKE.tr (zKE.tr (zKE.tr (zKE.tr (zKE.tr zKE.rf (zKE_new (show gN S21 ≤ gN S21 ∧ gN S21 < zLB from ⟨by omega, by have hLB : zLB = 4294967296 := rfl; omega⟩))) (zKE_sP (Or.inr (Or.inr ⟨by omega, by have hLB : zLB = 4294967296 := rfl; omega⟩)))) (zKE_sI (Or.inr (Or.inr ⟨by omega, by have hLB : zLB = 4294967296 := rfl; omega⟩)))) (zKE_sI (Or.inr (Or.inr ⟨by omega, by have hLB : zLB = 4294967296 := rfl; omega⟩)))) (zKE_sP (Or.inr (Or.inr ⟨by omega, by have hLB : zLB = 4294967296 := rfl; omega⟩)))) (zKE_sP (Or.inr (Or.inr ⟨by omega, by have hLB : zLB = 4294967296 := rfl; omega⟩)))) (by omega) (by intro j h1 h2; omega)), rfl⟩⟩ (by decide) (by omega) (gI_sI_at) (gI_new_at (S := S21) (t := 20) (n := 0) (s := zslots 20)) (gI_new_at (S := S21) (t := 20) (n := 0) (s := zslots 20)) (xR.ke (Fs := []) p21 (zKE.tr (zKE.tr (zKE.tr (zKE.tr (zKE.tr (zKE.tr zKE.rf (zKE_new (show gN S21 ≤ gN S21 ∧ gN S21 < zLB from ⟨by omega, by have hLB : zLB = 4294967296 := rfl; omega⟩))) (zKE_sP (Or.inr (Or.inr ⟨by omega, by have hLB : zLB = 4294967296 := rfl; omega⟩)))) (zKE_sI (Or.inr (Or.inr ⟨by omega, by have hLB : zLB = 4294967296 := rfl; omega⟩)))) (zKE_sI (Or.inr (Or.inr ⟨by omega, by have hLB : zLB = 4294967296 := rfl; omega⟩)))) (zKE_sP (Or.inr (Or.inr ⟨by omega, by have hLB : zLB = 4294967296 := rfl; omega⟩)))) (zKE_sP (Or.inr (Or.inr ⟨by omega, by have hLB : zLB = 4294967296 := rfl; omega⟩)))) (by omega) (by decide)) (by omega) (fun S36 hF36 e36 j36 t36 p36 g36 => ?_) (fun S37 q37 hF37 e37 k37 x37 g37 => ?_))
          · show zEv (d - 1) 253 4 [.ref r, .ref (gN S21)] [] S36 pst33
            refine zv_c1 ht35 rfl rfl ?_
            exact zv_rt ht35 rfl rfl rfl rfl (k38 S36 hF36 e36 j36 t36 p36 g36)
          · exact (k39 S37 q37 hF37 e37 k37 x37 g37)
        refine zv_cl ht rfl rfl rfl (zv_tgv (Eq.trans (ztyp_new (S := S21) (t := 20) (n := 0) (s := zslots 20) (show r ≠ gN S21 from by omega)) p21.1.2.2.2.1) rfl) (by omega) (Nat.le_of_ble_eq_true rfl) (C34 _ (fun S36 hF36 e36 j36 t36 p36 g36 => ?_) (fun S37 q37 hF37 e37 k37 x37 g37 => ?_))
        · show zEv d 260 265 [.ref r, .ref w, .int 0, .int (Int32.ofNat deep), .int (Int32.ofNat b), .int 116, .int 1, .ref a4, .ref (gN S4)] [.ref (gN S21)] S36 post
          exact zv_rt ht rfl rfl rfl rfl (h1 S2 nd2 hF2 e2 k2 p2 g2 b2 c2 d2 S4 a4 y4 at4 nd4 hF4 e4 k4 t4 p4 g4 c4 S21 hF21 e21 j21 t21 p21 g21 S36 hF36 e36 j36 t36 p36 g36)
        · exact (h2 S2 nd2 hF2 e2 k2 p2 g2 b2 c2 d2 S4 a4 y4 at4 nd4 hF4 e4 k4 t4 p4 g4 c4 S21 hF21 e21 j21 t21 p21 g21 S37 q37 hF37 e37 k37 x37 g37)
      · exact (h3 S2 nd2 hF2 e2 k2 p2 g2 b2 c2 d2 S4 a4 y4 at4 nd4 hF4 e4 k4 t4 p4 g4 c4 S22 q22 hF22 e22 k22 x22 g22)
    · exact (h4 S2 nd2 hF2 e2 k2 p2 g2 b2 c2 d2 S5 q5 kk5 z5 hF5 e5 k5 x5 g5)
  · exact (h5 S3 q3 hF3 e3 k3 x3 g3)

theorem wrZ108 {d : Nat} {S : zS} (hF : zFin true S) (hd : 8 ≤ d) {tp : Nat → Nat} {sz at0 nd r : Nat} {rec : Nat → Nat → Nat → pE (zNd × Nat × Nat)} {K n : Nat} {w : Nat} (b e0 wl deep : Nat) (hR : xR tp sz S r b nd) (hs0 : sz ≤ 300) (ha0 : b ≤ sz) (hr1 : 1639 ≤ r) (hr2 : r < gN S) (hN : gN S + 30 * (sz - b) ≤ 1700000) (hdp : deep < 1000) (hnd : nd ≤ 80) (hw : xWd S w (pWl tp b e0)) (hwN : w < gN S) (hwl : (pWl tp b e0).length = wl) (hel : e0 = b + wl) (hes : e0 < sz) (hk : 0 < wl) (hcc : (pWl tp b e0).getD 0 0 = 108) (hbad : pBad (pWl tp b e0) b = .ok ()) (hIH : deep ≤ 24 → xWr tp sz (d - 1) w b e0 rec n 1 (deep + 1)) {post : Outcome × zS → Prop} (h1 : ∀ S2 : zS, ∀ nd2 : Nat, (zFin true S2) → (pRead b deep nd true = .ok nd2) → (xFr S S2) → (xR tp sz S2 r b nd2) → (gN S ≤ gN S2 ∧ gN S2 ≤ gN S + 0 ∧ gZ S2 ≤ gZ S + 0) → (b ≤ sz) → (nd2 ≤ 80) → (deep ≤ 24) → ∀ S4 : zS, ∀ a4 : Nat, ∀ y4 : zNd, ∀ at4 : Nat, ∀ nd4 : Nat, (zFin true S4) → (pWx tp sz rec n (b + 1) (deep + 1) e0 nd2 = .ok (y4, at4, nd4)) → (xFr (sI S2 133 r (Int32.ofNat (b + 1))) S4) → (xTl (gN S2) S4 y4 a4) → (xR tp sz S4 r at4 nd4) → (gN S2 ≤ gN S4 ∧ gN S4 + 30 * (sz - at4) ≤ gN S2 + 30 * (sz - e0) + 2 * (e0 - (b + 1)) ∧ gZ S4 + 150 * (sz - at4) ≤ gZ S2 + 150 * (sz - e0) + 60 * (e0 - (b + 1))) → (at4 ≤ sz ∧ gN S2 ≤ a4 ∧ a4 < gN S4) → ∀ S21 : zS, (zFin true S21) → (pJ (tN 0 0 [] b []) = .ok (tN 0 0 [] b [])) → (xJd (sI (sI (sP (sNew S4 16 0 (zslots 16)) 174 (gN S4) (some 0)) 144 (gN S4) (Int32.ofNat b)) 173 (gN S4) 0) (gN S4) S21) → (xTl (gN S) S21 (tN 0 0 [] b []) (gN S4)) → (xR tp sz S21 r at4 nd4) → (gN S21 = gN S4 + 1 ∧ gZ S21 = gZ S4 + 19) → ∀ S36 : zS, (zFin true S36) → (pJ (tN 16 0 [] b [tN 0 0 [] b [], y4]) = .ok (tN 16 0 [] b [tN 0 0 [] b [], y4])) → (xJd (sP (sP (sI (sI (sP (sNew S21 20 0 (zslots 20)) 190 (gN S21) (some 0)) 144 (gN S21) (Int32.ofNat b)) 187 (gN S21) 5) 188 (gN S21) (some (gN S4))) 189 (gN S21) (some a4)) (gN S21) S36) → (xTl (gN S) S36 (tN 16 0 [] b [tN 0 0 [] b [], y4]) (gN S21)) → (xR tp sz S36 r at4 nd4) → (gN S36 = gN S21 + 1 ∧ gZ S36 = gZ S21 + 20) → post (.returned (some (.ref (gN S21))), S36)) (h2 : ∀ S2 : zS, ∀ nd2 : Nat, (zFin true S2) → (pRead b deep nd true = .ok nd2) → (xFr S S2) → (xR tp sz S2 r b nd2) → (gN S ≤ gN S2 ∧ gN S2 ≤ gN S + 0 ∧ gZ S2 ≤ gZ S + 0) → (b ≤ sz) → (nd2 ≤ 80) → (deep ≤ 24) → ∀ S4 : zS, ∀ a4 : Nat, ∀ y4 : zNd, ∀ at4 : Nat, ∀ nd4 : Nat, (zFin true S4) → (pWx tp sz rec n (b + 1) (deep + 1) e0 nd2 = .ok (y4, at4, nd4)) → (xFr (sI S2 133 r (Int32.ofNat (b + 1))) S4) → (xTl (gN S2) S4 y4 a4) → (xR tp sz S4 r at4 nd4) → (gN S2 ≤ gN S4 ∧ gN S4 + 30 * (sz - at4) ≤ gN S2 + 30 * (sz - e0) + 2 * (e0 - (b + 1)) ∧ gZ S4 + 150 * (sz - at4) ≤ gZ S2 + 150 * (sz - e0) + 60 * (e0 - (b + 1))) → (at4 ≤ sz ∧ gN S2 ≤ a4 ∧ a4 < gN S4) → ∀ S21 : zS, (zFin true S21) → (pJ (tN 0 0 [] b []) = .ok (tN 0 0 [] b [])) → (xJd (sI (sI (sP (sNew S4 16 0 (zslots 16)) 174 (gN S4) (some 0)) 144 (gN S4) (Int32.ofNat b)) 173 (gN S4) 0) (gN S4) S21) → (xTl (gN S) S21 (tN 0 0 [] b []) (gN S4)) → (xR tp sz S21 r at4 nd4) → (gN S21 = gN S4 + 1 ∧ gZ S21 = gZ S4 + 19) → ∀ S37 : zS, ∀ q37 : Nat, (zFin true S37) → (pJ (tN 16 0 [] b [tN 0 0 [] b [], y4]) = .error (3, b)) → (xFn (sP (sP (sI (sI (sP (sNew S21 20 0 (zslots 20)) 190 (gN S21) (some 0)) 144 (gN S21) (Int32.ofNat b)) 187 (gN S21) 5) 188 (gN S21) (some (gN S4))) 189 (gN S21) (some a4)) (gN S21) S37) → (xFl S37 q37 3 b) → (gN S37 = gN S21 + 1 + 1 ∧ gZ S37 ≤ gZ S21 + 20 + 3) → post (.threw q37, S37)) (h3 : ∀ S2 : zS, ∀ nd2 : Nat, (zFin true S2) → (pRead b deep nd true = .ok nd2) → (xFr S S2) → (xR tp sz S2 r b nd2) → (gN S ≤ gN S2 ∧ gN S2 ≤ gN S + 0 ∧ gZ S2 ≤ gZ S + 0) → (b ≤ sz) → (nd2 ≤ 80) → (deep ≤ 24) → ∀ S4 : zS, ∀ a4 : Nat, ∀ y4 : zNd, ∀ at4 : Nat, ∀ nd4 : Nat, (zFin true S4) → (pWx tp sz rec n (b + 1) (deep + 1) e0 nd2 = .ok (y4, at4, nd4)) → (xFr (sI S2 133 r (Int32.ofNat (b + 1))) S4) → (xTl (gN S2) S4 y4 a4) → (xR tp sz S4 r at4 nd4) → (gN S2 ≤ gN S4 ∧ gN S4 + 30 * (sz - at4) ≤ gN S2 + 30 * (sz - e0) + 2 * (e0 - (b + 1)) ∧ gZ S4 + 150 * (sz - at4) ≤ gZ S2 + 150 * (sz - e0) + 60 * (e0 - (b + 1))) → (at4 ≤ sz ∧ gN S2 ≤ a4 ∧ a4 < gN S4) → ∀ S22 : zS, ∀ q22 : Nat, (zFin true S22) → (pJ (tN 0 0 [] b []) = .error (3, b)) → (xFn (sI (sI (sP (sNew S4 16 0 (zslots 16)) 174 (gN S4) (some 0)) 144 (gN S4) (Int32.ofNat b)) 173 (gN S4) 0) (gN S4) S22) → (xFl S22 q22 3 b) → (gN S22 = gN S4 + 1 + 1 ∧ gZ S22 ≤ gZ S4 + 19 + 3) → post (.threw q22, S22)) (h4 : ∀ S2 : zS, ∀ nd2 : Nat, (zFin true S2) → (pRead b deep nd true = .ok nd2) → (xFr S S2) → (xR tp sz S2 r b nd2) → (gN S ≤ gN S2 ∧ gN S2 ≤ gN S + 0 ∧ gZ S2 ≤ gZ S + 0) → (b ≤ sz) → (nd2 ≤ 80) → (deep ≤ 24) → ∀ S5 : zS, ∀ q5 : Nat, ∀ kk5 : Nat, ∀ z5 : Nat, (zFin true S5) → (pWx tp sz rec n (b + 1) (deep + 1) e0 nd2 = .error (kk5, z5)) → (xFr (sI S2 133 r (Int32.ofNat (b + 1))) S5) → (xFl S5 q5 kk5 z5) → (gN S2 ≤ gN S5 ∧ gN S5 ≤ gN S2 + 30 * (sz - e0) + 2 * (e0 - (b + 1)) + 60 ∧ gZ S5 ≤ gZ S2 + 150 * (sz - e0) + 60 * (e0 - (b + 1)) + 2000) → post (.threw q5, S5)) (h5 : ∀ S3 : zS, ∀ q3 : Nat, (zFin true S3) → (pRead b deep nd true = .error (2, b)) → (xFr S S3) → (xFl S3 q3 2 b) → (gN S ≤ gN S3 ∧ gN S3 ≤ gN S + 1 ∧ gZ S3 ≤ gZ S + 3) → post (.threw q3, S3)) : zCall d 260 [.ref r, .ref w, .int 0, .int (Int32.ofNat deep)] S post := by
  have ht : ztab 260 = ztb260 := rfl
  show zEv d 260 0 [.ref r, .ref w, .int 0, .int (Int32.ofNat deep), .retAddr 0, .retAddr 0, .retAddr 0, .retAddr 0, .retAddr 0] [] S post
  refine zv_c1 ht rfl rfl ?_
  refine zv_ei (x := Int32.ofNat b) ht rfl rfl (zhas_of (hR.1.2.2.2.1) rfl) hR.1.1 ?_
  refine zv_c2 (L' := [.ref r, .ref w, .int 0, .int (Int32.ofNat deep), .int (Int32.ofNat b), .retAddr 0, .retAddr 0, .retAddr 0, .retAddr 0]) ht rfl rfl ?_
  refine zv_c1 ht rfl rfl (zv_c1 ht rfl rfl ?_)
  refine zv_cl ht rfl rfl rfl (zv_tgv ((zStr.t hw.1)) rfl) (by omega) (Nat.le_of_ble_eq_true rfl) (x_len (S := S) hF (by omega) hw.1 (n := wl) hwl ?_)
  show zEv d 260 11 [.ref r, .ref w, .int 0, .int (Int32.ofNat deep), .int (Int32.ofNat b), .retAddr 0, .retAddr 0, .retAddr 0, .retAddr 0] [.int (Int32.ofNat wl), .int 0] S post
  refine zv_br ht rfl rfl rfl (fun b1 => ?_) (fun b1 => (show False from by have hq := b1; have hz : 0 = wl := (zi_eqE (a := 0) (b := wl) rfl rfl (by omega) (by omega)).mp (Classical.not_not.mp hq); omega).elim)
  refine zv_c1 ht rfl rfl (zv_c1 ht rfl rfl ?_)
  refine zv_cl ht rfl rfl rfl (zv_tgv ((zStr.t hw.1)) rfl) (by omega) (Nat.le_of_ble_eq_true rfl) (x_char (S := S) hF (by omega) hw.1 (i := 0) (by omega) (c := 108) hcc ?_)
  show zEv d 260 39 [.ref r, .ref w, .int 0, .int (Int32.ofNat deep), .int (Int32.ofNat b), .retAddr 0, .retAddr 0, .retAddr 0, .retAddr 0] [.int 108] S post
  refine zv_c2 (L' := [.ref r, .ref w, .int 0, .int (Int32.ofNat deep), .int (Int32.ofNat b), .int 108, .retAddr 0, .retAddr 0, .retAddr 0]) ht rfl rfl ?_
  refine zv_c1 ht rfl rfl (zv_c1 ht rfl rfl ?_)
  refine zv_br ht rfl rfl rfl (fun h => absurd h (by decide)) (fun _ => ?_)
  refine zv_c1 ht rfl rfl (zv_c1 ht rfl rfl ?_)
  refine zv_br ht rfl rfl rfl (fun _ => ?_) (fun h => absurd (by decide) h)
  refine zv_c1 ht rfl rfl (zv_c1 ht rfl rfl ?_)
  refine zv_c2 (L' := [.ref r, .ref w, .int 0, .int (Int32.ofNat deep), .int (Int32.ofNat b), .int 108, .int 1, .retAddr 0, .retAddr 0]) ht rfl rfl ?_
  refine zv_c1 ht rfl rfl ?_
  refine zv_br ht rfl rfl rfl (fun h => absurd h (by decide)) (fun _ => ?_)
  refine zv_c1 ht rfl rfl (zv_c1 ht rfl rfl ?_)
  refine zv_cl ht rfl rfl rfl (zv_tgv (hR.1.2.2.2.1) rfl) (by omega) (Nat.le_of_ble_eq_true rfl) (x_findOk (S := S) (r := r) hF (by omega) hR (by omega) hw (by omega) hbad ?_)
  show zEv d 260 78 [.ref r, .ref w, .int 0, .int (Int32.ofNat deep), .int (Int32.ofNat b), .int 108, .int 1, .retAddr 0, .retAddr 0] [] S post
  refine zv_c1 ht rfl rfl (zv_c1 ht rfl rfl (zv_c1 ht rfl rfl ?_))
  refine zv_br ht rfl rfl rfl (fun h => absurd h (by decide)) (fun _ => ?_)
  refine zv_c1 ht rfl rfl (zv_c1 ht rfl rfl (zv_c1 ht rfl rfl ?_))
  refine zv_br ht rfl rfl rfl (fun h => absurd h (by decide)) (fun _ => ?_)
  refine zv_c1 ht rfl rfl (zv_c1 ht rfl rfl ?_)
  refine zv_e1 (x := Int32.ofNat (deep + 1)) ht rfl rfl (zi_addE (a := deep) (b := 1) rfl rfl) ?_
  refine zv_c1 ht rfl rfl ?_
  refine zv_cl ht rfl rfl rfl (zv_tgv (hR.1.2.2.2.1) rfl) (by omega) (Nat.le_of_ble_eq_true rfl) (x_begins (S := S) (tp := tp) (sz := sz) (r := r) (p := b) (dp := deep) (m := 2) (dq := deep + 1) (two := true) hF (by omega) hR (by omega) (by omega) (by omega) (by omega) rfl rfl (fun S2 nd2 hF2 e2 k2 p2 g2 b2 c2 d2 => ?_) (fun S3 q3 hF3 e3 k3 x3 g3 => ?_))
  · show zEv d 260 106 [.ref r, .ref w, .int 0, .int (Int32.ofNat deep), .int (Int32.ofNat b), .int 108, .int 1, .retAddr 0, .retAddr 0] [] S2 post
    refine zv_c1 ht rfl rfl (zv_c1 ht rfl rfl ?_)
    refine zv_ei (x := Int32.ofNat b) ht rfl rfl (zhas_of (p2.1.2.2.2.1) rfl) p2.1.1 ?_
    refine zv_c1 ht rfl rfl ?_
    refine zv_e1 (x := Int32.ofNat (b + 1)) ht rfl rfl (zi_addE (a := b) (b := 1) rfl rfl) ?_
    refine zv_ci (S' := sI S2 133 r (Int32.ofNat (b + 1))) ht rfl rfl ⟨(zhas_of (p2.1.2.2.2.1) rfl), (show r < gN S2 from by omega)⟩ ?_
    refine zv_c1 ht rfl rfl (zv_c1 ht rfl rfl (zv_c1 ht rfl rfl (zv_c1 ht rfl rfl ?_)))
    refine zv_c1 (st' := [.int 1, .ref w, .ref r]) (S' := sI S2 133 r (Int32.ofNat (b + 1))) ht rfl rfl ?_
    refine zv_c1 ht rfl rfl (zv_c1 ht rfl rfl ?_)
    refine zv_e1 (x := Int32.ofNat (deep + 1)) ht rfl rfl (zi_addE (a := deep) (b := 1) rfl rfl) ?_
    refine zv_cl ht rfl rfl rfl (zv_tgv (p2.1.2.2.2.1) rfl) (by omega) (Nat.le_of_ble_eq_true rfl) (xEc.use (g := gN S2) (cN := gN S2 + 30 * (sz - e0) + 2 * (e0 - (b + 1))) (cZ := gZ S2 + 150 * (sz - e0) + 60 * (e0 - (b + 1))) rfl ((hIH (by omega)) (S := sI S2 133 r (Int32.ofNat (b + 1))) (r := r) hF2 (xR_at p2 (by omega)) (xWd.k hw (zKE.tr (zKE.tr zKE.rf (zKE.w k2 (show gN S ≤ gN S from by omega) (fun _ h => h) (fun _ h => h))) (zKE_sI (Or.inl (by decide))))) (by omega) (by omega)) (fun S4 a4 y4 at4 nd4 hF4 e4 k4 t4 p4 g4 c4 => ?_) (fun S5 q5 kk5 z5 hF5 e5 k5 x5 g5 => ?_))
    · show zEv d 260 127 [.ref r, .ref w, .int 0, .int (Int32.ofNat deep), .int (Int32.ofNat b), .int 108, .int 1, .retAddr 0, .retAddr 0] [.ref a4] S4 post
      refine zv_c2 (L' := [.ref r, .ref w, .int 0, .int (Int32.ofNat deep), .int (Int32.ofNat b), .int 108, .int 1, .ref a4, .retAddr 0]) ht rfl rfl ?_
      refine zv_c1 ht rfl rfl ?_
      refine zv_br ht rfl rfl rfl (fun _ => ?_) (fun h => absurd (by decide) h)
      refine zv_c1 ht rfl rfl ?_
      refine zv_ci (st' := [.ref (gN S4), .ref r]) (S' := sNew S4 16 0 (zslots 16)) ht rfl rfl (znew_ok (show 1639 ≤ gN S4 from by omega) (show gN S4 < 2000000 from by omega)) ?_
      refine zv_c1 ht rfl rfl (zv_c1 ht rfl rfl ?_)
      refine zv_g3 (q := 0) ht rfl (zFin_new hF4) rfl rfl (zhas_of (Eq.trans (ztyp_new (S := S4) (t := 16) (n := 0) (s := zslots 16) (show r ≠ gN S4 from by omega)) p4.1.2.2.2.1) rfl) (Eq.trans (gP_new (S := S4) (t := 16) (n := 0) (s := zslots 16) (show r ≠ gN S4 from by omega)) p4.1.2.2.2.2) ?_
      refine zv_c1 ht rfl rfl (zv_c1 ht rfl rfl (zv_c1 ht rfl rfl ?_))
      refine zv_br ht rfl rfl rfl (fun _ => ?_) (fun h => absurd (by decide) h)
      refine zv_c1 ht rfl rfl ?_
      have C7 : ∀ (pst6 : Outcome × zS → Prop), (pst6 (.returned none, sI (sI (sP (sNew S4 16 0 (zslots 16)) 174 (gN S4) (some 0)) 144 (gN S4) (Int32.ofNat b)) 173 (gN S4) 0)) → zCall (d - 1) 334 [.ref (gN S4), .ref 0, .int (Int32.ofNat b), .int 0] (sNew S4 16 0 (zslots 16)) pst6 := by
        intro pst6 k17
        have ht8 : ztab 334 = ztb334 := rfl
        show zEv (d - 1) 334 0 [.ref (gN S4), .ref 0, .int (Int32.ofNat b), .int 0] [] (sNew S4 16 0 (zslots 16)) pst6
        refine zv_c1 ht8 rfl rfl (zv_c1 ht8 rfl rfl ?_)
        refine zv_ci (S' := sP (sNew S4 16 0 (zslots 16)) 174 (gN S4) (some 0)) ht8 rfl rfl ⟨(zhas_of (ztyp_new_at (S := S4) (t := 16) (n := 0) (s := zslots 16) (show 1639 ≤ gN S4 from by omega)) rfl), (show gN S4 < gN S4 + 1 from by omega)⟩ ?_
        refine zv_c1 ht8 rfl rfl (zv_c1 ht8 rfl rfl (zv_c1 ht8 rfl rfl ?_))
        have C10 : ∀ (pst9 : Outcome × zS → Prop), (pst9 (.returned none, sI (sP (sNew S4 16 0 (zslots 16)) 174 (gN S4) (some 0)) 144 (gN S4) (Int32.ofNat b))) → zCall ((d - 1) - 1) 306 [.ref (gN S4), .ref 0, .int (Int32.ofNat b)] (sP (sNew S4 16 0 (zslots 16)) 174 (gN S4) (some 0)) pst9 := by
          intro pst9 k16
          have ht11 : ztab 306 = ztb306 := rfl
          show zEv ((d - 1) - 1) 306 0 [.ref (gN S4), .ref 0, .int (Int32.ofNat b)] [] (sP (sNew S4 16 0 (zslots 16)) 174 (gN S4) (some 0)) pst9
          refine zv_c1 ht11 rfl rfl (zv_c1 ht11 rfl rfl ?_)
          refine zv_ci (S' := sP (sNew S4 16 0 (zslots 16)) 174 (gN S4) (some 0)) ht11 rfl rfl (zk5 (ztyp_new_at (S := S4) (t := 16) (n := 0) (s := zslots 16) (show 1639 ≤ gN S4 from by omega)) rfl (show gN S4 < gN S4 + 1 from by omega) rfl gP_sP_at) ?_
          refine zv_c1 ht11 rfl rfl (zv_c1 ht11 rfl rfl (zv_c1 ht11 rfl rfl ?_))
          have C13 : ∀ (pst12 : Outcome × zS → Prop), (pst12 (.returned none, sI (sP (sNew S4 16 0 (zslots 16)) 174 (gN S4) (some 0)) 144 (gN S4) (Int32.ofNat b))) → zCall (((d - 1) - 1) - 1) 280 [.ref (gN S4), .ref 0, .int (Int32.ofNat b)] (sP (sNew S4 16 0 (zslots 16)) 174 (gN S4) (some 0)) pst12 := by
            intro pst12 k15
            have ht14 : ztab 280 = ztb280 := rfl
            show zEv (((d - 1) - 1) - 1) 280 0 [.ref (gN S4), .ref 0, .int (Int32.ofNat b)] [] (sP (sNew S4 16 0 (zslots 16)) 174 (gN S4) (some 0)) pst12
            refine zv_c1 ht14 rfl rfl (zv_c1 ht14 rfl rfl ?_)
            refine zv_ci (S' := sP (sNew S4 16 0 (zslots 16)) 174 (gN S4) (some 0)) ht14 rfl rfl (zk5 (ztyp_new_at (S := S4) (t := 16) (n := 0) (s := zslots 16) (show 1639 ≤ gN S4 from by omega)) rfl (show gN S4 < gN S4 + 1 from by omega) rfl gP_sP_at) ?_
            refine zv_c1 ht14 rfl rfl (zv_c1 ht14 rfl rfl (zv_c1 ht14 rfl rfl (zv_c1 ht14 rfl rfl ?_)))
            refine zv_ci (S' := sI (sP (sNew S4 16 0 (zslots 16)) 174 (gN S4) (some 0)) 144 (gN S4) (Int32.ofNat b)) ht14 rfl rfl ⟨(zhas_of (ztyp_new_at (S := S4) (t := 16) (n := 0) (s := zslots 16) (show 1639 ≤ gN S4 from by omega)) rfl), (show gN S4 < gN S4 + 1 from by omega)⟩ ?_
            exact zv_rt ht14 rfl rfl rfl rfl k15
          refine zv_cl ht11 rfl rfl rfl rfl (by omega) (Nat.le_of_ble_eq_true rfl) (C13 _ ?_)
          show zEv ((d - 1) - 1) 306 11 [.ref (gN S4), .ref 0, .int (Int32.ofNat b)] [] (sI (sP (sNew S4 16 0 (zslots 16)) 174 (gN S4) (some 0)) 144 (gN S4) (Int32.ofNat b)) pst9
          exact zv_rt ht11 rfl rfl rfl rfl k16
        refine zv_cl ht8 rfl rfl rfl rfl (by omega) (Nat.le_of_ble_eq_true rfl) (C10 _ ?_)
        show zEv (d - 1) 334 11 [.ref (gN S4), .ref 0, .int (Int32.ofNat b), .int 0] [] (sI (sP (sNew S4 16 0 (zslots 16)) 174 (gN S4) (some 0)) 144 (gN S4) (Int32.ofNat b)) pst6
        refine zv_c1 ht8 rfl rfl (zv_c1 ht8 rfl rfl ?_)
        refine zv_ci (S' := sI (sI (sP (sNew S4 16 0 (zslots 16)) 174 (gN S4) (some 0)) 144 (gN S4) (Int32.ofNat b)) 173 (gN S4) 0) ht8 rfl rfl ⟨⟨(zhas_of (ztyp_new_at (S := S4) (t := 16) (n := 0) (s := zslots 16) (show 1639 ≤ gN S4 from by omega)) rfl), (show gN S4 < gN S4 + 1 from by omega)⟩, (by decide)⟩ ?_
        exact zv_rt ht8 rfl rfl rfl rfl k17
      refine zv_cl ht rfl rfl rfl rfl (by omega) (Nat.le_of_ble_eq_true rfl) (C7 _ ?_)
      show zEv d 260 182 [.ref r, .ref w, .int 0, .int (Int32.ofNat deep), .int (Int32.ofNat b), .int 108, .int 1, .ref a4, .retAddr 0] [.ref (gN S4), .ref r] (sI (sI (sP (sNew S4 16 0 (zslots 16)) 174 (gN S4) (some 0)) 144 (gN S4) (Int32.ofNat b)) 173 (gN S4) 0) post
      have C19 : ∀ (pst18 : Outcome × zS → Prop), (∀ S21 : zS, (zFin true S21) → (pJ (tN 0 0 [] b []) = .ok (tN 0 0 [] b [])) → (xJd (sI (sI (sP (sNew S4 16 0 (zslots 16)) 174 (gN S4) (some 0)) 144 (gN S4) (Int32.ofNat b)) 173 (gN S4) 0) (gN S4) S21) → (xTl (gN S) S21 (tN 0 0 [] b []) (gN S4)) → (xR tp sz S21 r at4 nd4) → (gN S21 = gN S4 + 1 ∧ gZ S21 = gZ S4 + 19) → pst18 (.returned (some (.ref (gN S4))), S21)) → (∀ S22 : zS, ∀ q22 : Nat, (zFin true S22) → (pJ (tN 0 0 [] b []) = .error (3, b)) → (xFn (sI (sI (sP (sNew S4 16 0 (zslots 16)) 174 (gN S4) (some 0)) 144 (gN S4) (Int32.ofNat b)) 173 (gN S4) 0) (gN S4) S22) → (xFl S22 q22 3 b) → (gN S22 = gN S4 + 1 + 1 ∧ gZ S22 ≤ gZ S4 + 19 + 3) → pst18 (.threw q22, S22)) → zCall (d - 1) 253 [.ref r, .ref (gN S4)] (sI (sI (sP (sNew S4 16 0 (zslots 16)) 174 (gN S4) (some 0)) 144 (gN S4) (Int32.ofNat b)) 173 (gN S4) 0) pst18 := by
        intro pst18 k23 k24
        have ht20 : ztab 253 = ztb253 := rfl
        show zEv (d - 1) 253 0 [.ref r, .ref (gN S4)] [] (sI (sI (sP (sNew S4 16 0 (zslots 16)) 174 (gN S4) (some 0)) 144 (gN S4) (Int32.ofNat b)) 173 (gN S4) 0) pst18
        refine zv_c1 ht20 rfl rfl ?_
        refine zv_cl ht20 rfl rfl rfl (zv_tgm (ztyp_new_at (S := S4) (t := 16) (n := 0) (s := zslots 16) (show 1639 ≤ gN S4 from by omega)) rfl) (by omega) (Nat.le_of_ble_eq_true rfl) (x_judgeR (S := sI (sI (sP (sNew S4 16 0 (zslots 16)) 174 (gN S4) (some 0)) 144 (gN S4) (Int32.ofNat b)) 173 (gN S4) 0) (tp := tp) (sz := sz) (r := r) (a := gN S4) (k := 0) (v := 0) (p := b) (ks := []) (js := []) (cs := []) (g := gN S4 + 1) (lo := gN S) (zFin_sP (zFin_new hF4) rfl) (by omega) (by omega) (by omega) (by omega) (by omega) rfl (xOwn_B (by decide) (ztyp_new_at (S := S4) (t := 16) (n := 0) (s := zslots 16) (show 1639 ≤ gN S4 from by omega)) (gI_sI_at)) rfl (by decide) (by omega) (gI_sI_at) (gI_new_at (S := S4) (t := 16) (n := 0) (s := zslots 16)) (gI_new_at (S := S4) (t := 16) (n := 0) (s := zslots 16)) (xR.ke (Fs := []) p4 (zKE.tr (zKE.tr (zKE.tr (zKE.tr zKE.rf (zKE_new (show gN S4 ≤ gN S4 ∧ gN S4 < zLB from ⟨by omega, by have hLB : zLB = 4294967296 := rfl; omega⟩))) (zKE_sP (Or.inr (Or.inr ⟨by omega, by have hLB : zLB = 4294967296 := rfl; omega⟩)))) (zKE_sI (Or.inr (Or.inr ⟨by omega, by have hLB : zLB = 4294967296 := rfl; omega⟩)))) (zKE_sI (Or.inr (Or.inr ⟨by omega, by have hLB : zLB = 4294967296 := rfl; omega⟩)))) (by omega) (by decide)) (by omega) (fun S21 hF21 e21 j21 t21 p21 g21 => ?_) (fun S22 q22 hF22 e22 k22 x22 g22 => ?_))
        · show zEv (d - 1) 253 4 [.ref r, .ref (gN S4)] [] S21 pst18
          refine zv_c1 ht20 rfl rfl ?_
          exact zv_rt ht20 rfl rfl rfl rfl (k23 S21 hF21 e21 j21 t21 p21 g21)
        · exact (k24 S22 q22 hF22 e22 k22 x22 g22)
      refine zv_cl ht rfl rfl rfl (zv_tgv (Eq.trans (ztyp_new (S := S4) (t := 16) (n := 0) (s := zslots 16) (show r ≠ gN S4 from by omega)) p4.1.2.2.2.1) rfl) (by omega) (Nat.le_of_ble_eq_true rfl) (C19 _ (fun S21 hF21 e21 j21 t21 p21 g21 => ?_) (fun S22 q22 hF22 e22 k22 x22 g22 => ?_))
      · show zEv d 260 185 [.ref r, .ref w, .int 0, .int (Int32.ofNat deep), .int (Int32.ofNat b), .int 108, .int 1, .ref a4, .retAddr 0] [.ref (gN S4)] S21 post
        refine zv_c2 (L' := [.ref r, .ref w, .int 0, .int (Int32.ofNat deep), .int (Int32.ofNat b), .int 108, .int 1, .ref a4, .ref (gN S4)]) ht rfl rfl ?_
        refine zv_c1 ht rfl rfl (zv_c1 ht rfl rfl (zv_c1 ht rfl rfl ?_))
        refine zv_br ht rfl rfl rfl (fun _ => ?_) (fun h => absurd (by decide) h)
        refine zv_c1 ht rfl rfl (zv_c1 ht rfl rfl ?_)
        refine zv_br ht rfl rfl rfl (fun h => absurd h (by decide)) (fun _ => ?_)
        refine zv_ci (st' := [.ref (gN S21), .ref r]) (S' := sNew S21 20 0 (zslots 20)) ht rfl rfl (znew_ok (show 1639 ≤ gN S21 from by omega) (show gN S21 < 2000000 from by omega)) ?_
        refine zv_c1 ht rfl rfl (zv_c1 ht rfl rfl ?_)
        refine zv_g3 (q := 0) ht rfl (zFin_new hF21) rfl rfl (zhas_of (Eq.trans (ztyp_new (S := S21) (t := 20) (n := 0) (s := zslots 20) (show r ≠ gN S21 from by omega)) p21.1.2.2.2.1) rfl) (Eq.trans (gP_new (S := S21) (t := 20) (n := 0) (s := zslots 20) (show r ≠ gN S21 from by omega)) p21.1.2.2.2.2) ?_
        refine zv_c1 ht rfl rfl (zv_c1 ht rfl rfl (zv_c1 ht rfl rfl (zv_c1 ht rfl rfl ?_)))
        have C26 : ∀ (pst25 : Outcome × zS → Prop), (pst25 (.returned none, sP (sP (sI (sI (sP (sNew S21 20 0 (zslots 20)) 190 (gN S21) (some 0)) 144 (gN S21) (Int32.ofNat b)) 187 (gN S21) 5) 188 (gN S21) (some (gN S4))) 189 (gN S21) (some a4))) → zCall (d - 1) 373 [.ref (gN S21), .ref 0, .int (Int32.ofNat b), .int 5, .ref (gN S4), .ref a4] (sNew S21 20 0 (zslots 20)) pst25 := by
          intro pst25 k32
          have ht27 : ztab 373 = ztb373 := rfl
          show zEv (d - 1) 373 0 [.ref (gN S21), .ref 0, .int (Int32.ofNat b), .int 5, .ref (gN S4), .ref a4] [] (sNew S21 20 0 (zslots 20)) pst25
          refine zv_c1 ht27 rfl rfl (zv_c1 ht27 rfl rfl ?_)
          refine zv_ci (S' := sP (sNew S21 20 0 (zslots 20)) 190 (gN S21) (some 0)) ht27 rfl rfl ⟨(zhas_of (ztyp_new_at (S := S21) (t := 20) (n := 0) (s := zslots 20) (show 1639 ≤ gN S21 from by omega)) rfl), (show gN S21 < gN S21 + 1 from by omega)⟩ ?_
          refine zv_c1 ht27 rfl rfl (zv_c1 ht27 rfl rfl (zv_c1 ht27 rfl rfl ?_))
          have C29 : ∀ (pst28 : Outcome × zS → Prop), (pst28 (.returned none, sI (sP (sNew S21 20 0 (zslots 20)) 190 (gN S21) (some 0)) 144 (gN S21) (Int32.ofNat b))) → zCall ((d - 1) - 1) 280 [.ref (gN S21), .ref 0, .int (Int32.ofNat b)] (sP (sNew S21 20 0 (zslots 20)) 190 (gN S21) (some 0)) pst28 := by
            intro pst28 k31
            have ht30 : ztab 280 = ztb280 := rfl
            show zEv ((d - 1) - 1) 280 0 [.ref (gN S21), .ref 0, .int (Int32.ofNat b)] [] (sP (sNew S21 20 0 (zslots 20)) 190 (gN S21) (some 0)) pst28
            refine zv_c1 ht30 rfl rfl (zv_c1 ht30 rfl rfl ?_)
            refine zv_ci (S' := sP (sNew S21 20 0 (zslots 20)) 190 (gN S21) (some 0)) ht30 rfl rfl (zk5 (ztyp_new_at (S := S21) (t := 20) (n := 0) (s := zslots 20) (show 1639 ≤ gN S21 from by omega)) rfl (show gN S21 < gN S21 + 1 from by omega) rfl gP_sP_at) ?_
            refine zv_c1 ht30 rfl rfl (zv_c1 ht30 rfl rfl (zv_c1 ht30 rfl rfl (zv_c1 ht30 rfl rfl ?_)))
            refine zv_ci (S' := sI (sP (sNew S21 20 0 (zslots 20)) 190 (gN S21) (some 0)) 144 (gN S21) (Int32.ofNat b)) ht30 rfl rfl ⟨(zhas_of (ztyp_new_at (S := S21) (t := 20) (n := 0) (s := zslots 20) (show 1639 ≤ gN S21 from by omega)) rfl), (show gN S21 < gN S21 + 1 from by omega)⟩ ?_
            exact zv_rt ht30 rfl rfl rfl rfl k31
          refine zv_cl ht27 rfl rfl rfl rfl (by omega) (Nat.le_of_ble_eq_true rfl) (C29 _ ?_)
          show zEv (d - 1) 373 11 [.ref (gN S21), .ref 0, .int (Int32.ofNat b), .int 5, .ref (gN S4), .ref a4] [] (sI (sP (sNew S21 20 0 (zslots 20)) 190 (gN S21) (some 0)) 144 (gN S21) (Int32.ofNat b)) pst25
          refine zv_c1 ht27 rfl rfl (zv_c1 ht27 rfl rfl ?_)
          refine zv_ci (S' := sI (sI (sP (sNew S21 20 0 (zslots 20)) 190 (gN S21) (some 0)) 144 (gN S21) (Int32.ofNat b)) 187 (gN S21) 5) ht27 rfl rfl ⟨(zhas_of (ztyp_new_at (S := S21) (t := 20) (n := 0) (s := zslots 20) (show 1639 ≤ gN S21 from by omega)) rfl), (show gN S21 < gN S21 + 1 from by omega)⟩ ?_
          refine zv_c1 ht27 rfl rfl (zv_c1 ht27 rfl rfl ?_)
          refine zv_ci (S' := sP (sI (sI (sP (sNew S21 20 0 (zslots 20)) 190 (gN S21) (some 0)) 144 (gN S21) (Int32.ofNat b)) 187 (gN S21) 5) 188 (gN S21) (some (gN S4))) ht27 rfl rfl ⟨(zhas_of (ztyp_new_at (S := S21) (t := 20) (n := 0) (s := zslots 20) (show 1639 ≤ gN S21 from by omega)) rfl), (show gN S21 < gN S21 + 1 from by omega)⟩ ?_
          refine zv_c1 ht27 rfl rfl (zv_c1 ht27 rfl rfl ?_)
          refine zv_ci (S' := sP (sP (sI (sI (sP (sNew S21 20 0 (zslots 20)) 190 (gN S21) (some 0)) 144 (gN S21) (Int32.ofNat b)) 187 (gN S21) 5) 188 (gN S21) (some (gN S4))) 189 (gN S21) (some a4)) ht27 rfl rfl ⟨(zhas_of (ztyp_new_at (S := S21) (t := 20) (n := 0) (s := zslots 20) (show 1639 ≤ gN S21 from by omega)) rfl), (show gN S21 < gN S21 + 1 from by omega)⟩ ?_
          exact zv_rt ht27 rfl rfl rfl rfl k32
        refine zv_cl ht rfl rfl rfl rfl (by omega) (Nat.le_of_ble_eq_true rfl) (C26 _ ?_)
        show zEv d 260 241 [.ref r, .ref w, .int 0, .int (Int32.ofNat deep), .int (Int32.ofNat b), .int 108, .int 1, .ref a4, .ref (gN S4)] [.ref (gN S21), .ref r] (sP (sP (sI (sI (sP (sNew S21 20 0 (zslots 20)) 190 (gN S21) (some 0)) 144 (gN S21) (Int32.ofNat b)) 187 (gN S21) 5) 188 (gN S21) (some (gN S4))) 189 (gN S21) (some a4)) post
        refine zv_c1 ht rfl rfl ?_
        have C34 : ∀ (pst33 : Outcome × zS → Prop), (∀ S36 : zS, (zFin true S36) → (pJ (tN 16 0 [] b [tN 0 0 [] b [], y4]) = .ok (tN 16 0 [] b [tN 0 0 [] b [], y4])) → (xJd (sP (sP (sI (sI (sP (sNew S21 20 0 (zslots 20)) 190 (gN S21) (some 0)) 144 (gN S21) (Int32.ofNat b)) 187 (gN S21) 5) 188 (gN S21) (some (gN S4))) 189 (gN S21) (some a4)) (gN S21) S36) → (xTl (gN S) S36 (tN 16 0 [] b [tN 0 0 [] b [], y4]) (gN S21)) → (xR tp sz S36 r at4 nd4) → (gN S36 = gN S21 + 1 ∧ gZ S36 = gZ S21 + 20) → pst33 (.returned (some (.ref (gN S21))), S36)) → (∀ S37 : zS, ∀ q37 : Nat, (zFin true S37) → (pJ (tN 16 0 [] b [tN 0 0 [] b [], y4]) = .error (3, b)) → (xFn (sP (sP (sI (sI (sP (sNew S21 20 0 (zslots 20)) 190 (gN S21) (some 0)) 144 (gN S21) (Int32.ofNat b)) 187 (gN S21) 5) 188 (gN S21) (some (gN S4))) 189 (gN S21) (some a4)) (gN S21) S37) → (xFl S37 q37 3 b) → (gN S37 = gN S21 + 1 + 1 ∧ gZ S37 ≤ gZ S21 + 20 + 3) → pst33 (.threw q37, S37)) → zCall (d - 1) 253 [.ref r, .ref (gN S21)] (sP (sP (sI (sI (sP (sNew S21 20 0 (zslots 20)) 190 (gN S21) (some 0)) 144 (gN S21) (Int32.ofNat b)) 187 (gN S21) 5) 188 (gN S21) (some (gN S4))) 189 (gN S21) (some a4)) pst33 := by
          intro pst33 k38 k39
          have ht35 : ztab 253 = ztb253 := rfl
          show zEv (d - 1) 253 0 [.ref r, .ref (gN S21)] [] (sP (sP (sI (sI (sP (sNew S21 20 0 (zslots 20)) 190 (gN S21) (some 0)) 144 (gN S21) (Int32.ofNat b)) 187 (gN S21) 5) 188 (gN S21) (some (gN S4))) 189 (gN S21) (some a4)) pst33
          refine zv_c1 ht35 rfl rfl ?_
          refine zv_cl ht35 rfl rfl rfl (zv_tgm (ztyp_new_at (S := S21) (t := 20) (n := 0) (s := zslots 20) (show 1639 ≤ gN S21 from by omega)) rfl) (by omega) (Nat.le_of_ble_eq_true rfl) (x_judgeR (S := sP (sP (sI (sI (sP (sNew S21 20 0 (zslots 20)) 190 (gN S21) (some 0)) 144 (gN S21) (Int32.ofNat b)) 187 (gN S21) 5) 188 (gN S21) (some (gN S4))) 189 (gN S21) (some a4)) (tp := tp) (sz := sz) (r := r) (a := gN S21) (k := 16) (v := 0) (p := b) (ks := []) (js := [gN S4, a4]) (cs := [tN 0 0 [] b [], y4]) (g := gN S21 + 1) (lo := gN S) (zFin_sP (zFin_sP (zFin_sP (zFin_new hF21) rfl) rfl) rfl) (by omega) (by omega) (by omega) (by omega) (by omega) rfl (xOwn_P (by decide) (ztyp_new_at (S := S21) (t := 20) (n := 0) (s := zslots 20) (show 1639 ≤ gN S21 from by omega)) (gI_sI_at) (gP_sP_at) (gP_sP_at)) ⟨gN S4, _, rfl, (xTl.ch t21 (zKE.tr (zKE.tr (zKE.tr (zKE.tr (zKE.tr (zKE.tr zKE.rf (zKE_new (show gN S21 ≤ gN S21 ∧ gN S21 < zLB from ⟨by omega, by have hLB : zLB = 4294967296 := rfl; omega⟩))) (zKE_sP (Or.inr (Or.inr ⟨by omega, by have hLB : zLB = 4294967296 := rfl; omega⟩)))) (zKE_sI (Or.inr (Or.inr ⟨by omega, by have hLB : zLB = 4294967296 := rfl; omega⟩)))) (zKE_sI (Or.inr (Or.inr ⟨by omega, by have hLB : zLB = 4294967296 := rfl; omega⟩)))) (zKE_sP (Or.inr (Or.inr ⟨by omega, by have hLB : zLB = 4294967296 := rfl; omega⟩)))) (zKE_sP (Or.inr (Or.inr ⟨by omega, by have hLB : zLB = 4294967296 := rfl; omega⟩)))) (by omega) (by intro j h1 h2; omega)), ⟨a4, _, rfl, (xTl.ch t4 (zKE.tr (zKE.tr (zKE.tr (zKE.tr (zKE.tr (zKE.tr (zKE.tr (zKE.tr (zKE.tr (zKE.tr (zKE.tr zKE.rf (zKE_new (show gN S4 ≤ gN S4 ∧ gN S4 < zLB from ⟨by omega, by have hLB : zLB = 4294967296 := rfl; omega⟩))) (zKE_sP (Or.inr (Or.inr ⟨by omega, by have hLB : zLB = 4294967296 := rfl; omega⟩)))) (zKE_sI (Or.inr (Or.inr ⟨by omega, by have hLB : zLB = 4294967296 := rfl; omega⟩)))) (zKE_sI (Or.inr (Or.inr ⟨by omega, by have hLB : zLB = 4294967296 := rfl; omega⟩)))) (xJd.ke j21 ⟨by omega, by have hLB : zLB = 4294967296 := rfl; omega⟩)) (zKE_new (show gN S4 ≤ gN S21 ∧ gN S21 < zLB from ⟨by omega, by have hLB : zLB = 4294967296 := rfl; omega⟩))) (zKE_sP (Or.inr (Or.inr ⟨by omega, by have hLB : zLB = 4294967296 := rfl; omega⟩)))) (zKE_sI (Or.inr (Or.inr ⟨by omega, by have hLB : zLB = 4294967296 := rfl; omega⟩)))) (zKE_sI (Or.inr (Or.inr ⟨by omega, by have hLB : zLB = 4294967296 := rfl; omega⟩)))) (zKE_sP (Or.inr (Or.inr ⟨by omega, by have hLB : zLB = 4294967296 := rfl; omega⟩)))) (zKE_sP (Or.inr (Or.inr ⟨by omega, by have hLB : zLB = 4294967296 := rfl; omega⟩)))) (by omega) (by intro j h1 h2; omega)), rfl⟩⟩ (by decide) (by omega) (gI_sI_at) (gI_new_at (S := S21) (t := 20) (n := 0) (s := zslots 20)) (gI_new_at (S := S21) (t := 20) (n := 0) (s := zslots 20)) (xR.ke (Fs := []) p21 (zKE.tr (zKE.tr (zKE.tr (zKE.tr (zKE.tr (zKE.tr zKE.rf (zKE_new (show gN S21 ≤ gN S21 ∧ gN S21 < zLB from ⟨by omega, by have hLB : zLB = 4294967296 := rfl; omega⟩))) (zKE_sP (Or.inr (Or.inr ⟨by omega, by have hLB : zLB = 4294967296 := rfl; omega⟩)))) (zKE_sI (Or.inr (Or.inr ⟨by omega, by have hLB : zLB = 4294967296 := rfl; omega⟩)))) (zKE_sI (Or.inr (Or.inr ⟨by omega, by have hLB : zLB = 4294967296 := rfl; omega⟩)))) (zKE_sP (Or.inr (Or.inr ⟨by omega, by have hLB : zLB = 4294967296 := rfl; omega⟩)))) (zKE_sP (Or.inr (Or.inr ⟨by omega, by have hLB : zLB = 4294967296 := rfl; omega⟩)))) (by omega) (by decide)) (by omega) (fun S36 hF36 e36 j36 t36 p36 g36 => ?_) (fun S37 q37 hF37 e37 k37 x37 g37 => ?_))
          · show zEv (d - 1) 253 4 [.ref r, .ref (gN S21)] [] S36 pst33
            refine zv_c1 ht35 rfl rfl ?_
            exact zv_rt ht35 rfl rfl rfl rfl (k38 S36 hF36 e36 j36 t36 p36 g36)
          · exact (k39 S37 q37 hF37 e37 k37 x37 g37)
        refine zv_cl ht rfl rfl rfl (zv_tgv (Eq.trans (ztyp_new (S := S21) (t := 20) (n := 0) (s := zslots 20) (show r ≠ gN S21 from by omega)) p21.1.2.2.2.1) rfl) (by omega) (Nat.le_of_ble_eq_true rfl) (C34 _ (fun S36 hF36 e36 j36 t36 p36 g36 => ?_) (fun S37 q37 hF37 e37 k37 x37 g37 => ?_))
        · show zEv d 260 265 [.ref r, .ref w, .int 0, .int (Int32.ofNat deep), .int (Int32.ofNat b), .int 108, .int 1, .ref a4, .ref (gN S4)] [.ref (gN S21)] S36 post
          exact zv_rt ht rfl rfl rfl rfl (h1 S2 nd2 hF2 e2 k2 p2 g2 b2 c2 d2 S4 a4 y4 at4 nd4 hF4 e4 k4 t4 p4 g4 c4 S21 hF21 e21 j21 t21 p21 g21 S36 hF36 e36 j36 t36 p36 g36)
        · exact (h2 S2 nd2 hF2 e2 k2 p2 g2 b2 c2 d2 S4 a4 y4 at4 nd4 hF4 e4 k4 t4 p4 g4 c4 S21 hF21 e21 j21 t21 p21 g21 S37 q37 hF37 e37 k37 x37 g37)
      · exact (h3 S2 nd2 hF2 e2 k2 p2 g2 b2 c2 d2 S4 a4 y4 at4 nd4 hF4 e4 k4 t4 p4 g4 c4 S22 q22 hF22 e22 k22 x22 g22)
    · exact (h4 S2 nd2 hF2 e2 k2 p2 g2 b2 c2 d2 S5 q5 kk5 z5 hF5 e5 k5 x5 g5)
  · exact (h5 S3 q3 hF3 e3 k3 x3 g3)

theorem wrZ117 {d : Nat} {S : zS} (hF : zFin true S) (hd : 8 ≤ d) {tp : Nat → Nat} {sz at0 nd r : Nat} {rec : Nat → Nat → Nat → pE (zNd × Nat × Nat)} {K n : Nat} {w : Nat} (b e0 wl deep : Nat) (hR : xR tp sz S r b nd) (hs0 : sz ≤ 300) (ha0 : b ≤ sz) (hr1 : 1639 ≤ r) (hr2 : r < gN S) (hN : gN S + 30 * (sz - b) ≤ 1700000) (hdp : deep < 1000) (hnd : nd ≤ 80) (hw : xWd S w (pWl tp b e0)) (hwN : w < gN S) (hwl : (pWl tp b e0).length = wl) (hel : e0 = b + wl) (hes : e0 < sz) (hk : 0 < wl) (hcc : (pWl tp b e0).getD 0 0 = 117) (hbad : pBad (pWl tp b e0) b = .ok ()) (hIH : deep ≤ 24 → xWr tp sz (d - 1) w b e0 rec n 1 (deep + 1)) {post : Outcome × zS → Prop} (h1 : ∀ S2 : zS, ∀ nd2 : Nat, (zFin true S2) → (pRead b deep nd true = .ok nd2) → (xFr S S2) → (xR tp sz S2 r b nd2) → (gN S ≤ gN S2 ∧ gN S2 ≤ gN S + 0 ∧ gZ S2 ≤ gZ S + 0) → (b ≤ sz) → (nd2 ≤ 80) → (deep ≤ 24) → ∀ S4 : zS, ∀ a4 : Nat, ∀ y4 : zNd, ∀ at4 : Nat, ∀ nd4 : Nat, (zFin true S4) → (pWx tp sz rec n (b + 1) (deep + 1) e0 nd2 = .ok (y4, at4, nd4)) → (xFr (sI S2 133 r (Int32.ofNat (b + 1))) S4) → (xTl (gN S2) S4 y4 a4) → (xR tp sz S4 r at4 nd4) → (gN S2 ≤ gN S4 ∧ gN S4 + 30 * (sz - at4) ≤ gN S2 + 30 * (sz - e0) + 2 * (e0 - (b + 1)) ∧ gZ S4 + 150 * (sz - at4) ≤ gZ S2 + 150 * (sz - e0) + 60 * (e0 - (b + 1))) → (at4 ≤ sz ∧ gN S2 ≤ a4 ∧ a4 < gN S4) → ∀ S21 : zS, (zFin true S21) → (pJ (tN 0 0 [] b []) = .ok (tN 0 0 [] b [])) → (xJd (sI (sI (sP (sNew S4 16 0 (zslots 16)) 174 (gN S4) (some 0)) 144 (gN S4) (Int32.ofNat b)) 173 (gN S4) 0) (gN S4) S21) → (xTl (gN S) S21 (tN 0 0 [] b []) (gN S4)) → (xR tp sz S21 r at4 nd4) → (gN S21 = gN S4 + 1 ∧ gZ S21 = gZ S4 + 19) → ∀ S36 : zS, (zFin true S36) → (pJ (tN 16 0 [] b [y4, tN 0 0 [] b []]) = .ok (tN 16 0 [] b [y4, tN 0 0 [] b []])) → (xJd (sP (sP (sI (sI (sP (sNew S21 20 0 (zslots 20)) 190 (gN S21) (some 0)) 144 (gN S21) (Int32.ofNat b)) 187 (gN S21) 5) 188 (gN S21) (some a4)) 189 (gN S21) (some (gN S4))) (gN S21) S36) → (xTl (gN S) S36 (tN 16 0 [] b [y4, tN 0 0 [] b []]) (gN S21)) → (xR tp sz S36 r at4 nd4) → (gN S36 = gN S21 + 1 ∧ gZ S36 = gZ S21 + 20) → post (.returned (some (.ref (gN S21))), S36)) (h2 : ∀ S2 : zS, ∀ nd2 : Nat, (zFin true S2) → (pRead b deep nd true = .ok nd2) → (xFr S S2) → (xR tp sz S2 r b nd2) → (gN S ≤ gN S2 ∧ gN S2 ≤ gN S + 0 ∧ gZ S2 ≤ gZ S + 0) → (b ≤ sz) → (nd2 ≤ 80) → (deep ≤ 24) → ∀ S4 : zS, ∀ a4 : Nat, ∀ y4 : zNd, ∀ at4 : Nat, ∀ nd4 : Nat, (zFin true S4) → (pWx tp sz rec n (b + 1) (deep + 1) e0 nd2 = .ok (y4, at4, nd4)) → (xFr (sI S2 133 r (Int32.ofNat (b + 1))) S4) → (xTl (gN S2) S4 y4 a4) → (xR tp sz S4 r at4 nd4) → (gN S2 ≤ gN S4 ∧ gN S4 + 30 * (sz - at4) ≤ gN S2 + 30 * (sz - e0) + 2 * (e0 - (b + 1)) ∧ gZ S4 + 150 * (sz - at4) ≤ gZ S2 + 150 * (sz - e0) + 60 * (e0 - (b + 1))) → (at4 ≤ sz ∧ gN S2 ≤ a4 ∧ a4 < gN S4) → ∀ S21 : zS, (zFin true S21) → (pJ (tN 0 0 [] b []) = .ok (tN 0 0 [] b [])) → (xJd (sI (sI (sP (sNew S4 16 0 (zslots 16)) 174 (gN S4) (some 0)) 144 (gN S4) (Int32.ofNat b)) 173 (gN S4) 0) (gN S4) S21) → (xTl (gN S) S21 (tN 0 0 [] b []) (gN S4)) → (xR tp sz S21 r at4 nd4) → (gN S21 = gN S4 + 1 ∧ gZ S21 = gZ S4 + 19) → ∀ S37 : zS, ∀ q37 : Nat, (zFin true S37) → (pJ (tN 16 0 [] b [y4, tN 0 0 [] b []]) = .error (3, b)) → (xFn (sP (sP (sI (sI (sP (sNew S21 20 0 (zslots 20)) 190 (gN S21) (some 0)) 144 (gN S21) (Int32.ofNat b)) 187 (gN S21) 5) 188 (gN S21) (some a4)) 189 (gN S21) (some (gN S4))) (gN S21) S37) → (xFl S37 q37 3 b) → (gN S37 = gN S21 + 1 + 1 ∧ gZ S37 ≤ gZ S21 + 20 + 3) → post (.threw q37, S37)) (h3 : ∀ S2 : zS, ∀ nd2 : Nat, (zFin true S2) → (pRead b deep nd true = .ok nd2) → (xFr S S2) → (xR tp sz S2 r b nd2) → (gN S ≤ gN S2 ∧ gN S2 ≤ gN S + 0 ∧ gZ S2 ≤ gZ S + 0) → (b ≤ sz) → (nd2 ≤ 80) → (deep ≤ 24) → ∀ S4 : zS, ∀ a4 : Nat, ∀ y4 : zNd, ∀ at4 : Nat, ∀ nd4 : Nat, (zFin true S4) → (pWx tp sz rec n (b + 1) (deep + 1) e0 nd2 = .ok (y4, at4, nd4)) → (xFr (sI S2 133 r (Int32.ofNat (b + 1))) S4) → (xTl (gN S2) S4 y4 a4) → (xR tp sz S4 r at4 nd4) → (gN S2 ≤ gN S4 ∧ gN S4 + 30 * (sz - at4) ≤ gN S2 + 30 * (sz - e0) + 2 * (e0 - (b + 1)) ∧ gZ S4 + 150 * (sz - at4) ≤ gZ S2 + 150 * (sz - e0) + 60 * (e0 - (b + 1))) → (at4 ≤ sz ∧ gN S2 ≤ a4 ∧ a4 < gN S4) → ∀ S22 : zS, ∀ q22 : Nat, (zFin true S22) → (pJ (tN 0 0 [] b []) = .error (3, b)) → (xFn (sI (sI (sP (sNew S4 16 0 (zslots 16)) 174 (gN S4) (some 0)) 144 (gN S4) (Int32.ofNat b)) 173 (gN S4) 0) (gN S4) S22) → (xFl S22 q22 3 b) → (gN S22 = gN S4 + 1 + 1 ∧ gZ S22 ≤ gZ S4 + 19 + 3) → post (.threw q22, S22)) (h4 : ∀ S2 : zS, ∀ nd2 : Nat, (zFin true S2) → (pRead b deep nd true = .ok nd2) → (xFr S S2) → (xR tp sz S2 r b nd2) → (gN S ≤ gN S2 ∧ gN S2 ≤ gN S + 0 ∧ gZ S2 ≤ gZ S + 0) → (b ≤ sz) → (nd2 ≤ 80) → (deep ≤ 24) → ∀ S5 : zS, ∀ q5 : Nat, ∀ kk5 : Nat, ∀ z5 : Nat, (zFin true S5) → (pWx tp sz rec n (b + 1) (deep + 1) e0 nd2 = .error (kk5, z5)) → (xFr (sI S2 133 r (Int32.ofNat (b + 1))) S5) → (xFl S5 q5 kk5 z5) → (gN S2 ≤ gN S5 ∧ gN S5 ≤ gN S2 + 30 * (sz - e0) + 2 * (e0 - (b + 1)) + 60 ∧ gZ S5 ≤ gZ S2 + 150 * (sz - e0) + 60 * (e0 - (b + 1)) + 2000) → post (.threw q5, S5)) (h5 : ∀ S3 : zS, ∀ q3 : Nat, (zFin true S3) → (pRead b deep nd true = .error (2, b)) → (xFr S S3) → (xFl S3 q3 2 b) → (gN S ≤ gN S3 ∧ gN S3 ≤ gN S + 1 ∧ gZ S3 ≤ gZ S + 3) → post (.threw q3, S3)) : zCall d 260 [.ref r, .ref w, .int 0, .int (Int32.ofNat deep)] S post := by
  have ht : ztab 260 = ztb260 := rfl
  show zEv d 260 0 [.ref r, .ref w, .int 0, .int (Int32.ofNat deep), .retAddr 0, .retAddr 0, .retAddr 0, .retAddr 0, .retAddr 0] [] S post
  refine zv_c1 ht rfl rfl ?_
  refine zv_ei (x := Int32.ofNat b) ht rfl rfl (zhas_of (hR.1.2.2.2.1) rfl) hR.1.1 ?_
  refine zv_c2 (L' := [.ref r, .ref w, .int 0, .int (Int32.ofNat deep), .int (Int32.ofNat b), .retAddr 0, .retAddr 0, .retAddr 0, .retAddr 0]) ht rfl rfl ?_
  refine zv_c1 ht rfl rfl (zv_c1 ht rfl rfl ?_)
  refine zv_cl ht rfl rfl rfl (zv_tgv ((zStr.t hw.1)) rfl) (by omega) (Nat.le_of_ble_eq_true rfl) (x_len (S := S) hF (by omega) hw.1 (n := wl) hwl ?_)
  show zEv d 260 11 [.ref r, .ref w, .int 0, .int (Int32.ofNat deep), .int (Int32.ofNat b), .retAddr 0, .retAddr 0, .retAddr 0, .retAddr 0] [.int (Int32.ofNat wl), .int 0] S post
  refine zv_br ht rfl rfl rfl (fun b1 => ?_) (fun b1 => (show False from by have hq := b1; have hz : 0 = wl := (zi_eqE (a := 0) (b := wl) rfl rfl (by omega) (by omega)).mp (Classical.not_not.mp hq); omega).elim)
  refine zv_c1 ht rfl rfl (zv_c1 ht rfl rfl ?_)
  refine zv_cl ht rfl rfl rfl (zv_tgv ((zStr.t hw.1)) rfl) (by omega) (Nat.le_of_ble_eq_true rfl) (x_char (S := S) hF (by omega) hw.1 (i := 0) (by omega) (c := 117) hcc ?_)
  show zEv d 260 39 [.ref r, .ref w, .int 0, .int (Int32.ofNat deep), .int (Int32.ofNat b), .retAddr 0, .retAddr 0, .retAddr 0, .retAddr 0] [.int 117] S post
  refine zv_c2 (L' := [.ref r, .ref w, .int 0, .int (Int32.ofNat deep), .int (Int32.ofNat b), .int 117, .retAddr 0, .retAddr 0, .retAddr 0]) ht rfl rfl ?_
  refine zv_c1 ht rfl rfl (zv_c1 ht rfl rfl ?_)
  refine zv_br ht rfl rfl rfl (fun h => absurd h (by decide)) (fun _ => ?_)
  refine zv_c1 ht rfl rfl (zv_c1 ht rfl rfl ?_)
  refine zv_br ht rfl rfl rfl (fun h => absurd h (by decide)) (fun _ => ?_)
  refine zv_c1 ht rfl rfl (zv_c1 ht rfl rfl ?_)
  refine zv_br ht rfl rfl rfl (fun h => absurd h (by decide)) (fun _ => ?_)
  refine zv_c1 ht rfl rfl (zv_c1 ht rfl rfl ?_)
  refine zv_c2 (L' := [.ref r, .ref w, .int 0, .int (Int32.ofNat deep), .int (Int32.ofNat b), .int 117, .int 1, .retAddr 0, .retAddr 0]) ht rfl rfl ?_
  refine zv_c1 ht rfl rfl ?_
  refine zv_br ht rfl rfl rfl (fun h => absurd h (by decide)) (fun _ => ?_)
  refine zv_c1 ht rfl rfl (zv_c1 ht rfl rfl ?_)
  refine zv_cl ht rfl rfl rfl (zv_tgv (hR.1.2.2.2.1) rfl) (by omega) (Nat.le_of_ble_eq_true rfl) (x_findOk (S := S) (r := r) hF (by omega) hR (by omega) hw (by omega) hbad ?_)
  show zEv d 260 78 [.ref r, .ref w, .int 0, .int (Int32.ofNat deep), .int (Int32.ofNat b), .int 117, .int 1, .retAddr 0, .retAddr 0] [] S post
  refine zv_c1 ht rfl rfl (zv_c1 ht rfl rfl (zv_c1 ht rfl rfl ?_))
  refine zv_br ht rfl rfl rfl (fun h => absurd h (by decide)) (fun _ => ?_)
  refine zv_c1 ht rfl rfl (zv_c1 ht rfl rfl (zv_c1 ht rfl rfl ?_))
  refine zv_br ht rfl rfl rfl (fun h => absurd h (by decide)) (fun _ => ?_)
  refine zv_c1 ht rfl rfl (zv_c1 ht rfl rfl ?_)
  refine zv_e1 (x := Int32.ofNat (deep + 1)) ht rfl rfl (zi_addE (a := deep) (b := 1) rfl rfl) ?_
  refine zv_c1 ht rfl rfl ?_
  refine zv_cl ht rfl rfl rfl (zv_tgv (hR.1.2.2.2.1) rfl) (by omega) (Nat.le_of_ble_eq_true rfl) (x_begins (S := S) (tp := tp) (sz := sz) (r := r) (p := b) (dp := deep) (m := 2) (dq := deep + 1) (two := true) hF (by omega) hR (by omega) (by omega) (by omega) (by omega) rfl rfl (fun S2 nd2 hF2 e2 k2 p2 g2 b2 c2 d2 => ?_) (fun S3 q3 hF3 e3 k3 x3 g3 => ?_))
  · show zEv d 260 106 [.ref r, .ref w, .int 0, .int (Int32.ofNat deep), .int (Int32.ofNat b), .int 117, .int 1, .retAddr 0, .retAddr 0] [] S2 post
    refine zv_c1 ht rfl rfl (zv_c1 ht rfl rfl ?_)
    refine zv_ei (x := Int32.ofNat b) ht rfl rfl (zhas_of (p2.1.2.2.2.1) rfl) p2.1.1 ?_
    refine zv_c1 ht rfl rfl ?_
    refine zv_e1 (x := Int32.ofNat (b + 1)) ht rfl rfl (zi_addE (a := b) (b := 1) rfl rfl) ?_
    refine zv_ci (S' := sI S2 133 r (Int32.ofNat (b + 1))) ht rfl rfl ⟨(zhas_of (p2.1.2.2.2.1) rfl), (show r < gN S2 from by omega)⟩ ?_
    refine zv_c1 ht rfl rfl (zv_c1 ht rfl rfl (zv_c1 ht rfl rfl (zv_c1 ht rfl rfl ?_)))
    refine zv_c1 (st' := [.int 1, .ref w, .ref r]) (S' := sI S2 133 r (Int32.ofNat (b + 1))) ht rfl rfl ?_
    refine zv_c1 ht rfl rfl (zv_c1 ht rfl rfl ?_)
    refine zv_e1 (x := Int32.ofNat (deep + 1)) ht rfl rfl (zi_addE (a := deep) (b := 1) rfl rfl) ?_
    refine zv_cl ht rfl rfl rfl (zv_tgv (p2.1.2.2.2.1) rfl) (by omega) (Nat.le_of_ble_eq_true rfl) (xEc.use (g := gN S2) (cN := gN S2 + 30 * (sz - e0) + 2 * (e0 - (b + 1))) (cZ := gZ S2 + 150 * (sz - e0) + 60 * (e0 - (b + 1))) rfl ((hIH (by omega)) (S := sI S2 133 r (Int32.ofNat (b + 1))) (r := r) hF2 (xR_at p2 (by omega)) (xWd.k hw (zKE.tr (zKE.tr zKE.rf (zKE.w k2 (show gN S ≤ gN S from by omega) (fun _ h => h) (fun _ h => h))) (zKE_sI (Or.inl (by decide))))) (by omega) (by omega)) (fun S4 a4 y4 at4 nd4 hF4 e4 k4 t4 p4 g4 c4 => ?_) (fun S5 q5 kk5 z5 hF5 e5 k5 x5 g5 => ?_))
    · show zEv d 260 127 [.ref r, .ref w, .int 0, .int (Int32.ofNat deep), .int (Int32.ofNat b), .int 117, .int 1, .retAddr 0, .retAddr 0] [.ref a4] S4 post
      refine zv_c2 (L' := [.ref r, .ref w, .int 0, .int (Int32.ofNat deep), .int (Int32.ofNat b), .int 117, .int 1, .ref a4, .retAddr 0]) ht rfl rfl ?_
      refine zv_c1 ht rfl rfl ?_
      refine zv_br ht rfl rfl rfl (fun _ => ?_) (fun h => absurd (by decide) h)
      refine zv_c1 ht rfl rfl ?_
      refine zv_ci (st' := [.ref (gN S4), .ref r]) (S' := sNew S4 16 0 (zslots 16)) ht rfl rfl (znew_ok (show 1639 ≤ gN S4 from by omega) (show gN S4 < 2000000 from by omega)) ?_
      refine zv_c1 ht rfl rfl (zv_c1 ht rfl rfl ?_)
      refine zv_g3 (q := 0) ht rfl (zFin_new hF4) rfl rfl (zhas_of (Eq.trans (ztyp_new (S := S4) (t := 16) (n := 0) (s := zslots 16) (show r ≠ gN S4 from by omega)) p4.1.2.2.2.1) rfl) (Eq.trans (gP_new (S := S4) (t := 16) (n := 0) (s := zslots 16) (show r ≠ gN S4 from by omega)) p4.1.2.2.2.2) ?_
      refine zv_c1 ht rfl rfl (zv_c1 ht rfl rfl (zv_c1 ht rfl rfl ?_))
      refine zv_br ht rfl rfl rfl (fun _ => ?_) (fun h => absurd (by decide) h)
      refine zv_c1 ht rfl rfl ?_
      have C7 : ∀ (pst6 : Outcome × zS → Prop), (pst6 (.returned none, sI (sI (sP (sNew S4 16 0 (zslots 16)) 174 (gN S4) (some 0)) 144 (gN S4) (Int32.ofNat b)) 173 (gN S4) 0)) → zCall (d - 1) 334 [.ref (gN S4), .ref 0, .int (Int32.ofNat b), .int 0] (sNew S4 16 0 (zslots 16)) pst6 := by
        intro pst6 k17
        have ht8 : ztab 334 = ztb334 := rfl
        show zEv (d - 1) 334 0 [.ref (gN S4), .ref 0, .int (Int32.ofNat b), .int 0] [] (sNew S4 16 0 (zslots 16)) pst6
        refine zv_c1 ht8 rfl rfl (zv_c1 ht8 rfl rfl ?_)
        refine zv_ci (S' := sP (sNew S4 16 0 (zslots 16)) 174 (gN S4) (some 0)) ht8 rfl rfl ⟨(zhas_of (ztyp_new_at (S := S4) (t := 16) (n := 0) (s := zslots 16) (show 1639 ≤ gN S4 from by omega)) rfl), (show gN S4 < gN S4 + 1 from by omega)⟩ ?_
        refine zv_c1 ht8 rfl rfl (zv_c1 ht8 rfl rfl (zv_c1 ht8 rfl rfl ?_))
        have C10 : ∀ (pst9 : Outcome × zS → Prop), (pst9 (.returned none, sI (sP (sNew S4 16 0 (zslots 16)) 174 (gN S4) (some 0)) 144 (gN S4) (Int32.ofNat b))) → zCall ((d - 1) - 1) 306 [.ref (gN S4), .ref 0, .int (Int32.ofNat b)] (sP (sNew S4 16 0 (zslots 16)) 174 (gN S4) (some 0)) pst9 := by
          intro pst9 k16
          have ht11 : ztab 306 = ztb306 := rfl
          show zEv ((d - 1) - 1) 306 0 [.ref (gN S4), .ref 0, .int (Int32.ofNat b)] [] (sP (sNew S4 16 0 (zslots 16)) 174 (gN S4) (some 0)) pst9
          refine zv_c1 ht11 rfl rfl (zv_c1 ht11 rfl rfl ?_)
          refine zv_ci (S' := sP (sNew S4 16 0 (zslots 16)) 174 (gN S4) (some 0)) ht11 rfl rfl (zk5 (ztyp_new_at (S := S4) (t := 16) (n := 0) (s := zslots 16) (show 1639 ≤ gN S4 from by omega)) rfl (show gN S4 < gN S4 + 1 from by omega) rfl gP_sP_at) ?_
          refine zv_c1 ht11 rfl rfl (zv_c1 ht11 rfl rfl (zv_c1 ht11 rfl rfl ?_))
          have C13 : ∀ (pst12 : Outcome × zS → Prop), (pst12 (.returned none, sI (sP (sNew S4 16 0 (zslots 16)) 174 (gN S4) (some 0)) 144 (gN S4) (Int32.ofNat b))) → zCall (((d - 1) - 1) - 1) 280 [.ref (gN S4), .ref 0, .int (Int32.ofNat b)] (sP (sNew S4 16 0 (zslots 16)) 174 (gN S4) (some 0)) pst12 := by
            intro pst12 k15
            have ht14 : ztab 280 = ztb280 := rfl
            show zEv (((d - 1) - 1) - 1) 280 0 [.ref (gN S4), .ref 0, .int (Int32.ofNat b)] [] (sP (sNew S4 16 0 (zslots 16)) 174 (gN S4) (some 0)) pst12
            refine zv_c1 ht14 rfl rfl (zv_c1 ht14 rfl rfl ?_)
            refine zv_ci (S' := sP (sNew S4 16 0 (zslots 16)) 174 (gN S4) (some 0)) ht14 rfl rfl (zk5 (ztyp_new_at (S := S4) (t := 16) (n := 0) (s := zslots 16) (show 1639 ≤ gN S4 from by omega)) rfl (show gN S4 < gN S4 + 1 from by omega) rfl gP_sP_at) ?_
            refine zv_c1 ht14 rfl rfl (zv_c1 ht14 rfl rfl (zv_c1 ht14 rfl rfl (zv_c1 ht14 rfl rfl ?_)))
            refine zv_ci (S' := sI (sP (sNew S4 16 0 (zslots 16)) 174 (gN S4) (some 0)) 144 (gN S4) (Int32.ofNat b)) ht14 rfl rfl ⟨(zhas_of (ztyp_new_at (S := S4) (t := 16) (n := 0) (s := zslots 16) (show 1639 ≤ gN S4 from by omega)) rfl), (show gN S4 < gN S4 + 1 from by omega)⟩ ?_
            exact zv_rt ht14 rfl rfl rfl rfl k15
          refine zv_cl ht11 rfl rfl rfl rfl (by omega) (Nat.le_of_ble_eq_true rfl) (C13 _ ?_)
          show zEv ((d - 1) - 1) 306 11 [.ref (gN S4), .ref 0, .int (Int32.ofNat b)] [] (sI (sP (sNew S4 16 0 (zslots 16)) 174 (gN S4) (some 0)) 144 (gN S4) (Int32.ofNat b)) pst9
          exact zv_rt ht11 rfl rfl rfl rfl k16
        refine zv_cl ht8 rfl rfl rfl rfl (by omega) (Nat.le_of_ble_eq_true rfl) (C10 _ ?_)
        show zEv (d - 1) 334 11 [.ref (gN S4), .ref 0, .int (Int32.ofNat b), .int 0] [] (sI (sP (sNew S4 16 0 (zslots 16)) 174 (gN S4) (some 0)) 144 (gN S4) (Int32.ofNat b)) pst6
        refine zv_c1 ht8 rfl rfl (zv_c1 ht8 rfl rfl ?_)
        refine zv_ci (S' := sI (sI (sP (sNew S4 16 0 (zslots 16)) 174 (gN S4) (some 0)) 144 (gN S4) (Int32.ofNat b)) 173 (gN S4) 0) ht8 rfl rfl ⟨⟨(zhas_of (ztyp_new_at (S := S4) (t := 16) (n := 0) (s := zslots 16) (show 1639 ≤ gN S4 from by omega)) rfl), (show gN S4 < gN S4 + 1 from by omega)⟩, (by decide)⟩ ?_
        exact zv_rt ht8 rfl rfl rfl rfl k17
      refine zv_cl ht rfl rfl rfl rfl (by omega) (Nat.le_of_ble_eq_true rfl) (C7 _ ?_)
      show zEv d 260 182 [.ref r, .ref w, .int 0, .int (Int32.ofNat deep), .int (Int32.ofNat b), .int 117, .int 1, .ref a4, .retAddr 0] [.ref (gN S4), .ref r] (sI (sI (sP (sNew S4 16 0 (zslots 16)) 174 (gN S4) (some 0)) 144 (gN S4) (Int32.ofNat b)) 173 (gN S4) 0) post
      have C19 : ∀ (pst18 : Outcome × zS → Prop), (∀ S21 : zS, (zFin true S21) → (pJ (tN 0 0 [] b []) = .ok (tN 0 0 [] b [])) → (xJd (sI (sI (sP (sNew S4 16 0 (zslots 16)) 174 (gN S4) (some 0)) 144 (gN S4) (Int32.ofNat b)) 173 (gN S4) 0) (gN S4) S21) → (xTl (gN S) S21 (tN 0 0 [] b []) (gN S4)) → (xR tp sz S21 r at4 nd4) → (gN S21 = gN S4 + 1 ∧ gZ S21 = gZ S4 + 19) → pst18 (.returned (some (.ref (gN S4))), S21)) → (∀ S22 : zS, ∀ q22 : Nat, (zFin true S22) → (pJ (tN 0 0 [] b []) = .error (3, b)) → (xFn (sI (sI (sP (sNew S4 16 0 (zslots 16)) 174 (gN S4) (some 0)) 144 (gN S4) (Int32.ofNat b)) 173 (gN S4) 0) (gN S4) S22) → (xFl S22 q22 3 b) → (gN S22 = gN S4 + 1 + 1 ∧ gZ S22 ≤ gZ S4 + 19 + 3) → pst18 (.threw q22, S22)) → zCall (d - 1) 253 [.ref r, .ref (gN S4)] (sI (sI (sP (sNew S4 16 0 (zslots 16)) 174 (gN S4) (some 0)) 144 (gN S4) (Int32.ofNat b)) 173 (gN S4) 0) pst18 := by
        intro pst18 k23 k24
        have ht20 : ztab 253 = ztb253 := rfl
        show zEv (d - 1) 253 0 [.ref r, .ref (gN S4)] [] (sI (sI (sP (sNew S4 16 0 (zslots 16)) 174 (gN S4) (some 0)) 144 (gN S4) (Int32.ofNat b)) 173 (gN S4) 0) pst18
        refine zv_c1 ht20 rfl rfl ?_
        refine zv_cl ht20 rfl rfl rfl (zv_tgm (ztyp_new_at (S := S4) (t := 16) (n := 0) (s := zslots 16) (show 1639 ≤ gN S4 from by omega)) rfl) (by omega) (Nat.le_of_ble_eq_true rfl) (x_judgeR (S := sI (sI (sP (sNew S4 16 0 (zslots 16)) 174 (gN S4) (some 0)) 144 (gN S4) (Int32.ofNat b)) 173 (gN S4) 0) (tp := tp) (sz := sz) (r := r) (a := gN S4) (k := 0) (v := 0) (p := b) (ks := []) (js := []) (cs := []) (g := gN S4 + 1) (lo := gN S) (zFin_sP (zFin_new hF4) rfl) (by omega) (by omega) (by omega) (by omega) (by omega) rfl (xOwn_B (by decide) (ztyp_new_at (S := S4) (t := 16) (n := 0) (s := zslots 16) (show 1639 ≤ gN S4 from by omega)) (gI_sI_at)) rfl (by decide) (by omega) (gI_sI_at) (gI_new_at (S := S4) (t := 16) (n := 0) (s := zslots 16)) (gI_new_at (S := S4) (t := 16) (n := 0) (s := zslots 16)) (xR.ke (Fs := []) p4 (zKE.tr (zKE.tr (zKE.tr (zKE.tr zKE.rf (zKE_new (show gN S4 ≤ gN S4 ∧ gN S4 < zLB from ⟨by omega, by have hLB : zLB = 4294967296 := rfl; omega⟩))) (zKE_sP (Or.inr (Or.inr ⟨by omega, by have hLB : zLB = 4294967296 := rfl; omega⟩)))) (zKE_sI (Or.inr (Or.inr ⟨by omega, by have hLB : zLB = 4294967296 := rfl; omega⟩)))) (zKE_sI (Or.inr (Or.inr ⟨by omega, by have hLB : zLB = 4294967296 := rfl; omega⟩)))) (by omega) (by decide)) (by omega) (fun S21 hF21 e21 j21 t21 p21 g21 => ?_) (fun S22 q22 hF22 e22 k22 x22 g22 => ?_))
        · show zEv (d - 1) 253 4 [.ref r, .ref (gN S4)] [] S21 pst18
          refine zv_c1 ht20 rfl rfl ?_
          exact zv_rt ht20 rfl rfl rfl rfl (k23 S21 hF21 e21 j21 t21 p21 g21)
        · exact (k24 S22 q22 hF22 e22 k22 x22 g22)
      refine zv_cl ht rfl rfl rfl (zv_tgv (Eq.trans (ztyp_new (S := S4) (t := 16) (n := 0) (s := zslots 16) (show r ≠ gN S4 from by omega)) p4.1.2.2.2.1) rfl) (by omega) (Nat.le_of_ble_eq_true rfl) (C19 _ (fun S21 hF21 e21 j21 t21 p21 g21 => ?_) (fun S22 q22 hF22 e22 k22 x22 g22 => ?_))
      · show zEv d 260 185 [.ref r, .ref w, .int 0, .int (Int32.ofNat deep), .int (Int32.ofNat b), .int 117, .int 1, .ref a4, .retAddr 0] [.ref (gN S4)] S21 post
        refine zv_c2 (L' := [.ref r, .ref w, .int 0, .int (Int32.ofNat deep), .int (Int32.ofNat b), .int 117, .int 1, .ref a4, .ref (gN S4)]) ht rfl rfl ?_
        refine zv_c1 ht rfl rfl (zv_c1 ht rfl rfl (zv_c1 ht rfl rfl ?_))
        refine zv_br ht rfl rfl rfl (fun _ => ?_) (fun h => absurd (by decide) h)
        refine zv_c1 ht rfl rfl (zv_c1 ht rfl rfl ?_)
        refine zv_br ht rfl rfl rfl (fun _ => ?_) (fun h => absurd (by decide) h)
        refine zv_ci (st' := [.ref (gN S21), .ref r]) (S' := sNew S21 20 0 (zslots 20)) ht rfl rfl (znew_ok (show 1639 ≤ gN S21 from by omega) (show gN S21 < 2000000 from by omega)) ?_
        refine zv_c1 ht rfl rfl (zv_c1 ht rfl rfl ?_)
        refine zv_g3 (q := 0) ht rfl (zFin_new hF21) rfl rfl (zhas_of (Eq.trans (ztyp_new (S := S21) (t := 20) (n := 0) (s := zslots 20) (show r ≠ gN S21 from by omega)) p21.1.2.2.2.1) rfl) (Eq.trans (gP_new (S := S21) (t := 20) (n := 0) (s := zslots 20) (show r ≠ gN S21 from by omega)) p21.1.2.2.2.2) ?_
        refine zv_c1 ht rfl rfl (zv_c1 ht rfl rfl (zv_c1 ht rfl rfl (zv_c1 ht rfl rfl ?_)))
        have C26 : ∀ (pst25 : Outcome × zS → Prop), (pst25 (.returned none, sP (sP (sI (sI (sP (sNew S21 20 0 (zslots 20)) 190 (gN S21) (some 0)) 144 (gN S21) (Int32.ofNat b)) 187 (gN S21) 5) 188 (gN S21) (some a4)) 189 (gN S21) (some (gN S4)))) → zCall (d - 1) 373 [.ref (gN S21), .ref 0, .int (Int32.ofNat b), .int 5, .ref a4, .ref (gN S4)] (sNew S21 20 0 (zslots 20)) pst25 := by
          intro pst25 k32
          have ht27 : ztab 373 = ztb373 := rfl
          show zEv (d - 1) 373 0 [.ref (gN S21), .ref 0, .int (Int32.ofNat b), .int 5, .ref a4, .ref (gN S4)] [] (sNew S21 20 0 (zslots 20)) pst25
          refine zv_c1 ht27 rfl rfl (zv_c1 ht27 rfl rfl ?_)
          refine zv_ci (S' := sP (sNew S21 20 0 (zslots 20)) 190 (gN S21) (some 0)) ht27 rfl rfl ⟨(zhas_of (ztyp_new_at (S := S21) (t := 20) (n := 0) (s := zslots 20) (show 1639 ≤ gN S21 from by omega)) rfl), (show gN S21 < gN S21 + 1 from by omega)⟩ ?_
          refine zv_c1 ht27 rfl rfl (zv_c1 ht27 rfl rfl (zv_c1 ht27 rfl rfl ?_))
          have C29 : ∀ (pst28 : Outcome × zS → Prop), (pst28 (.returned none, sI (sP (sNew S21 20 0 (zslots 20)) 190 (gN S21) (some 0)) 144 (gN S21) (Int32.ofNat b))) → zCall ((d - 1) - 1) 280 [.ref (gN S21), .ref 0, .int (Int32.ofNat b)] (sP (sNew S21 20 0 (zslots 20)) 190 (gN S21) (some 0)) pst28 := by
            intro pst28 k31
            have ht30 : ztab 280 = ztb280 := rfl
            show zEv ((d - 1) - 1) 280 0 [.ref (gN S21), .ref 0, .int (Int32.ofNat b)] [] (sP (sNew S21 20 0 (zslots 20)) 190 (gN S21) (some 0)) pst28
            refine zv_c1 ht30 rfl rfl (zv_c1 ht30 rfl rfl ?_)
            refine zv_ci (S' := sP (sNew S21 20 0 (zslots 20)) 190 (gN S21) (some 0)) ht30 rfl rfl (zk5 (ztyp_new_at (S := S21) (t := 20) (n := 0) (s := zslots 20) (show 1639 ≤ gN S21 from by omega)) rfl (show gN S21 < gN S21 + 1 from by omega) rfl gP_sP_at) ?_
            refine zv_c1 ht30 rfl rfl (zv_c1 ht30 rfl rfl (zv_c1 ht30 rfl rfl (zv_c1 ht30 rfl rfl ?_)))
            refine zv_ci (S' := sI (sP (sNew S21 20 0 (zslots 20)) 190 (gN S21) (some 0)) 144 (gN S21) (Int32.ofNat b)) ht30 rfl rfl ⟨(zhas_of (ztyp_new_at (S := S21) (t := 20) (n := 0) (s := zslots 20) (show 1639 ≤ gN S21 from by omega)) rfl), (show gN S21 < gN S21 + 1 from by omega)⟩ ?_
            exact zv_rt ht30 rfl rfl rfl rfl k31
          refine zv_cl ht27 rfl rfl rfl rfl (by omega) (Nat.le_of_ble_eq_true rfl) (C29 _ ?_)
          show zEv (d - 1) 373 11 [.ref (gN S21), .ref 0, .int (Int32.ofNat b), .int 5, .ref a4, .ref (gN S4)] [] (sI (sP (sNew S21 20 0 (zslots 20)) 190 (gN S21) (some 0)) 144 (gN S21) (Int32.ofNat b)) pst25
          refine zv_c1 ht27 rfl rfl (zv_c1 ht27 rfl rfl ?_)
          refine zv_ci (S' := sI (sI (sP (sNew S21 20 0 (zslots 20)) 190 (gN S21) (some 0)) 144 (gN S21) (Int32.ofNat b)) 187 (gN S21) 5) ht27 rfl rfl ⟨(zhas_of (ztyp_new_at (S := S21) (t := 20) (n := 0) (s := zslots 20) (show 1639 ≤ gN S21 from by omega)) rfl), (show gN S21 < gN S21 + 1 from by omega)⟩ ?_
          refine zv_c1 ht27 rfl rfl (zv_c1 ht27 rfl rfl ?_)
          refine zv_ci (S' := sP (sI (sI (sP (sNew S21 20 0 (zslots 20)) 190 (gN S21) (some 0)) 144 (gN S21) (Int32.ofNat b)) 187 (gN S21) 5) 188 (gN S21) (some a4)) ht27 rfl rfl ⟨(zhas_of (ztyp_new_at (S := S21) (t := 20) (n := 0) (s := zslots 20) (show 1639 ≤ gN S21 from by omega)) rfl), (show gN S21 < gN S21 + 1 from by omega)⟩ ?_
          refine zv_c1 ht27 rfl rfl (zv_c1 ht27 rfl rfl ?_)
          refine zv_ci (S' := sP (sP (sI (sI (sP (sNew S21 20 0 (zslots 20)) 190 (gN S21) (some 0)) 144 (gN S21) (Int32.ofNat b)) 187 (gN S21) 5) 188 (gN S21) (some a4)) 189 (gN S21) (some (gN S4))) ht27 rfl rfl ⟨(zhas_of (ztyp_new_at (S := S21) (t := 20) (n := 0) (s := zslots 20) (show 1639 ≤ gN S21 from by omega)) rfl), (show gN S21 < gN S21 + 1 from by omega)⟩ ?_
          exact zv_rt ht27 rfl rfl rfl rfl k32
        refine zv_cl ht rfl rfl rfl rfl (by omega) (Nat.le_of_ble_eq_true rfl) (C26 _ ?_)
        show zEv d 260 262 [.ref r, .ref w, .int 0, .int (Int32.ofNat deep), .int (Int32.ofNat b), .int 117, .int 1, .ref a4, .ref (gN S4)] [.ref (gN S21), .ref r] (sP (sP (sI (sI (sP (sNew S21 20 0 (zslots 20)) 190 (gN S21) (some 0)) 144 (gN S21) (Int32.ofNat b)) 187 (gN S21) 5) 188 (gN S21) (some a4)) 189 (gN S21) (some (gN S4))) post
        have C34 : ∀ (pst33 : Outcome × zS → Prop), (∀ S36 : zS, (zFin true S36) → (pJ (tN 16 0 [] b [y4, tN 0 0 [] b []]) = .ok (tN 16 0 [] b [y4, tN 0 0 [] b []])) → (xJd (sP (sP (sI (sI (sP (sNew S21 20 0 (zslots 20)) 190 (gN S21) (some 0)) 144 (gN S21) (Int32.ofNat b)) 187 (gN S21) 5) 188 (gN S21) (some a4)) 189 (gN S21) (some (gN S4))) (gN S21) S36) → (xTl (gN S) S36 (tN 16 0 [] b [y4, tN 0 0 [] b []]) (gN S21)) → (xR tp sz S36 r at4 nd4) → (gN S36 = gN S21 + 1 ∧ gZ S36 = gZ S21 + 20) → pst33 (.returned (some (.ref (gN S21))), S36)) → (∀ S37 : zS, ∀ q37 : Nat, (zFin true S37) → (pJ (tN 16 0 [] b [y4, tN 0 0 [] b []]) = .error (3, b)) → (xFn (sP (sP (sI (sI (sP (sNew S21 20 0 (zslots 20)) 190 (gN S21) (some 0)) 144 (gN S21) (Int32.ofNat b)) 187 (gN S21) 5) 188 (gN S21) (some a4)) 189 (gN S21) (some (gN S4))) (gN S21) S37) → (xFl S37 q37 3 b) → (gN S37 = gN S21 + 1 + 1 ∧ gZ S37 ≤ gZ S21 + 20 + 3) → pst33 (.threw q37, S37)) → zCall (d - 1) 253 [.ref r, .ref (gN S21)] (sP (sP (sI (sI (sP (sNew S21 20 0 (zslots 20)) 190 (gN S21) (some 0)) 144 (gN S21) (Int32.ofNat b)) 187 (gN S21) 5) 188 (gN S21) (some a4)) 189 (gN S21) (some (gN S4))) pst33 := by
          intro pst33 k38 k39
          have ht35 : ztab 253 = ztb253 := rfl
          show zEv (d - 1) 253 0 [.ref r, .ref (gN S21)] [] (sP (sP (sI (sI (sP (sNew S21 20 0 (zslots 20)) 190 (gN S21) (some 0)) 144 (gN S21) (Int32.ofNat b)) 187 (gN S21) 5) 188 (gN S21) (some a4)) 189 (gN S21) (some (gN S4))) pst33
          refine zv_c1 ht35 rfl rfl ?_
          refine zv_cl ht35 rfl rfl rfl (zv_tgm (ztyp_new_at (S := S21) (t := 20) (n := 0) (s := zslots 20) (show 1639 ≤ gN S21 from by omega)) rfl) (by omega) (Nat.le_of_ble_eq_true rfl) (x_judgeR (S := sP (sP (sI (sI (sP (sNew S21 20 0 (zslots 20)) 190 (gN S21) (some 0)) 144 (gN S21) (Int32.ofNat b)) 187 (gN S21) 5) 188 (gN S21) (some a4)) 189 (gN S21) (some (gN S4))) (tp := tp) (sz := sz) (r := r) (a := gN S21) (k := 16) (v := 0) (p := b) (ks := []) (js := [a4, gN S4]) (cs := [y4, tN 0 0 [] b []]) (g := gN S21 + 1) (lo := gN S) (zFin_sP (zFin_sP (zFin_sP (zFin_new hF21) rfl) rfl) rfl) (by omega) (by omega) (by omega) (by omega) (by omega) rfl (xOwn_P (by decide) (ztyp_new_at (S := S21) (t := 20) (n := 0) (s := zslots 20) (show 1639 ≤ gN S21 from by omega)) (gI_sI_at) (gP_sP_at) (gP_sP_at)) ⟨a4, _, rfl, (xTl.ch t4 (zKE.tr (zKE.tr (zKE.tr (zKE.tr (zKE.tr (zKE.tr (zKE.tr (zKE.tr (zKE.tr (zKE.tr (zKE.tr zKE.rf (zKE_new (show gN S4 ≤ gN S4 ∧ gN S4 < zLB from ⟨by omega, by have hLB : zLB = 4294967296 := rfl; omega⟩))) (zKE_sP (Or.inr (Or.inr ⟨by omega, by have hLB : zLB = 4294967296 := rfl; omega⟩)))) (zKE_sI (Or.inr (Or.inr ⟨by omega, by have hLB : zLB = 4294967296 := rfl; omega⟩)))) (zKE_sI (Or.inr (Or.inr ⟨by omega, by have hLB : zLB = 4294967296 := rfl; omega⟩)))) (xJd.ke j21 ⟨by omega, by have hLB : zLB = 4294967296 := rfl; omega⟩)) (zKE_new (show gN S4 ≤ gN S21 ∧ gN S21 < zLB from ⟨by omega, by have hLB : zLB = 4294967296 := rfl; omega⟩))) (zKE_sP (Or.inr (Or.inr ⟨by omega, by have hLB : zLB = 4294967296 := rfl; omega⟩)))) (zKE_sI (Or.inr (Or.inr ⟨by omega, by have hLB : zLB = 4294967296 := rfl; omega⟩)))) (zKE_sI (Or.inr (Or.inr ⟨by omega, by have hLB : zLB = 4294967296 := rfl; omega⟩)))) (zKE_sP (Or.inr (Or.inr ⟨by omega, by have hLB : zLB = 4294967296 := rfl; omega⟩)))) (zKE_sP (Or.inr (Or.inr ⟨by omega, by have hLB : zLB = 4294967296 := rfl; omega⟩)))) (by omega) (by intro j h1 h2; omega)), ⟨gN S4, _, rfl, (xTl.ch t21 (zKE.tr (zKE.tr (zKE.tr (zKE.tr (zKE.tr (zKE.tr zKE.rf (zKE_new (show gN S21 ≤ gN S21 ∧ gN S21 < zLB from ⟨by omega, by have hLB : zLB = 4294967296 := rfl; omega⟩))) (zKE_sP (Or.inr (Or.inr ⟨by omega, by have hLB : zLB = 4294967296 := rfl; omega⟩)))) (zKE_sI (Or.inr (Or.inr ⟨by omega, by have hLB : zLB = 4294967296 := rfl; omega⟩)))) (zKE_sI (Or.inr (Or.inr ⟨by omega, by have hLB : zLB = 4294967296 := rfl; omega⟩)))) (zKE_sP (Or.inr (Or.inr ⟨by omega, by have hLB : zLB = 4294967296 := rfl; omega⟩)))) (zKE_sP (Or.inr (Or.inr ⟨by omega, by have hLB : zLB = 4294967296 := rfl; omega⟩)))) (by omega) (by intro j h1 h2; omega)), rfl⟩⟩ (by decide) (by omega) (gI_sI_at) (gI_new_at (S := S21) (t := 20) (n := 0) (s := zslots 20)) (gI_new_at (S := S21) (t := 20) (n := 0) (s := zslots 20)) (xR.ke (Fs := []) p21 (zKE.tr (zKE.tr (zKE.tr (zKE.tr (zKE.tr (zKE.tr zKE.rf (zKE_new (show gN S21 ≤ gN S21 ∧ gN S21 < zLB from ⟨by omega, by have hLB : zLB = 4294967296 := rfl; omega⟩))) (zKE_sP (Or.inr (Or.inr ⟨by omega, by have hLB : zLB = 4294967296 := rfl; omega⟩)))) (zKE_sI (Or.inr (Or.inr ⟨by omega, by have hLB : zLB = 4294967296 := rfl; omega⟩)))) (zKE_sI (Or.inr (Or.inr ⟨by omega, by have hLB : zLB = 4294967296 := rfl; omega⟩)))) (zKE_sP (Or.inr (Or.inr ⟨by omega, by have hLB : zLB = 4294967296 := rfl; omega⟩)))) (zKE_sP (Or.inr (Or.inr ⟨by omega, by have hLB : zLB = 4294967296 := rfl; omega⟩)))) (by omega) (by decide)) (by omega) (fun S36 hF36 e36 j36 t36 p36 g36 => ?_) (fun S37 q37 hF37 e37 k37 x37 g37 => ?_))
          · show zEv (d - 1) 253 4 [.ref r, .ref (gN S21)] [] S36 pst33
            refine zv_c1 ht35 rfl rfl ?_
            exact zv_rt ht35 rfl rfl rfl rfl (k38 S36 hF36 e36 j36 t36 p36 g36)
          · exact (k39 S37 q37 hF37 e37 k37 x37 g37)
        refine zv_cl ht rfl rfl rfl (zv_tgv (Eq.trans (ztyp_new (S := S21) (t := 20) (n := 0) (s := zslots 20) (show r ≠ gN S21 from by omega)) p21.1.2.2.2.1) rfl) (by omega) (Nat.le_of_ble_eq_true rfl) (C34 _ (fun S36 hF36 e36 j36 t36 p36 g36 => ?_) (fun S37 q37 hF37 e37 k37 x37 g37 => ?_))
        · show zEv d 260 265 [.ref r, .ref w, .int 0, .int (Int32.ofNat deep), .int (Int32.ofNat b), .int 117, .int 1, .ref a4, .ref (gN S4)] [.ref (gN S21)] S36 post
          exact zv_rt ht rfl rfl rfl rfl (h1 S2 nd2 hF2 e2 k2 p2 g2 b2 c2 d2 S4 a4 y4 at4 nd4 hF4 e4 k4 t4 p4 g4 c4 S21 hF21 e21 j21 t21 p21 g21 S36 hF36 e36 j36 t36 p36 g36)
        · exact (h2 S2 nd2 hF2 e2 k2 p2 g2 b2 c2 d2 S4 a4 y4 at4 nd4 hF4 e4 k4 t4 p4 g4 c4 S21 hF21 e21 j21 t21 p21 g21 S37 q37 hF37 e37 k37 x37 g37)
      · exact (h3 S2 nd2 hF2 e2 k2 p2 g2 b2 c2 d2 S4 a4 y4 at4 nd4 hF4 e4 k4 t4 p4 g4 c4 S22 q22 hF22 e22 k22 x22 g22)
    · exact (h4 S2 nd2 hF2 e2 k2 p2 g2 b2 c2 d2 S5 q5 kk5 z5 hF5 e5 k5 x5 g5)
  · exact (h5 S3 q3 hF3 e3 k3 x3 g3)

theorem wrP97 {d : Nat} {S : zS} (hF : zFin true S) (hd : 5 ≤ d) {tp : Nat → Nat} {sz at0 nd r : Nat} {rec : Nat → Nat → Nat → pE (zNd × Nat × Nat)} {K n : Nat} {w : Nat} (b e0 wl k deep : Nat) (hR : xR tp sz S r (b + k) nd) (hs0 : sz ≤ 300) (ha0 : (b + k) ≤ sz) (hr1 : 1639 ≤ r) (hr2 : r < gN S) (hN : gN S + 30 * (sz - (b + k)) ≤ 1700000) (hdp : deep < 1000) (hnd : nd ≤ 80) (hw : xWd S w (pWl tp b e0)) (hwN : w < gN S) (hwl : (pWl tp b e0).length = wl) (hel : e0 = b + wl) (hes : e0 < sz) (hk0 : 0 < k) (hk : k < wl) (hcc : (pWl tp b e0).getD k 0 = 97) (hIH : deep ≤ 24 → xWr tp sz (d - 1) w b e0 rec n (k + 1) (deep + 1)) {post : Outcome × zS → Prop} (h1 : ∀ S3 : zS, ∀ nd3 : Nat, (zFin true S3) → (pRead (b + k) deep nd false = .ok nd3) → (xFr S S3) → (xR tp sz S3 r (b + k) nd3) → (gN S ≤ gN S3 ∧ gN S3 ≤ gN S + 0 ∧ gZ S3 ≤ gZ S + 0) → ((b + k) ≤ sz) → (nd3 ≤ 80) → (deep ≤ 24) → ∀ S5 : zS, ∀ a5 : Nat, ∀ y5 : zNd, ∀ at5 : Nat, ∀ nd5 : Nat, (zFin true S5) → (pWx tp sz rec n ((b + k) + 1) (deep + 1) e0 nd3 = .ok (y5, at5, nd5)) → (xFr (sI S3 133 r (Int32.ofNat ((b + k) + 1))) S5) → (xTl (gN S3) S5 y5 a5) → (xR tp sz S5 r at5 nd5) → (gN S3 ≤ gN S5 ∧ gN S5 + 30 * (sz - at5) ≤ gN S3 + 30 * (sz - e0) + 2 * (e0 - ((b + k) + 1)) ∧ gZ S5 + 150 * (sz - at5) ≤ gZ S3 + 150 * (sz - e0) + 60 * (e0 - ((b + k) + 1))) → (at5 ≤ sz ∧ gN S3 ≤ a5 ∧ a5 < gN S5) → ∀ S18 : zS, (zFin true S18) → (pJ (tN 19 0 [] (b + k) [y5]) = .ok (tN 19 0 [] (b + k) [y5])) → (xJd (sP (sI (sI (sP (sNew S5 11 0 (zslots 11)) 162 (gN S5) (some 0)) 144 (gN S5) (Int32.ofNat (b + k))) 160 (gN S5) 97) 161 (gN S5) (some a5)) (gN S5) S18) → (xTl (gN S) S18 (tN 19 0 [] (b + k) [y5]) (gN S5)) → (xR tp sz S18 r at5 nd5) → (gN S18 = gN S5 + 1 ∧ gZ S18 = gZ S5 + 19) → post (.returned (some (.ref (gN S5))), S18)) (h2 : ∀ S3 : zS, ∀ nd3 : Nat, (zFin true S3) → (pRead (b + k) deep nd false = .ok nd3) → (xFr S S3) → (xR tp sz S3 r (b + k) nd3) → (gN S ≤ gN S3 ∧ gN S3 ≤ gN S + 0 ∧ gZ S3 ≤ gZ S + 0) → ((b + k) ≤ sz) → (nd3 ≤ 80) → (deep ≤ 24) → ∀ S5 : zS, ∀ a5 : Nat, ∀ y5 : zNd, ∀ at5 : Nat, ∀ nd5 : Nat, (zFin true S5) → (pWx tp sz rec n ((b + k) + 1) (deep + 1) e0 nd3 = .ok (y5, at5, nd5)) → (xFr (sI S3 133 r (Int32.ofNat ((b + k) + 1))) S5) → (xTl (gN S3) S5 y5 a5) → (xR tp sz S5 r at5 nd5) → (gN S3 ≤ gN S5 ∧ gN S5 + 30 * (sz - at5) ≤ gN S3 + 30 * (sz - e0) + 2 * (e0 - ((b + k) + 1)) ∧ gZ S5 + 150 * (sz - at5) ≤ gZ S3 + 150 * (sz - e0) + 60 * (e0 - ((b + k) + 1))) → (at5 ≤ sz ∧ gN S3 ≤ a5 ∧ a5 < gN S5) → ∀ S19 : zS, ∀ q19 : Nat, (zFin true S19) → (pJ (tN 19 0 [] (b + k) [y5]) = .error (3, (b + k))) → (xFn (sP (sI (sI (sP (sNew S5 11 0 (zslots 11)) 162 (gN S5) (some 0)) 144 (gN S5) (Int32.ofNat (b + k))) 160 (gN S5) 97) 161 (gN S5) (some a5)) (gN S5) S19) → (xFl S19 q19 3 (b + k)) → (gN S19 = gN S5 + 1 + 1 ∧ gZ S19 ≤ gZ S5 + 19 + 3) → post (.threw q19, S19)) (h3 : ∀ S3 : zS, ∀ nd3 : Nat, (zFin true S3) → (pRead (b + k) deep nd false = .ok nd3) → (xFr S S3) → (xR tp sz S3 r (b + k) nd3) → (gN S ≤ gN S3 ∧ gN S3 ≤ gN S + 0 ∧ gZ S3 ≤ gZ S + 0) → ((b + k) ≤ sz) → (nd3 ≤ 80) → (deep ≤ 24) → ∀ S6 : zS, ∀ q6 : Nat, ∀ kk6 : Nat, ∀ z6 : Nat, (zFin true S6) → (pWx tp sz rec n ((b + k) + 1) (deep + 1) e0 nd3 = .error (kk6, z6)) → (xFr (sI S3 133 r (Int32.ofNat ((b + k) + 1))) S6) → (xFl S6 q6 kk6 z6) → (gN S3 ≤ gN S6 ∧ gN S6 ≤ gN S3 + 30 * (sz - e0) + 2 * (e0 - ((b + k) + 1)) + 60 ∧ gZ S6 ≤ gZ S3 + 150 * (sz - e0) + 60 * (e0 - ((b + k) + 1)) + 2000) → post (.threw q6, S6)) (h4 : ∀ S4 : zS, ∀ q4 : Nat, (zFin true S4) → (pRead (b + k) deep nd false = .error (2, (b + k))) → (xFr S S4) → (xFl S4 q4 2 (b + k)) → (gN S ≤ gN S4 ∧ gN S4 ≤ gN S + 1 ∧ gZ S4 ≤ gZ S + 3) → post (.threw q4, S4)) : zCall d 260 [.ref r, .ref w, .int (Int32.ofNat k), .int (Int32.ofNat deep)] S post := by
  have ht : ztab 260 = ztb260 := rfl
  show zEv d 260 0 [.ref r, .ref w, .int (Int32.ofNat k), .int (Int32.ofNat deep), .retAddr 0, .retAddr 0, .retAddr 0, .retAddr 0, .retAddr 0] [] S post
  refine zv_c1 ht rfl rfl ?_
  refine zv_ei (x := Int32.ofNat (b + k)) ht rfl rfl (zhas_of (hR.1.2.2.2.1) rfl) hR.1.1 ?_
  refine zv_c2 (L' := [.ref r, .ref w, .int (Int32.ofNat k), .int (Int32.ofNat deep), .int (Int32.ofNat (b + k)), .retAddr 0, .retAddr 0, .retAddr 0, .retAddr 0]) ht rfl rfl ?_
  refine zv_c1 ht rfl rfl (zv_c1 ht rfl rfl ?_)
  refine zv_cl ht rfl rfl rfl (zv_tgv ((zStr.t hw.1)) rfl) (by omega) (Nat.le_of_ble_eq_true rfl) (x_len (S := S) hF (by omega) hw.1 (n := wl) hwl ?_)
  show zEv d 260 11 [.ref r, .ref w, .int (Int32.ofNat k), .int (Int32.ofNat deep), .int (Int32.ofNat (b + k)), .retAddr 0, .retAddr 0, .retAddr 0, .retAddr 0] [.int (Int32.ofNat wl), .int (Int32.ofNat k)] S post
  refine zv_br ht rfl rfl rfl (fun b1 => ?_) (fun b1 => (show False from by have hq := b1; have hz : k = wl := (zi_eqE (a := k) (b := wl) rfl rfl (by omega) (by omega)).mp (Classical.not_not.mp hq); omega).elim)
  refine zv_c1 ht rfl rfl (zv_c1 ht rfl rfl ?_)
  refine zv_cl ht rfl rfl rfl (zv_tgv ((zStr.t hw.1)) rfl) (by omega) (Nat.le_of_ble_eq_true rfl) (x_char (S := S) hF (by omega) hw.1 (i := k) (by omega) (c := 97) hcc ?_)
  show zEv d 260 39 [.ref r, .ref w, .int (Int32.ofNat k), .int (Int32.ofNat deep), .int (Int32.ofNat (b + k)), .retAddr 0, .retAddr 0, .retAddr 0, .retAddr 0] [.int 97] S post
  refine zv_c2 (L' := [.ref r, .ref w, .int (Int32.ofNat k), .int (Int32.ofNat deep), .int (Int32.ofNat (b + k)), .int 97, .retAddr 0, .retAddr 0, .retAddr 0]) ht rfl rfl ?_
  refine zv_c1 ht rfl rfl (zv_c1 ht rfl rfl ?_)
  refine zv_br ht rfl rfl rfl (fun h => absurd h (by decide)) (fun _ => ?_)
  refine zv_c1 ht rfl rfl (zv_c1 ht rfl rfl ?_)
  refine zv_br ht rfl rfl rfl (fun h => absurd h (by decide)) (fun _ => ?_)
  refine zv_c1 ht rfl rfl (zv_c1 ht rfl rfl ?_)
  refine zv_br ht rfl rfl rfl (fun _ => ?_) (fun h => absurd (by decide) h)
  refine zv_c1 ht rfl rfl ?_
  refine zv_c2 (L' := [.ref r, .ref w, .int (Int32.ofNat k), .int (Int32.ofNat deep), .int (Int32.ofNat (b + k)), .int 97, .int 0, .retAddr 0, .retAddr 0]) ht rfl rfl ?_
  refine zv_c1 ht rfl rfl ?_
  refine zv_br ht rfl rfl rfl (fun b2 => ?_) (fun b2 => (show False from by have hq := b2; have hz : k = 0 := (zi_eqE (a := k) (b := 0) rfl rfl (by omega) (by omega)).mp (Classical.not_not.mp hq); omega).elim)
  refine zv_c1 ht rfl rfl (zv_c1 ht rfl rfl (zv_c1 ht rfl rfl ?_))
  refine zv_br ht rfl rfl rfl (fun _ => ?_) (fun h => absurd (by decide) h)
  refine zv_c1 ht rfl rfl (zv_c1 ht rfl rfl ?_)
  refine zv_br ht rfl rfl rfl (fun _ => ?_) (fun h => absurd (by decide) h)
  refine zv_c1 ht rfl rfl ?_
  refine zv_cl ht rfl rfl rfl (zv_tgv (hR.1.2.2.2.1) rfl) (by omega) (Nat.le_of_ble_eq_true rfl) (x_begins (S := S) (tp := tp) (sz := sz) (r := r) (p := (b + k)) (dp := deep) (m := 1) (dq := deep) (two := false) hF (by omega) hR (by omega) (by omega) (by omega) (by omega) rfl rfl (fun S3 nd3 hF3 e3 k3 p3 g3 b3 c3 d3 => ?_) (fun S4 q4 hF4 e4 k4 x4 g4 => ?_))
  · show zEv d 260 106 [.ref r, .ref w, .int (Int32.ofNat k), .int (Int32.ofNat deep), .int (Int32.ofNat (b + k)), .int 97, .int 0, .retAddr 0, .retAddr 0] [] S3 post
    refine zv_c1 ht rfl rfl (zv_c1 ht rfl rfl ?_)
    refine zv_ei (x := Int32.ofNat (b + k)) ht rfl rfl (zhas_of (p3.1.2.2.2.1) rfl) p3.1.1 ?_
    refine zv_c1 ht rfl rfl ?_
    refine zv_e1 (x := Int32.ofNat ((b + k) + 1)) ht rfl rfl (zi_addE (a := (b + k)) (b := 1) rfl rfl) ?_
    refine zv_ci (S' := sI S3 133 r (Int32.ofNat ((b + k) + 1))) ht rfl rfl ⟨(zhas_of (p3.1.2.2.2.1) rfl), (show r < gN S3 from by omega)⟩ ?_
    refine zv_c1 ht rfl rfl (zv_c1 ht rfl rfl (zv_c1 ht rfl rfl (zv_c1 ht rfl rfl ?_)))
    refine zv_e1 (x := Int32.ofNat (k + 1)) ht rfl rfl (zi_addE (a := k) (b := 1) rfl rfl) ?_
    refine zv_c1 ht rfl rfl (zv_c1 ht rfl rfl ?_)
    refine zv_e1 (x := Int32.ofNat (deep + 1)) ht rfl rfl (zi_addE (a := deep) (b := 1) rfl rfl) ?_
    refine zv_cl ht rfl rfl rfl (zv_tgv (p3.1.2.2.2.1) rfl) (by omega) (Nat.le_of_ble_eq_true rfl) (xEc.use (g := gN S3) (cN := gN S3 + 30 * (sz - e0) + 2 * (e0 - ((b + k) + 1))) (cZ := gZ S3 + 150 * (sz - e0) + 60 * (e0 - ((b + k) + 1))) rfl ((hIH (by omega)) (S := sI S3 133 r (Int32.ofNat ((b + k) + 1))) (r := r) hF3 (xR_at p3 (by omega)) (xWd.k hw (zKE.tr (zKE.tr zKE.rf (zKE.w k3 (show gN S ≤ gN S from by omega) (fun _ h => h) (fun _ h => h))) (zKE_sI (Or.inl (by decide))))) (by omega) (by omega)) (fun S5 a5 y5 at5 nd5 hF5 e5 k5 t5 p5 g5 c5 => ?_) (fun S6 q6 kk6 z6 hF6 e6 k6 x6 g6 => ?_))
    · show zEv d 260 127 [.ref r, .ref w, .int (Int32.ofNat k), .int (Int32.ofNat deep), .int (Int32.ofNat (b + k)), .int 97, .int 0, .retAddr 0, .retAddr 0] [.ref a5] S5 post
      refine zv_c2 (L' := [.ref r, .ref w, .int (Int32.ofNat k), .int (Int32.ofNat deep), .int (Int32.ofNat (b + k)), .int 97, .int 0, .ref a5, .retAddr 0]) ht rfl rfl ?_
      refine zv_c1 ht rfl rfl ?_
      refine zv_br ht rfl rfl rfl (fun h => absurd h (by decide)) (fun _ => ?_)
      refine zv_c1 ht rfl rfl ?_
      refine zv_ci (st' := [.ref (gN S5), .ref r]) (S' := sNew S5 11 0 (zslots 11)) ht rfl rfl (znew_ok (show 1639 ≤ gN S5 from by omega) (show gN S5 < 2000000 from by omega)) ?_
      refine zv_c1 ht rfl rfl (zv_c1 ht rfl rfl ?_)
      refine zv_g3 (q := 0) ht rfl (zFin_new hF5) rfl rfl (zhas_of (Eq.trans (ztyp_new (S := S5) (t := 11) (n := 0) (s := zslots 11) (show r ≠ gN S5 from by omega)) p5.1.2.2.2.1) rfl) (Eq.trans (gP_new (S := S5) (t := 11) (n := 0) (s := zslots 11) (show r ≠ gN S5 from by omega)) p5.1.2.2.2.2) ?_
      refine zv_c1 ht rfl rfl (zv_c1 ht rfl rfl (zv_c1 ht rfl rfl ?_))
      have C8 : ∀ (pst7 : Outcome × zS → Prop), (pst7 (.returned none, sP (sI (sI (sP (sNew S5 11 0 (zslots 11)) 162 (gN S5) (some 0)) 144 (gN S5) (Int32.ofNat (b + k))) 160 (gN S5) 97) 161 (gN S5) (some a5))) → zCall (d - 1) 295 [.ref (gN S5), .ref 0, .int (Int32.ofNat (b + k)), .int 97, .ref a5] (sNew S5 11 0 (zslots 11)) pst7 := by
        intro pst7 k14
        have ht9 : ztab 295 = ztb295 := rfl
        show zEv (d - 1) 295 0 [.ref (gN S5), .ref 0, .int (Int32.ofNat (b + k)), .int 97, .ref a5] [] (sNew S5 11 0 (zslots 11)) pst7
        refine zv_c1 ht9 rfl rfl (zv_c1 ht9 rfl rfl ?_)
        refine zv_ci (S' := sP (sNew S5 11 0 (zslots 11)) 162 (gN S5) (some 0)) ht9 rfl rfl ⟨(zhas_of (ztyp_new_at (S := S5) (t := 11) (n := 0) (s := zslots 11) (show 1639 ≤ gN S5 from by omega)) rfl), (show gN S5 < gN S5 + 1 from by omega)⟩ ?_
        refine zv_c1 ht9 rfl rfl (zv_c1 ht9 rfl rfl (zv_c1 ht9 rfl rfl ?_))
        have C11 : ∀ (pst10 : Outcome × zS → Prop), (pst10 (.returned none, sI (sP (sNew S5 11 0 (zslots 11)) 162 (gN S5) (some 0)) 144 (gN S5) (Int32.ofNat (b + k)))) → zCall ((d - 1) - 1) 280 [.ref (gN S5), .ref 0, .int (Int32.ofNat (b + k))] (sP (sNew S5 11 0 (zslots 11)) 162 (gN S5) (some 0)) pst10 := by
          intro pst10 k13
          have ht12 : ztab 280 = ztb280 := rfl
          show zEv ((d - 1) - 1) 280 0 [.ref (gN S5), .ref 0, .int (Int32.ofNat (b + k))] [] (sP (sNew S5 11 0 (zslots 11)) 162 (gN S5) (some 0)) pst10
          refine zv_c1 ht12 rfl rfl (zv_c1 ht12 rfl rfl ?_)
          refine zv_ci (S' := sP (sNew S5 11 0 (zslots 11)) 162 (gN S5) (some 0)) ht12 rfl rfl (zk5 (ztyp_new_at (S := S5) (t := 11) (n := 0) (s := zslots 11) (show 1639 ≤ gN S5 from by omega)) rfl (show gN S5 < gN S5 + 1 from by omega) rfl gP_sP_at) ?_
          refine zv_c1 ht12 rfl rfl (zv_c1 ht12 rfl rfl (zv_c1 ht12 rfl rfl (zv_c1 ht12 rfl rfl ?_)))
          refine zv_ci (S' := sI (sP (sNew S5 11 0 (zslots 11)) 162 (gN S5) (some 0)) 144 (gN S5) (Int32.ofNat (b + k))) ht12 rfl rfl ⟨(zhas_of (ztyp_new_at (S := S5) (t := 11) (n := 0) (s := zslots 11) (show 1639 ≤ gN S5 from by omega)) rfl), (show gN S5 < gN S5 + 1 from by omega)⟩ ?_
          exact zv_rt ht12 rfl rfl rfl rfl k13
        refine zv_cl ht9 rfl rfl rfl rfl (by omega) (Nat.le_of_ble_eq_true rfl) (C11 _ ?_)
        show zEv (d - 1) 295 11 [.ref (gN S5), .ref 0, .int (Int32.ofNat (b + k)), .int 97, .ref a5] [] (sI (sP (sNew S5 11 0 (zslots 11)) 162 (gN S5) (some 0)) 144 (gN S5) (Int32.ofNat (b + k))) pst7
        refine zv_c1 ht9 rfl rfl (zv_c1 ht9 rfl rfl ?_)
        refine zv_ci (S' := sI (sI (sP (sNew S5 11 0 (zslots 11)) 162 (gN S5) (some 0)) 144 (gN S5) (Int32.ofNat (b + k))) 160 (gN S5) 97) ht9 rfl rfl ⟨⟨(zhas_of (ztyp_new_at (S := S5) (t := 11) (n := 0) (s := zslots 11) (show 1639 ≤ gN S5 from by omega)) rfl), (show gN S5 < gN S5 + 1 from by omega)⟩, (by decide)⟩ ?_
        refine zv_c1 ht9 rfl rfl (zv_c1 ht9 rfl rfl ?_)
        refine zv_ci (S' := sP (sI (sI (sP (sNew S5 11 0 (zslots 11)) 162 (gN S5) (some 0)) 144 (gN S5) (Int32.ofNat (b + k))) 160 (gN S5) 97) 161 (gN S5) (some a5)) ht9 rfl rfl ⟨(zhas_of (ztyp_new_at (S := S5) (t := 11) (n := 0) (s := zslots 11) (show 1639 ≤ gN S5 from by omega)) rfl), (show gN S5 < gN S5 + 1 from by omega)⟩ ?_
        exact zv_rt ht9 rfl rfl rfl rfl k14
      refine zv_cl ht rfl rfl rfl rfl (by omega) (Nat.le_of_ble_eq_true rfl) (C8 _ ?_)
      show zEv d 260 152 [.ref r, .ref w, .int (Int32.ofNat k), .int (Int32.ofNat deep), .int (Int32.ofNat (b + k)), .int 97, .int 0, .ref a5, .retAddr 0] [.ref (gN S5), .ref r] (sP (sI (sI (sP (sNew S5 11 0 (zslots 11)) 162 (gN S5) (some 0)) 144 (gN S5) (Int32.ofNat (b + k))) 160 (gN S5) 97) 161 (gN S5) (some a5)) post
      have C16 : ∀ (pst15 : Outcome × zS → Prop), (∀ S18 : zS, (zFin true S18) → (pJ (tN 19 0 [] (b + k) [y5]) = .ok (tN 19 0 [] (b + k) [y5])) → (xJd (sP (sI (sI (sP (sNew S5 11 0 (zslots 11)) 162 (gN S5) (some 0)) 144 (gN S5) (Int32.ofNat (b + k))) 160 (gN S5) 97) 161 (gN S5) (some a5)) (gN S5) S18) → (xTl (gN S) S18 (tN 19 0 [] (b + k) [y5]) (gN S5)) → (xR tp sz S18 r at5 nd5) → (gN S18 = gN S5 + 1 ∧ gZ S18 = gZ S5 + 19) → pst15 (.returned (some (.ref (gN S5))), S18)) → (∀ S19 : zS, ∀ q19 : Nat, (zFin true S19) → (pJ (tN 19 0 [] (b + k) [y5]) = .error (3, (b + k))) → (xFn (sP (sI (sI (sP (sNew S5 11 0 (zslots 11)) 162 (gN S5) (some 0)) 144 (gN S5) (Int32.ofNat (b + k))) 160 (gN S5) 97) 161 (gN S5) (some a5)) (gN S5) S19) → (xFl S19 q19 3 (b + k)) → (gN S19 = gN S5 + 1 + 1 ∧ gZ S19 ≤ gZ S5 + 19 + 3) → pst15 (.threw q19, S19)) → zCall (d - 1) 253 [.ref r, .ref (gN S5)] (sP (sI (sI (sP (sNew S5 11 0 (zslots 11)) 162 (gN S5) (some 0)) 144 (gN S5) (Int32.ofNat (b + k))) 160 (gN S5) 97) 161 (gN S5) (some a5)) pst15 := by
        intro pst15 k20 k21
        have ht17 : ztab 253 = ztb253 := rfl
        show zEv (d - 1) 253 0 [.ref r, .ref (gN S5)] [] (sP (sI (sI (sP (sNew S5 11 0 (zslots 11)) 162 (gN S5) (some 0)) 144 (gN S5) (Int32.ofNat (b + k))) 160 (gN S5) 97) 161 (gN S5) (some a5)) pst15
        refine zv_c1 ht17 rfl rfl ?_
        refine zv_cl ht17 rfl rfl rfl (zv_tgm (ztyp_new_at (S := S5) (t := 11) (n := 0) (s := zslots 11) (show 1639 ≤ gN S5 from by omega)) rfl) (by omega) (Nat.le_of_ble_eq_true rfl) (x_judgeR (S := sP (sI (sI (sP (sNew S5 11 0 (zslots 11)) 162 (gN S5) (some 0)) 144 (gN S5) (Int32.ofNat (b + k))) 160 (gN S5) 97) 161 (gN S5) (some a5)) (tp := tp) (sz := sz) (r := r) (a := gN S5) (k := 19) (v := 0) (p := (b + k)) (ks := []) (js := [a5]) (cs := [y5]) (g := gN S5 + 1) (lo := gN S) (zFin_sP (zFin_sP (zFin_new hF5) rfl) rfl) (by omega) (by omega) (by omega) (by omega) (by omega) rfl (xOwn_W (by decide) (ztyp_new_at (S := S5) (t := 11) (n := 0) (s := zslots 11) (show 1639 ≤ gN S5 from by omega)) (gI_sI_at) (gP_sP_at)) ⟨a5, _, rfl, (xTl.ch t5 (zKE.tr (zKE.tr (zKE.tr (zKE.tr (zKE.tr zKE.rf (zKE_new (show gN S5 ≤ gN S5 ∧ gN S5 < zLB from ⟨by omega, by have hLB : zLB = 4294967296 := rfl; omega⟩))) (zKE_sP (Or.inr (Or.inr ⟨by omega, by have hLB : zLB = 4294967296 := rfl; omega⟩)))) (zKE_sI (Or.inr (Or.inr ⟨by omega, by have hLB : zLB = 4294967296 := rfl; omega⟩)))) (zKE_sI (Or.inr (Or.inr ⟨by omega, by have hLB : zLB = 4294967296 := rfl; omega⟩)))) (zKE_sP (Or.inr (Or.inr ⟨by omega, by have hLB : zLB = 4294967296 := rfl; omega⟩)))) (by omega) (by intro j h1 h2; omega)), rfl⟩ (by decide) (by omega) (gI_sI_at) (gI_new_at (S := S5) (t := 11) (n := 0) (s := zslots 11)) (gI_new_at (S := S5) (t := 11) (n := 0) (s := zslots 11)) (xR.ke (Fs := []) p5 (zKE.tr (zKE.tr (zKE.tr (zKE.tr (zKE.tr zKE.rf (zKE_new (show gN S5 ≤ gN S5 ∧ gN S5 < zLB from ⟨by omega, by have hLB : zLB = 4294967296 := rfl; omega⟩))) (zKE_sP (Or.inr (Or.inr ⟨by omega, by have hLB : zLB = 4294967296 := rfl; omega⟩)))) (zKE_sI (Or.inr (Or.inr ⟨by omega, by have hLB : zLB = 4294967296 := rfl; omega⟩)))) (zKE_sI (Or.inr (Or.inr ⟨by omega, by have hLB : zLB = 4294967296 := rfl; omega⟩)))) (zKE_sP (Or.inr (Or.inr ⟨by omega, by have hLB : zLB = 4294967296 := rfl; omega⟩)))) (by omega) (by decide)) (by omega) (fun S18 hF18 e18 j18 t18 p18 g18 => ?_) (fun S19 q19 hF19 e19 k19 x19 g19 => ?_))
        · show zEv (d - 1) 253 4 [.ref r, .ref (gN S5)] [] S18 pst15
          refine zv_c1 ht17 rfl rfl ?_
          exact zv_rt ht17 rfl rfl rfl rfl (k20 S18 hF18 e18 j18 t18 p18 g18)
        · exact (k21 S19 q19 hF19 e19 k19 x19 g19)
      refine zv_cl ht rfl rfl rfl (zv_tgv (Eq.trans (ztyp_new (S := S5) (t := 11) (n := 0) (s := zslots 11) (show r ≠ gN S5 from by omega)) p5.1.2.2.2.1) rfl) (by omega) (Nat.le_of_ble_eq_true rfl) (C16 _ (fun S18 hF18 e18 j18 t18 p18 g18 => ?_) (fun S19 q19 hF19 e19 k19 x19 g19 => ?_))
      · show zEv d 260 155 [.ref r, .ref w, .int (Int32.ofNat k), .int (Int32.ofNat deep), .int (Int32.ofNat (b + k)), .int 97, .int 0, .ref a5, .retAddr 0] [.ref (gN S5)] S18 post
        exact zv_rt ht rfl rfl rfl rfl (h1 S3 nd3 hF3 e3 k3 p3 g3 b3 c3 d3 S5 a5 y5 at5 nd5 hF5 e5 k5 t5 p5 g5 c5 S18 hF18 e18 j18 t18 p18 g18)
      · exact (h2 S3 nd3 hF3 e3 k3 p3 g3 b3 c3 d3 S5 a5 y5 at5 nd5 hF5 e5 k5 t5 p5 g5 c5 S19 q19 hF19 e19 k19 x19 g19)
    · exact (h3 S3 nd3 hF3 e3 k3 p3 g3 b3 c3 d3 S6 q6 kk6 z6 hF6 e6 k6 x6 g6)
  · exact (h4 S4 q4 hF4 e4 k4 x4 g4)

theorem wrP115 {d : Nat} {S : zS} (hF : zFin true S) (hd : 5 ≤ d) {tp : Nat → Nat} {sz at0 nd r : Nat} {rec : Nat → Nat → Nat → pE (zNd × Nat × Nat)} {K n : Nat} {w : Nat} (b e0 wl k deep : Nat) (hR : xR tp sz S r (b + k) nd) (hs0 : sz ≤ 300) (ha0 : (b + k) ≤ sz) (hr1 : 1639 ≤ r) (hr2 : r < gN S) (hN : gN S + 30 * (sz - (b + k)) ≤ 1700000) (hdp : deep < 1000) (hnd : nd ≤ 80) (hw : xWd S w (pWl tp b e0)) (hwN : w < gN S) (hwl : (pWl tp b e0).length = wl) (hel : e0 = b + wl) (hes : e0 < sz) (hk0 : 0 < k) (hk : k < wl) (hcc : (pWl tp b e0).getD k 0 = 115) (hIH : deep ≤ 24 → xWr tp sz (d - 1) w b e0 rec n (k + 1) (deep + 1)) {post : Outcome × zS → Prop} (h1 : ∀ S3 : zS, ∀ nd3 : Nat, (zFin true S3) → (pRead (b + k) deep nd false = .ok nd3) → (xFr S S3) → (xR tp sz S3 r (b + k) nd3) → (gN S ≤ gN S3 ∧ gN S3 ≤ gN S + 0 ∧ gZ S3 ≤ gZ S + 0) → ((b + k) ≤ sz) → (nd3 ≤ 80) → (deep ≤ 24) → ∀ S5 : zS, ∀ a5 : Nat, ∀ y5 : zNd, ∀ at5 : Nat, ∀ nd5 : Nat, (zFin true S5) → (pWx tp sz rec n ((b + k) + 1) (deep + 1) e0 nd3 = .ok (y5, at5, nd5)) → (xFr (sI S3 133 r (Int32.ofNat ((b + k) + 1))) S5) → (xTl (gN S3) S5 y5 a5) → (xR tp sz S5 r at5 nd5) → (gN S3 ≤ gN S5 ∧ gN S5 + 30 * (sz - at5) ≤ gN S3 + 30 * (sz - e0) + 2 * (e0 - ((b + k) + 1)) ∧ gZ S5 + 150 * (sz - at5) ≤ gZ S3 + 150 * (sz - e0) + 60 * (e0 - ((b + k) + 1))) → (at5 ≤ sz ∧ gN S3 ≤ a5 ∧ a5 < gN S5) → ∀ S18 : zS, (zFin true S18) → (pJ (tN 20 0 [] (b + k) [y5]) = .ok (tN 20 0 [] (b + k) [y5])) → (xJd (sP (sI (sI (sP (sNew S5 11 0 (zslots 11)) 162 (gN S5) (some 0)) 144 (gN S5) (Int32.ofNat (b + k))) 160 (gN S5) 115) 161 (gN S5) (some a5)) (gN S5) S18) → (xTl (gN S) S18 (tN 20 0 [] (b + k) [y5]) (gN S5)) → (xR tp sz S18 r at5 nd5) → (gN S18 = gN S5 + 1 ∧ gZ S18 = gZ S5 + 19) → post (.returned (some (.ref (gN S5))), S18)) (h2 : ∀ S3 : zS, ∀ nd3 : Nat, (zFin true S3) → (pRead (b + k) deep nd false = .ok nd3) → (xFr S S3) → (xR tp sz S3 r (b + k) nd3) → (gN S ≤ gN S3 ∧ gN S3 ≤ gN S + 0 ∧ gZ S3 ≤ gZ S + 0) → ((b + k) ≤ sz) → (nd3 ≤ 80) → (deep ≤ 24) → ∀ S5 : zS, ∀ a5 : Nat, ∀ y5 : zNd, ∀ at5 : Nat, ∀ nd5 : Nat, (zFin true S5) → (pWx tp sz rec n ((b + k) + 1) (deep + 1) e0 nd3 = .ok (y5, at5, nd5)) → (xFr (sI S3 133 r (Int32.ofNat ((b + k) + 1))) S5) → (xTl (gN S3) S5 y5 a5) → (xR tp sz S5 r at5 nd5) → (gN S3 ≤ gN S5 ∧ gN S5 + 30 * (sz - at5) ≤ gN S3 + 30 * (sz - e0) + 2 * (e0 - ((b + k) + 1)) ∧ gZ S5 + 150 * (sz - at5) ≤ gZ S3 + 150 * (sz - e0) + 60 * (e0 - ((b + k) + 1))) → (at5 ≤ sz ∧ gN S3 ≤ a5 ∧ a5 < gN S5) → ∀ S19 : zS, ∀ q19 : Nat, (zFin true S19) → (pJ (tN 20 0 [] (b + k) [y5]) = .error (3, (b + k))) → (xFn (sP (sI (sI (sP (sNew S5 11 0 (zslots 11)) 162 (gN S5) (some 0)) 144 (gN S5) (Int32.ofNat (b + k))) 160 (gN S5) 115) 161 (gN S5) (some a5)) (gN S5) S19) → (xFl S19 q19 3 (b + k)) → (gN S19 = gN S5 + 1 + 1 ∧ gZ S19 ≤ gZ S5 + 19 + 3) → post (.threw q19, S19)) (h3 : ∀ S3 : zS, ∀ nd3 : Nat, (zFin true S3) → (pRead (b + k) deep nd false = .ok nd3) → (xFr S S3) → (xR tp sz S3 r (b + k) nd3) → (gN S ≤ gN S3 ∧ gN S3 ≤ gN S + 0 ∧ gZ S3 ≤ gZ S + 0) → ((b + k) ≤ sz) → (nd3 ≤ 80) → (deep ≤ 24) → ∀ S6 : zS, ∀ q6 : Nat, ∀ kk6 : Nat, ∀ z6 : Nat, (zFin true S6) → (pWx tp sz rec n ((b + k) + 1) (deep + 1) e0 nd3 = .error (kk6, z6)) → (xFr (sI S3 133 r (Int32.ofNat ((b + k) + 1))) S6) → (xFl S6 q6 kk6 z6) → (gN S3 ≤ gN S6 ∧ gN S6 ≤ gN S3 + 30 * (sz - e0) + 2 * (e0 - ((b + k) + 1)) + 60 ∧ gZ S6 ≤ gZ S3 + 150 * (sz - e0) + 60 * (e0 - ((b + k) + 1)) + 2000) → post (.threw q6, S6)) (h4 : ∀ S4 : zS, ∀ q4 : Nat, (zFin true S4) → (pRead (b + k) deep nd false = .error (2, (b + k))) → (xFr S S4) → (xFl S4 q4 2 (b + k)) → (gN S ≤ gN S4 ∧ gN S4 ≤ gN S + 1 ∧ gZ S4 ≤ gZ S + 3) → post (.threw q4, S4)) : zCall d 260 [.ref r, .ref w, .int (Int32.ofNat k), .int (Int32.ofNat deep)] S post := by
  have ht : ztab 260 = ztb260 := rfl
  show zEv d 260 0 [.ref r, .ref w, .int (Int32.ofNat k), .int (Int32.ofNat deep), .retAddr 0, .retAddr 0, .retAddr 0, .retAddr 0, .retAddr 0] [] S post
  refine zv_c1 ht rfl rfl ?_
  refine zv_ei (x := Int32.ofNat (b + k)) ht rfl rfl (zhas_of (hR.1.2.2.2.1) rfl) hR.1.1 ?_
  refine zv_c2 (L' := [.ref r, .ref w, .int (Int32.ofNat k), .int (Int32.ofNat deep), .int (Int32.ofNat (b + k)), .retAddr 0, .retAddr 0, .retAddr 0, .retAddr 0]) ht rfl rfl ?_
  refine zv_c1 ht rfl rfl (zv_c1 ht rfl rfl ?_)
  refine zv_cl ht rfl rfl rfl (zv_tgv ((zStr.t hw.1)) rfl) (by omega) (Nat.le_of_ble_eq_true rfl) (x_len (S := S) hF (by omega) hw.1 (n := wl) hwl ?_)
  show zEv d 260 11 [.ref r, .ref w, .int (Int32.ofNat k), .int (Int32.ofNat deep), .int (Int32.ofNat (b + k)), .retAddr 0, .retAddr 0, .retAddr 0, .retAddr 0] [.int (Int32.ofNat wl), .int (Int32.ofNat k)] S post
  refine zv_br ht rfl rfl rfl (fun b1 => ?_) (fun b1 => (show False from by have hq := b1; have hz : k = wl := (zi_eqE (a := k) (b := wl) rfl rfl (by omega) (by omega)).mp (Classical.not_not.mp hq); omega).elim)
  refine zv_c1 ht rfl rfl (zv_c1 ht rfl rfl ?_)
  refine zv_cl ht rfl rfl rfl (zv_tgv ((zStr.t hw.1)) rfl) (by omega) (Nat.le_of_ble_eq_true rfl) (x_char (S := S) hF (by omega) hw.1 (i := k) (by omega) (c := 115) hcc ?_)
  show zEv d 260 39 [.ref r, .ref w, .int (Int32.ofNat k), .int (Int32.ofNat deep), .int (Int32.ofNat (b + k)), .retAddr 0, .retAddr 0, .retAddr 0, .retAddr 0] [.int 115] S post
  refine zv_c2 (L' := [.ref r, .ref w, .int (Int32.ofNat k), .int (Int32.ofNat deep), .int (Int32.ofNat (b + k)), .int 115, .retAddr 0, .retAddr 0, .retAddr 0]) ht rfl rfl ?_
  refine zv_c1 ht rfl rfl (zv_c1 ht rfl rfl ?_)
  refine zv_br ht rfl rfl rfl (fun h => absurd h (by decide)) (fun _ => ?_)
  refine zv_c1 ht rfl rfl (zv_c1 ht rfl rfl ?_)
  refine zv_br ht rfl rfl rfl (fun h => absurd h (by decide)) (fun _ => ?_)
  refine zv_c1 ht rfl rfl (zv_c1 ht rfl rfl ?_)
  refine zv_br ht rfl rfl rfl (fun _ => ?_) (fun h => absurd (by decide) h)
  refine zv_c1 ht rfl rfl ?_
  refine zv_c2 (L' := [.ref r, .ref w, .int (Int32.ofNat k), .int (Int32.ofNat deep), .int (Int32.ofNat (b + k)), .int 115, .int 0, .retAddr 0, .retAddr 0]) ht rfl rfl ?_
  refine zv_c1 ht rfl rfl ?_
  refine zv_br ht rfl rfl rfl (fun b2 => ?_) (fun b2 => (show False from by have hq := b2; have hz : k = 0 := (zi_eqE (a := k) (b := 0) rfl rfl (by omega) (by omega)).mp (Classical.not_not.mp hq); omega).elim)
  refine zv_c1 ht rfl rfl (zv_c1 ht rfl rfl (zv_c1 ht rfl rfl ?_))
  refine zv_br ht rfl rfl rfl (fun _ => ?_) (fun h => absurd (by decide) h)
  refine zv_c1 ht rfl rfl (zv_c1 ht rfl rfl ?_)
  refine zv_br ht rfl rfl rfl (fun _ => ?_) (fun h => absurd (by decide) h)
  refine zv_c1 ht rfl rfl ?_
  refine zv_cl ht rfl rfl rfl (zv_tgv (hR.1.2.2.2.1) rfl) (by omega) (Nat.le_of_ble_eq_true rfl) (x_begins (S := S) (tp := tp) (sz := sz) (r := r) (p := (b + k)) (dp := deep) (m := 1) (dq := deep) (two := false) hF (by omega) hR (by omega) (by omega) (by omega) (by omega) rfl rfl (fun S3 nd3 hF3 e3 k3 p3 g3 b3 c3 d3 => ?_) (fun S4 q4 hF4 e4 k4 x4 g4 => ?_))
  · show zEv d 260 106 [.ref r, .ref w, .int (Int32.ofNat k), .int (Int32.ofNat deep), .int (Int32.ofNat (b + k)), .int 115, .int 0, .retAddr 0, .retAddr 0] [] S3 post
    refine zv_c1 ht rfl rfl (zv_c1 ht rfl rfl ?_)
    refine zv_ei (x := Int32.ofNat (b + k)) ht rfl rfl (zhas_of (p3.1.2.2.2.1) rfl) p3.1.1 ?_
    refine zv_c1 ht rfl rfl ?_
    refine zv_e1 (x := Int32.ofNat ((b + k) + 1)) ht rfl rfl (zi_addE (a := (b + k)) (b := 1) rfl rfl) ?_
    refine zv_ci (S' := sI S3 133 r (Int32.ofNat ((b + k) + 1))) ht rfl rfl ⟨(zhas_of (p3.1.2.2.2.1) rfl), (show r < gN S3 from by omega)⟩ ?_
    refine zv_c1 ht rfl rfl (zv_c1 ht rfl rfl (zv_c1 ht rfl rfl (zv_c1 ht rfl rfl ?_)))
    refine zv_e1 (x := Int32.ofNat (k + 1)) ht rfl rfl (zi_addE (a := k) (b := 1) rfl rfl) ?_
    refine zv_c1 ht rfl rfl (zv_c1 ht rfl rfl ?_)
    refine zv_e1 (x := Int32.ofNat (deep + 1)) ht rfl rfl (zi_addE (a := deep) (b := 1) rfl rfl) ?_
    refine zv_cl ht rfl rfl rfl (zv_tgv (p3.1.2.2.2.1) rfl) (by omega) (Nat.le_of_ble_eq_true rfl) (xEc.use (g := gN S3) (cN := gN S3 + 30 * (sz - e0) + 2 * (e0 - ((b + k) + 1))) (cZ := gZ S3 + 150 * (sz - e0) + 60 * (e0 - ((b + k) + 1))) rfl ((hIH (by omega)) (S := sI S3 133 r (Int32.ofNat ((b + k) + 1))) (r := r) hF3 (xR_at p3 (by omega)) (xWd.k hw (zKE.tr (zKE.tr zKE.rf (zKE.w k3 (show gN S ≤ gN S from by omega) (fun _ h => h) (fun _ h => h))) (zKE_sI (Or.inl (by decide))))) (by omega) (by omega)) (fun S5 a5 y5 at5 nd5 hF5 e5 k5 t5 p5 g5 c5 => ?_) (fun S6 q6 kk6 z6 hF6 e6 k6 x6 g6 => ?_))
    · show zEv d 260 127 [.ref r, .ref w, .int (Int32.ofNat k), .int (Int32.ofNat deep), .int (Int32.ofNat (b + k)), .int 115, .int 0, .retAddr 0, .retAddr 0] [.ref a5] S5 post
      refine zv_c2 (L' := [.ref r, .ref w, .int (Int32.ofNat k), .int (Int32.ofNat deep), .int (Int32.ofNat (b + k)), .int 115, .int 0, .ref a5, .retAddr 0]) ht rfl rfl ?_
      refine zv_c1 ht rfl rfl ?_
      refine zv_br ht rfl rfl rfl (fun h => absurd h (by decide)) (fun _ => ?_)
      refine zv_c1 ht rfl rfl ?_
      refine zv_ci (st' := [.ref (gN S5), .ref r]) (S' := sNew S5 11 0 (zslots 11)) ht rfl rfl (znew_ok (show 1639 ≤ gN S5 from by omega) (show gN S5 < 2000000 from by omega)) ?_
      refine zv_c1 ht rfl rfl (zv_c1 ht rfl rfl ?_)
      refine zv_g3 (q := 0) ht rfl (zFin_new hF5) rfl rfl (zhas_of (Eq.trans (ztyp_new (S := S5) (t := 11) (n := 0) (s := zslots 11) (show r ≠ gN S5 from by omega)) p5.1.2.2.2.1) rfl) (Eq.trans (gP_new (S := S5) (t := 11) (n := 0) (s := zslots 11) (show r ≠ gN S5 from by omega)) p5.1.2.2.2.2) ?_
      refine zv_c1 ht rfl rfl (zv_c1 ht rfl rfl (zv_c1 ht rfl rfl ?_))
      have C8 : ∀ (pst7 : Outcome × zS → Prop), (pst7 (.returned none, sP (sI (sI (sP (sNew S5 11 0 (zslots 11)) 162 (gN S5) (some 0)) 144 (gN S5) (Int32.ofNat (b + k))) 160 (gN S5) 115) 161 (gN S5) (some a5))) → zCall (d - 1) 295 [.ref (gN S5), .ref 0, .int (Int32.ofNat (b + k)), .int 115, .ref a5] (sNew S5 11 0 (zslots 11)) pst7 := by
        intro pst7 k14
        have ht9 : ztab 295 = ztb295 := rfl
        show zEv (d - 1) 295 0 [.ref (gN S5), .ref 0, .int (Int32.ofNat (b + k)), .int 115, .ref a5] [] (sNew S5 11 0 (zslots 11)) pst7
        refine zv_c1 ht9 rfl rfl (zv_c1 ht9 rfl rfl ?_)
        refine zv_ci (S' := sP (sNew S5 11 0 (zslots 11)) 162 (gN S5) (some 0)) ht9 rfl rfl ⟨(zhas_of (ztyp_new_at (S := S5) (t := 11) (n := 0) (s := zslots 11) (show 1639 ≤ gN S5 from by omega)) rfl), (show gN S5 < gN S5 + 1 from by omega)⟩ ?_
        refine zv_c1 ht9 rfl rfl (zv_c1 ht9 rfl rfl (zv_c1 ht9 rfl rfl ?_))
        have C11 : ∀ (pst10 : Outcome × zS → Prop), (pst10 (.returned none, sI (sP (sNew S5 11 0 (zslots 11)) 162 (gN S5) (some 0)) 144 (gN S5) (Int32.ofNat (b + k)))) → zCall ((d - 1) - 1) 280 [.ref (gN S5), .ref 0, .int (Int32.ofNat (b + k))] (sP (sNew S5 11 0 (zslots 11)) 162 (gN S5) (some 0)) pst10 := by
          intro pst10 k13
          have ht12 : ztab 280 = ztb280 := rfl
          show zEv ((d - 1) - 1) 280 0 [.ref (gN S5), .ref 0, .int (Int32.ofNat (b + k))] [] (sP (sNew S5 11 0 (zslots 11)) 162 (gN S5) (some 0)) pst10
          refine zv_c1 ht12 rfl rfl (zv_c1 ht12 rfl rfl ?_)
          refine zv_ci (S' := sP (sNew S5 11 0 (zslots 11)) 162 (gN S5) (some 0)) ht12 rfl rfl (zk5 (ztyp_new_at (S := S5) (t := 11) (n := 0) (s := zslots 11) (show 1639 ≤ gN S5 from by omega)) rfl (show gN S5 < gN S5 + 1 from by omega) rfl gP_sP_at) ?_
          refine zv_c1 ht12 rfl rfl (zv_c1 ht12 rfl rfl (zv_c1 ht12 rfl rfl (zv_c1 ht12 rfl rfl ?_)))
          refine zv_ci (S' := sI (sP (sNew S5 11 0 (zslots 11)) 162 (gN S5) (some 0)) 144 (gN S5) (Int32.ofNat (b + k))) ht12 rfl rfl ⟨(zhas_of (ztyp_new_at (S := S5) (t := 11) (n := 0) (s := zslots 11) (show 1639 ≤ gN S5 from by omega)) rfl), (show gN S5 < gN S5 + 1 from by omega)⟩ ?_
          exact zv_rt ht12 rfl rfl rfl rfl k13
        refine zv_cl ht9 rfl rfl rfl rfl (by omega) (Nat.le_of_ble_eq_true rfl) (C11 _ ?_)
        show zEv (d - 1) 295 11 [.ref (gN S5), .ref 0, .int (Int32.ofNat (b + k)), .int 115, .ref a5] [] (sI (sP (sNew S5 11 0 (zslots 11)) 162 (gN S5) (some 0)) 144 (gN S5) (Int32.ofNat (b + k))) pst7
        refine zv_c1 ht9 rfl rfl (zv_c1 ht9 rfl rfl ?_)
        refine zv_ci (S' := sI (sI (sP (sNew S5 11 0 (zslots 11)) 162 (gN S5) (some 0)) 144 (gN S5) (Int32.ofNat (b + k))) 160 (gN S5) 115) ht9 rfl rfl ⟨⟨(zhas_of (ztyp_new_at (S := S5) (t := 11) (n := 0) (s := zslots 11) (show 1639 ≤ gN S5 from by omega)) rfl), (show gN S5 < gN S5 + 1 from by omega)⟩, (by decide)⟩ ?_
        refine zv_c1 ht9 rfl rfl (zv_c1 ht9 rfl rfl ?_)
        refine zv_ci (S' := sP (sI (sI (sP (sNew S5 11 0 (zslots 11)) 162 (gN S5) (some 0)) 144 (gN S5) (Int32.ofNat (b + k))) 160 (gN S5) 115) 161 (gN S5) (some a5)) ht9 rfl rfl ⟨(zhas_of (ztyp_new_at (S := S5) (t := 11) (n := 0) (s := zslots 11) (show 1639 ≤ gN S5 from by omega)) rfl), (show gN S5 < gN S5 + 1 from by omega)⟩ ?_
        exact zv_rt ht9 rfl rfl rfl rfl k14
      refine zv_cl ht rfl rfl rfl rfl (by omega) (Nat.le_of_ble_eq_true rfl) (C8 _ ?_)
      show zEv d 260 152 [.ref r, .ref w, .int (Int32.ofNat k), .int (Int32.ofNat deep), .int (Int32.ofNat (b + k)), .int 115, .int 0, .ref a5, .retAddr 0] [.ref (gN S5), .ref r] (sP (sI (sI (sP (sNew S5 11 0 (zslots 11)) 162 (gN S5) (some 0)) 144 (gN S5) (Int32.ofNat (b + k))) 160 (gN S5) 115) 161 (gN S5) (some a5)) post
      have C16 : ∀ (pst15 : Outcome × zS → Prop), (∀ S18 : zS, (zFin true S18) → (pJ (tN 20 0 [] (b + k) [y5]) = .ok (tN 20 0 [] (b + k) [y5])) → (xJd (sP (sI (sI (sP (sNew S5 11 0 (zslots 11)) 162 (gN S5) (some 0)) 144 (gN S5) (Int32.ofNat (b + k))) 160 (gN S5) 115) 161 (gN S5) (some a5)) (gN S5) S18) → (xTl (gN S) S18 (tN 20 0 [] (b + k) [y5]) (gN S5)) → (xR tp sz S18 r at5 nd5) → (gN S18 = gN S5 + 1 ∧ gZ S18 = gZ S5 + 19) → pst15 (.returned (some (.ref (gN S5))), S18)) → (∀ S19 : zS, ∀ q19 : Nat, (zFin true S19) → (pJ (tN 20 0 [] (b + k) [y5]) = .error (3, (b + k))) → (xFn (sP (sI (sI (sP (sNew S5 11 0 (zslots 11)) 162 (gN S5) (some 0)) 144 (gN S5) (Int32.ofNat (b + k))) 160 (gN S5) 115) 161 (gN S5) (some a5)) (gN S5) S19) → (xFl S19 q19 3 (b + k)) → (gN S19 = gN S5 + 1 + 1 ∧ gZ S19 ≤ gZ S5 + 19 + 3) → pst15 (.threw q19, S19)) → zCall (d - 1) 253 [.ref r, .ref (gN S5)] (sP (sI (sI (sP (sNew S5 11 0 (zslots 11)) 162 (gN S5) (some 0)) 144 (gN S5) (Int32.ofNat (b + k))) 160 (gN S5) 115) 161 (gN S5) (some a5)) pst15 := by
        intro pst15 k20 k21
        have ht17 : ztab 253 = ztb253 := rfl
        show zEv (d - 1) 253 0 [.ref r, .ref (gN S5)] [] (sP (sI (sI (sP (sNew S5 11 0 (zslots 11)) 162 (gN S5) (some 0)) 144 (gN S5) (Int32.ofNat (b + k))) 160 (gN S5) 115) 161 (gN S5) (some a5)) pst15
        refine zv_c1 ht17 rfl rfl ?_
        refine zv_cl ht17 rfl rfl rfl (zv_tgm (ztyp_new_at (S := S5) (t := 11) (n := 0) (s := zslots 11) (show 1639 ≤ gN S5 from by omega)) rfl) (by omega) (Nat.le_of_ble_eq_true rfl) (x_judgeR (S := sP (sI (sI (sP (sNew S5 11 0 (zslots 11)) 162 (gN S5) (some 0)) 144 (gN S5) (Int32.ofNat (b + k))) 160 (gN S5) 115) 161 (gN S5) (some a5)) (tp := tp) (sz := sz) (r := r) (a := gN S5) (k := 20) (v := 0) (p := (b + k)) (ks := []) (js := [a5]) (cs := [y5]) (g := gN S5 + 1) (lo := gN S) (zFin_sP (zFin_sP (zFin_new hF5) rfl) rfl) (by omega) (by omega) (by omega) (by omega) (by omega) rfl (xOwn_W (by decide) (ztyp_new_at (S := S5) (t := 11) (n := 0) (s := zslots 11) (show 1639 ≤ gN S5 from by omega)) (gI_sI_at) (gP_sP_at)) ⟨a5, _, rfl, (xTl.ch t5 (zKE.tr (zKE.tr (zKE.tr (zKE.tr (zKE.tr zKE.rf (zKE_new (show gN S5 ≤ gN S5 ∧ gN S5 < zLB from ⟨by omega, by have hLB : zLB = 4294967296 := rfl; omega⟩))) (zKE_sP (Or.inr (Or.inr ⟨by omega, by have hLB : zLB = 4294967296 := rfl; omega⟩)))) (zKE_sI (Or.inr (Or.inr ⟨by omega, by have hLB : zLB = 4294967296 := rfl; omega⟩)))) (zKE_sI (Or.inr (Or.inr ⟨by omega, by have hLB : zLB = 4294967296 := rfl; omega⟩)))) (zKE_sP (Or.inr (Or.inr ⟨by omega, by have hLB : zLB = 4294967296 := rfl; omega⟩)))) (by omega) (by intro j h1 h2; omega)), rfl⟩ (by decide) (by omega) (gI_sI_at) (gI_new_at (S := S5) (t := 11) (n := 0) (s := zslots 11)) (gI_new_at (S := S5) (t := 11) (n := 0) (s := zslots 11)) (xR.ke (Fs := []) p5 (zKE.tr (zKE.tr (zKE.tr (zKE.tr (zKE.tr zKE.rf (zKE_new (show gN S5 ≤ gN S5 ∧ gN S5 < zLB from ⟨by omega, by have hLB : zLB = 4294967296 := rfl; omega⟩))) (zKE_sP (Or.inr (Or.inr ⟨by omega, by have hLB : zLB = 4294967296 := rfl; omega⟩)))) (zKE_sI (Or.inr (Or.inr ⟨by omega, by have hLB : zLB = 4294967296 := rfl; omega⟩)))) (zKE_sI (Or.inr (Or.inr ⟨by omega, by have hLB : zLB = 4294967296 := rfl; omega⟩)))) (zKE_sP (Or.inr (Or.inr ⟨by omega, by have hLB : zLB = 4294967296 := rfl; omega⟩)))) (by omega) (by decide)) (by omega) (fun S18 hF18 e18 j18 t18 p18 g18 => ?_) (fun S19 q19 hF19 e19 k19 x19 g19 => ?_))
        · show zEv (d - 1) 253 4 [.ref r, .ref (gN S5)] [] S18 pst15
          refine zv_c1 ht17 rfl rfl ?_
          exact zv_rt ht17 rfl rfl rfl rfl (k20 S18 hF18 e18 j18 t18 p18 g18)
        · exact (k21 S19 q19 hF19 e19 k19 x19 g19)
      refine zv_cl ht rfl rfl rfl (zv_tgv (Eq.trans (ztyp_new (S := S5) (t := 11) (n := 0) (s := zslots 11) (show r ≠ gN S5 from by omega)) p5.1.2.2.2.1) rfl) (by omega) (Nat.le_of_ble_eq_true rfl) (C16 _ (fun S18 hF18 e18 j18 t18 p18 g18 => ?_) (fun S19 q19 hF19 e19 k19 x19 g19 => ?_))
      · show zEv d 260 155 [.ref r, .ref w, .int (Int32.ofNat k), .int (Int32.ofNat deep), .int (Int32.ofNat (b + k)), .int 115, .int 0, .ref a5, .retAddr 0] [.ref (gN S5)] S18 post
        exact zv_rt ht rfl rfl rfl rfl (h1 S3 nd3 hF3 e3 k3 p3 g3 b3 c3 d3 S5 a5 y5 at5 nd5 hF5 e5 k5 t5 p5 g5 c5 S18 hF18 e18 j18 t18 p18 g18)
      · exact (h2 S3 nd3 hF3 e3 k3 p3 g3 b3 c3 d3 S5 a5 y5 at5 nd5 hF5 e5 k5 t5 p5 g5 c5 S19 q19 hF19 e19 k19 x19 g19)
    · exact (h3 S3 nd3 hF3 e3 k3 p3 g3 b3 c3 d3 S6 q6 kk6 z6 hF6 e6 k6 x6 g6)
  · exact (h4 S4 q4 hF4 e4 k4 x4 g4)

theorem wrP99 {d : Nat} {S : zS} (hF : zFin true S) (hd : 5 ≤ d) {tp : Nat → Nat} {sz at0 nd r : Nat} {rec : Nat → Nat → Nat → pE (zNd × Nat × Nat)} {K n : Nat} {w : Nat} (b e0 wl k deep : Nat) (hR : xR tp sz S r (b + k) nd) (hs0 : sz ≤ 300) (ha0 : (b + k) ≤ sz) (hr1 : 1639 ≤ r) (hr2 : r < gN S) (hN : gN S + 30 * (sz - (b + k)) ≤ 1700000) (hdp : deep < 1000) (hnd : nd ≤ 80) (hw : xWd S w (pWl tp b e0)) (hwN : w < gN S) (hwl : (pWl tp b e0).length = wl) (hel : e0 = b + wl) (hes : e0 < sz) (hk0 : 0 < k) (hk : k < wl) (hcc : (pWl tp b e0).getD k 0 = 99) (hIH : deep ≤ 24 → xWr tp sz (d - 1) w b e0 rec n (k + 1) (deep + 1)) {post : Outcome × zS → Prop} (h1 : ∀ S3 : zS, ∀ nd3 : Nat, (zFin true S3) → (pRead (b + k) deep nd false = .ok nd3) → (xFr S S3) → (xR tp sz S3 r (b + k) nd3) → (gN S ≤ gN S3 ∧ gN S3 ≤ gN S + 0 ∧ gZ S3 ≤ gZ S + 0) → ((b + k) ≤ sz) → (nd3 ≤ 80) → (deep ≤ 24) → ∀ S5 : zS, ∀ a5 : Nat, ∀ y5 : zNd, ∀ at5 : Nat, ∀ nd5 : Nat, (zFin true S5) → (pWx tp sz rec n ((b + k) + 1) (deep + 1) e0 nd3 = .ok (y5, at5, nd5)) → (xFr (sI S3 133 r (Int32.ofNat ((b + k) + 1))) S5) → (xTl (gN S3) S5 y5 a5) → (xR tp sz S5 r at5 nd5) → (gN S3 ≤ gN S5 ∧ gN S5 + 30 * (sz - at5) ≤ gN S3 + 30 * (sz - e0) + 2 * (e0 - ((b + k) + 1)) ∧ gZ S5 + 150 * (sz - at5) ≤ gZ S3 + 150 * (sz - e0) + 60 * (e0 - ((b + k) + 1))) → (at5 ≤ sz ∧ gN S3 ≤ a5 ∧ a5 < gN S5) → ∀ S18 : zS, (zFin true S18) → (pJ (tN 21 0 [] (b + k) [y5]) = .ok (tN 21 0 [] (b + k) [y5])) → (xJd (sP (sI (sI (sP (sNew S5 11 0 (zslots 11)) 162 (gN S5) (some 0)) 144 (gN S5) (Int32.ofNat (b + k))) 160 (gN S5) 99) 161 (gN S5) (some a5)) (gN S5) S18) → (xTl (gN S) S18 (tN 21 0 [] (b + k) [y5]) (gN S5)) → (xR tp sz S18 r at5 nd5) → (gN S18 = gN S5 + 1 ∧ gZ S18 = gZ S5 + 19) → post (.returned (some (.ref (gN S5))), S18)) (h2 : ∀ S3 : zS, ∀ nd3 : Nat, (zFin true S3) → (pRead (b + k) deep nd false = .ok nd3) → (xFr S S3) → (xR tp sz S3 r (b + k) nd3) → (gN S ≤ gN S3 ∧ gN S3 ≤ gN S + 0 ∧ gZ S3 ≤ gZ S + 0) → ((b + k) ≤ sz) → (nd3 ≤ 80) → (deep ≤ 24) → ∀ S5 : zS, ∀ a5 : Nat, ∀ y5 : zNd, ∀ at5 : Nat, ∀ nd5 : Nat, (zFin true S5) → (pWx tp sz rec n ((b + k) + 1) (deep + 1) e0 nd3 = .ok (y5, at5, nd5)) → (xFr (sI S3 133 r (Int32.ofNat ((b + k) + 1))) S5) → (xTl (gN S3) S5 y5 a5) → (xR tp sz S5 r at5 nd5) → (gN S3 ≤ gN S5 ∧ gN S5 + 30 * (sz - at5) ≤ gN S3 + 30 * (sz - e0) + 2 * (e0 - ((b + k) + 1)) ∧ gZ S5 + 150 * (sz - at5) ≤ gZ S3 + 150 * (sz - e0) + 60 * (e0 - ((b + k) + 1))) → (at5 ≤ sz ∧ gN S3 ≤ a5 ∧ a5 < gN S5) → ∀ S19 : zS, ∀ q19 : Nat, (zFin true S19) → (pJ (tN 21 0 [] (b + k) [y5]) = .error (3, (b + k))) → (xFn (sP (sI (sI (sP (sNew S5 11 0 (zslots 11)) 162 (gN S5) (some 0)) 144 (gN S5) (Int32.ofNat (b + k))) 160 (gN S5) 99) 161 (gN S5) (some a5)) (gN S5) S19) → (xFl S19 q19 3 (b + k)) → (gN S19 = gN S5 + 1 + 1 ∧ gZ S19 ≤ gZ S5 + 19 + 3) → post (.threw q19, S19)) (h3 : ∀ S3 : zS, ∀ nd3 : Nat, (zFin true S3) → (pRead (b + k) deep nd false = .ok nd3) → (xFr S S3) → (xR tp sz S3 r (b + k) nd3) → (gN S ≤ gN S3 ∧ gN S3 ≤ gN S + 0 ∧ gZ S3 ≤ gZ S + 0) → ((b + k) ≤ sz) → (nd3 ≤ 80) → (deep ≤ 24) → ∀ S6 : zS, ∀ q6 : Nat, ∀ kk6 : Nat, ∀ z6 : Nat, (zFin true S6) → (pWx tp sz rec n ((b + k) + 1) (deep + 1) e0 nd3 = .error (kk6, z6)) → (xFr (sI S3 133 r (Int32.ofNat ((b + k) + 1))) S6) → (xFl S6 q6 kk6 z6) → (gN S3 ≤ gN S6 ∧ gN S6 ≤ gN S3 + 30 * (sz - e0) + 2 * (e0 - ((b + k) + 1)) + 60 ∧ gZ S6 ≤ gZ S3 + 150 * (sz - e0) + 60 * (e0 - ((b + k) + 1)) + 2000) → post (.threw q6, S6)) (h4 : ∀ S4 : zS, ∀ q4 : Nat, (zFin true S4) → (pRead (b + k) deep nd false = .error (2, (b + k))) → (xFr S S4) → (xFl S4 q4 2 (b + k)) → (gN S ≤ gN S4 ∧ gN S4 ≤ gN S + 1 ∧ gZ S4 ≤ gZ S + 3) → post (.threw q4, S4)) : zCall d 260 [.ref r, .ref w, .int (Int32.ofNat k), .int (Int32.ofNat deep)] S post := by
  have ht : ztab 260 = ztb260 := rfl
  show zEv d 260 0 [.ref r, .ref w, .int (Int32.ofNat k), .int (Int32.ofNat deep), .retAddr 0, .retAddr 0, .retAddr 0, .retAddr 0, .retAddr 0] [] S post
  refine zv_c1 ht rfl rfl ?_
  refine zv_ei (x := Int32.ofNat (b + k)) ht rfl rfl (zhas_of (hR.1.2.2.2.1) rfl) hR.1.1 ?_
  refine zv_c2 (L' := [.ref r, .ref w, .int (Int32.ofNat k), .int (Int32.ofNat deep), .int (Int32.ofNat (b + k)), .retAddr 0, .retAddr 0, .retAddr 0, .retAddr 0]) ht rfl rfl ?_
  refine zv_c1 ht rfl rfl (zv_c1 ht rfl rfl ?_)
  refine zv_cl ht rfl rfl rfl (zv_tgv ((zStr.t hw.1)) rfl) (by omega) (Nat.le_of_ble_eq_true rfl) (x_len (S := S) hF (by omega) hw.1 (n := wl) hwl ?_)
  show zEv d 260 11 [.ref r, .ref w, .int (Int32.ofNat k), .int (Int32.ofNat deep), .int (Int32.ofNat (b + k)), .retAddr 0, .retAddr 0, .retAddr 0, .retAddr 0] [.int (Int32.ofNat wl), .int (Int32.ofNat k)] S post
  refine zv_br ht rfl rfl rfl (fun b1 => ?_) (fun b1 => (show False from by have hq := b1; have hz : k = wl := (zi_eqE (a := k) (b := wl) rfl rfl (by omega) (by omega)).mp (Classical.not_not.mp hq); omega).elim)
  refine zv_c1 ht rfl rfl (zv_c1 ht rfl rfl ?_)
  refine zv_cl ht rfl rfl rfl (zv_tgv ((zStr.t hw.1)) rfl) (by omega) (Nat.le_of_ble_eq_true rfl) (x_char (S := S) hF (by omega) hw.1 (i := k) (by omega) (c := 99) hcc ?_)
  show zEv d 260 39 [.ref r, .ref w, .int (Int32.ofNat k), .int (Int32.ofNat deep), .int (Int32.ofNat (b + k)), .retAddr 0, .retAddr 0, .retAddr 0, .retAddr 0] [.int 99] S post
  refine zv_c2 (L' := [.ref r, .ref w, .int (Int32.ofNat k), .int (Int32.ofNat deep), .int (Int32.ofNat (b + k)), .int 99, .retAddr 0, .retAddr 0, .retAddr 0]) ht rfl rfl ?_
  refine zv_c1 ht rfl rfl (zv_c1 ht rfl rfl ?_)
  refine zv_br ht rfl rfl rfl (fun h => absurd h (by decide)) (fun _ => ?_)
  refine zv_c1 ht rfl rfl (zv_c1 ht rfl rfl ?_)
  refine zv_br ht rfl rfl rfl (fun h => absurd h (by decide)) (fun _ => ?_)
  refine zv_c1 ht rfl rfl (zv_c1 ht rfl rfl ?_)
  refine zv_br ht rfl rfl rfl (fun _ => ?_) (fun h => absurd (by decide) h)
  refine zv_c1 ht rfl rfl ?_
  refine zv_c2 (L' := [.ref r, .ref w, .int (Int32.ofNat k), .int (Int32.ofNat deep), .int (Int32.ofNat (b + k)), .int 99, .int 0, .retAddr 0, .retAddr 0]) ht rfl rfl ?_
  refine zv_c1 ht rfl rfl ?_
  refine zv_br ht rfl rfl rfl (fun b2 => ?_) (fun b2 => (show False from by have hq := b2; have hz : k = 0 := (zi_eqE (a := k) (b := 0) rfl rfl (by omega) (by omega)).mp (Classical.not_not.mp hq); omega).elim)
  refine zv_c1 ht rfl rfl (zv_c1 ht rfl rfl (zv_c1 ht rfl rfl ?_))
  refine zv_br ht rfl rfl rfl (fun _ => ?_) (fun h => absurd (by decide) h)
  refine zv_c1 ht rfl rfl (zv_c1 ht rfl rfl ?_)
  refine zv_br ht rfl rfl rfl (fun _ => ?_) (fun h => absurd (by decide) h)
  refine zv_c1 ht rfl rfl ?_
  refine zv_cl ht rfl rfl rfl (zv_tgv (hR.1.2.2.2.1) rfl) (by omega) (Nat.le_of_ble_eq_true rfl) (x_begins (S := S) (tp := tp) (sz := sz) (r := r) (p := (b + k)) (dp := deep) (m := 1) (dq := deep) (two := false) hF (by omega) hR (by omega) (by omega) (by omega) (by omega) rfl rfl (fun S3 nd3 hF3 e3 k3 p3 g3 b3 c3 d3 => ?_) (fun S4 q4 hF4 e4 k4 x4 g4 => ?_))
  · show zEv d 260 106 [.ref r, .ref w, .int (Int32.ofNat k), .int (Int32.ofNat deep), .int (Int32.ofNat (b + k)), .int 99, .int 0, .retAddr 0, .retAddr 0] [] S3 post
    refine zv_c1 ht rfl rfl (zv_c1 ht rfl rfl ?_)
    refine zv_ei (x := Int32.ofNat (b + k)) ht rfl rfl (zhas_of (p3.1.2.2.2.1) rfl) p3.1.1 ?_
    refine zv_c1 ht rfl rfl ?_
    refine zv_e1 (x := Int32.ofNat ((b + k) + 1)) ht rfl rfl (zi_addE (a := (b + k)) (b := 1) rfl rfl) ?_
    refine zv_ci (S' := sI S3 133 r (Int32.ofNat ((b + k) + 1))) ht rfl rfl ⟨(zhas_of (p3.1.2.2.2.1) rfl), (show r < gN S3 from by omega)⟩ ?_
    refine zv_c1 ht rfl rfl (zv_c1 ht rfl rfl (zv_c1 ht rfl rfl (zv_c1 ht rfl rfl ?_)))
    refine zv_e1 (x := Int32.ofNat (k + 1)) ht rfl rfl (zi_addE (a := k) (b := 1) rfl rfl) ?_
    refine zv_c1 ht rfl rfl (zv_c1 ht rfl rfl ?_)
    refine zv_e1 (x := Int32.ofNat (deep + 1)) ht rfl rfl (zi_addE (a := deep) (b := 1) rfl rfl) ?_
    refine zv_cl ht rfl rfl rfl (zv_tgv (p3.1.2.2.2.1) rfl) (by omega) (Nat.le_of_ble_eq_true rfl) (xEc.use (g := gN S3) (cN := gN S3 + 30 * (sz - e0) + 2 * (e0 - ((b + k) + 1))) (cZ := gZ S3 + 150 * (sz - e0) + 60 * (e0 - ((b + k) + 1))) rfl ((hIH (by omega)) (S := sI S3 133 r (Int32.ofNat ((b + k) + 1))) (r := r) hF3 (xR_at p3 (by omega)) (xWd.k hw (zKE.tr (zKE.tr zKE.rf (zKE.w k3 (show gN S ≤ gN S from by omega) (fun _ h => h) (fun _ h => h))) (zKE_sI (Or.inl (by decide))))) (by omega) (by omega)) (fun S5 a5 y5 at5 nd5 hF5 e5 k5 t5 p5 g5 c5 => ?_) (fun S6 q6 kk6 z6 hF6 e6 k6 x6 g6 => ?_))
    · show zEv d 260 127 [.ref r, .ref w, .int (Int32.ofNat k), .int (Int32.ofNat deep), .int (Int32.ofNat (b + k)), .int 99, .int 0, .retAddr 0, .retAddr 0] [.ref a5] S5 post
      refine zv_c2 (L' := [.ref r, .ref w, .int (Int32.ofNat k), .int (Int32.ofNat deep), .int (Int32.ofNat (b + k)), .int 99, .int 0, .ref a5, .retAddr 0]) ht rfl rfl ?_
      refine zv_c1 ht rfl rfl ?_
      refine zv_br ht rfl rfl rfl (fun h => absurd h (by decide)) (fun _ => ?_)
      refine zv_c1 ht rfl rfl ?_
      refine zv_ci (st' := [.ref (gN S5), .ref r]) (S' := sNew S5 11 0 (zslots 11)) ht rfl rfl (znew_ok (show 1639 ≤ gN S5 from by omega) (show gN S5 < 2000000 from by omega)) ?_
      refine zv_c1 ht rfl rfl (zv_c1 ht rfl rfl ?_)
      refine zv_g3 (q := 0) ht rfl (zFin_new hF5) rfl rfl (zhas_of (Eq.trans (ztyp_new (S := S5) (t := 11) (n := 0) (s := zslots 11) (show r ≠ gN S5 from by omega)) p5.1.2.2.2.1) rfl) (Eq.trans (gP_new (S := S5) (t := 11) (n := 0) (s := zslots 11) (show r ≠ gN S5 from by omega)) p5.1.2.2.2.2) ?_
      refine zv_c1 ht rfl rfl (zv_c1 ht rfl rfl (zv_c1 ht rfl rfl ?_))
      have C8 : ∀ (pst7 : Outcome × zS → Prop), (pst7 (.returned none, sP (sI (sI (sP (sNew S5 11 0 (zslots 11)) 162 (gN S5) (some 0)) 144 (gN S5) (Int32.ofNat (b + k))) 160 (gN S5) 99) 161 (gN S5) (some a5))) → zCall (d - 1) 295 [.ref (gN S5), .ref 0, .int (Int32.ofNat (b + k)), .int 99, .ref a5] (sNew S5 11 0 (zslots 11)) pst7 := by
        intro pst7 k14
        have ht9 : ztab 295 = ztb295 := rfl
        show zEv (d - 1) 295 0 [.ref (gN S5), .ref 0, .int (Int32.ofNat (b + k)), .int 99, .ref a5] [] (sNew S5 11 0 (zslots 11)) pst7
        refine zv_c1 ht9 rfl rfl (zv_c1 ht9 rfl rfl ?_)
        refine zv_ci (S' := sP (sNew S5 11 0 (zslots 11)) 162 (gN S5) (some 0)) ht9 rfl rfl ⟨(zhas_of (ztyp_new_at (S := S5) (t := 11) (n := 0) (s := zslots 11) (show 1639 ≤ gN S5 from by omega)) rfl), (show gN S5 < gN S5 + 1 from by omega)⟩ ?_
        refine zv_c1 ht9 rfl rfl (zv_c1 ht9 rfl rfl (zv_c1 ht9 rfl rfl ?_))
        have C11 : ∀ (pst10 : Outcome × zS → Prop), (pst10 (.returned none, sI (sP (sNew S5 11 0 (zslots 11)) 162 (gN S5) (some 0)) 144 (gN S5) (Int32.ofNat (b + k)))) → zCall ((d - 1) - 1) 280 [.ref (gN S5), .ref 0, .int (Int32.ofNat (b + k))] (sP (sNew S5 11 0 (zslots 11)) 162 (gN S5) (some 0)) pst10 := by
          intro pst10 k13
          have ht12 : ztab 280 = ztb280 := rfl
          show zEv ((d - 1) - 1) 280 0 [.ref (gN S5), .ref 0, .int (Int32.ofNat (b + k))] [] (sP (sNew S5 11 0 (zslots 11)) 162 (gN S5) (some 0)) pst10
          refine zv_c1 ht12 rfl rfl (zv_c1 ht12 rfl rfl ?_)
          refine zv_ci (S' := sP (sNew S5 11 0 (zslots 11)) 162 (gN S5) (some 0)) ht12 rfl rfl (zk5 (ztyp_new_at (S := S5) (t := 11) (n := 0) (s := zslots 11) (show 1639 ≤ gN S5 from by omega)) rfl (show gN S5 < gN S5 + 1 from by omega) rfl gP_sP_at) ?_
          refine zv_c1 ht12 rfl rfl (zv_c1 ht12 rfl rfl (zv_c1 ht12 rfl rfl (zv_c1 ht12 rfl rfl ?_)))
          refine zv_ci (S' := sI (sP (sNew S5 11 0 (zslots 11)) 162 (gN S5) (some 0)) 144 (gN S5) (Int32.ofNat (b + k))) ht12 rfl rfl ⟨(zhas_of (ztyp_new_at (S := S5) (t := 11) (n := 0) (s := zslots 11) (show 1639 ≤ gN S5 from by omega)) rfl), (show gN S5 < gN S5 + 1 from by omega)⟩ ?_
          exact zv_rt ht12 rfl rfl rfl rfl k13
        refine zv_cl ht9 rfl rfl rfl rfl (by omega) (Nat.le_of_ble_eq_true rfl) (C11 _ ?_)
        show zEv (d - 1) 295 11 [.ref (gN S5), .ref 0, .int (Int32.ofNat (b + k)), .int 99, .ref a5] [] (sI (sP (sNew S5 11 0 (zslots 11)) 162 (gN S5) (some 0)) 144 (gN S5) (Int32.ofNat (b + k))) pst7
        refine zv_c1 ht9 rfl rfl (zv_c1 ht9 rfl rfl ?_)
        refine zv_ci (S' := sI (sI (sP (sNew S5 11 0 (zslots 11)) 162 (gN S5) (some 0)) 144 (gN S5) (Int32.ofNat (b + k))) 160 (gN S5) 99) ht9 rfl rfl ⟨⟨(zhas_of (ztyp_new_at (S := S5) (t := 11) (n := 0) (s := zslots 11) (show 1639 ≤ gN S5 from by omega)) rfl), (show gN S5 < gN S5 + 1 from by omega)⟩, (by decide)⟩ ?_
        refine zv_c1 ht9 rfl rfl (zv_c1 ht9 rfl rfl ?_)
        refine zv_ci (S' := sP (sI (sI (sP (sNew S5 11 0 (zslots 11)) 162 (gN S5) (some 0)) 144 (gN S5) (Int32.ofNat (b + k))) 160 (gN S5) 99) 161 (gN S5) (some a5)) ht9 rfl rfl ⟨(zhas_of (ztyp_new_at (S := S5) (t := 11) (n := 0) (s := zslots 11) (show 1639 ≤ gN S5 from by omega)) rfl), (show gN S5 < gN S5 + 1 from by omega)⟩ ?_
        exact zv_rt ht9 rfl rfl rfl rfl k14
      refine zv_cl ht rfl rfl rfl rfl (by omega) (Nat.le_of_ble_eq_true rfl) (C8 _ ?_)
      show zEv d 260 152 [.ref r, .ref w, .int (Int32.ofNat k), .int (Int32.ofNat deep), .int (Int32.ofNat (b + k)), .int 99, .int 0, .ref a5, .retAddr 0] [.ref (gN S5), .ref r] (sP (sI (sI (sP (sNew S5 11 0 (zslots 11)) 162 (gN S5) (some 0)) 144 (gN S5) (Int32.ofNat (b + k))) 160 (gN S5) 99) 161 (gN S5) (some a5)) post
      have C16 : ∀ (pst15 : Outcome × zS → Prop), (∀ S18 : zS, (zFin true S18) → (pJ (tN 21 0 [] (b + k) [y5]) = .ok (tN 21 0 [] (b + k) [y5])) → (xJd (sP (sI (sI (sP (sNew S5 11 0 (zslots 11)) 162 (gN S5) (some 0)) 144 (gN S5) (Int32.ofNat (b + k))) 160 (gN S5) 99) 161 (gN S5) (some a5)) (gN S5) S18) → (xTl (gN S) S18 (tN 21 0 [] (b + k) [y5]) (gN S5)) → (xR tp sz S18 r at5 nd5) → (gN S18 = gN S5 + 1 ∧ gZ S18 = gZ S5 + 19) → pst15 (.returned (some (.ref (gN S5))), S18)) → (∀ S19 : zS, ∀ q19 : Nat, (zFin true S19) → (pJ (tN 21 0 [] (b + k) [y5]) = .error (3, (b + k))) → (xFn (sP (sI (sI (sP (sNew S5 11 0 (zslots 11)) 162 (gN S5) (some 0)) 144 (gN S5) (Int32.ofNat (b + k))) 160 (gN S5) 99) 161 (gN S5) (some a5)) (gN S5) S19) → (xFl S19 q19 3 (b + k)) → (gN S19 = gN S5 + 1 + 1 ∧ gZ S19 ≤ gZ S5 + 19 + 3) → pst15 (.threw q19, S19)) → zCall (d - 1) 253 [.ref r, .ref (gN S5)] (sP (sI (sI (sP (sNew S5 11 0 (zslots 11)) 162 (gN S5) (some 0)) 144 (gN S5) (Int32.ofNat (b + k))) 160 (gN S5) 99) 161 (gN S5) (some a5)) pst15 := by
        intro pst15 k20 k21
        have ht17 : ztab 253 = ztb253 := rfl
        show zEv (d - 1) 253 0 [.ref r, .ref (gN S5)] [] (sP (sI (sI (sP (sNew S5 11 0 (zslots 11)) 162 (gN S5) (some 0)) 144 (gN S5) (Int32.ofNat (b + k))) 160 (gN S5) 99) 161 (gN S5) (some a5)) pst15
        refine zv_c1 ht17 rfl rfl ?_
        refine zv_cl ht17 rfl rfl rfl (zv_tgm (ztyp_new_at (S := S5) (t := 11) (n := 0) (s := zslots 11) (show 1639 ≤ gN S5 from by omega)) rfl) (by omega) (Nat.le_of_ble_eq_true rfl) (x_judgeR (S := sP (sI (sI (sP (sNew S5 11 0 (zslots 11)) 162 (gN S5) (some 0)) 144 (gN S5) (Int32.ofNat (b + k))) 160 (gN S5) 99) 161 (gN S5) (some a5)) (tp := tp) (sz := sz) (r := r) (a := gN S5) (k := 21) (v := 0) (p := (b + k)) (ks := []) (js := [a5]) (cs := [y5]) (g := gN S5 + 1) (lo := gN S) (zFin_sP (zFin_sP (zFin_new hF5) rfl) rfl) (by omega) (by omega) (by omega) (by omega) (by omega) rfl (xOwn_W (by decide) (ztyp_new_at (S := S5) (t := 11) (n := 0) (s := zslots 11) (show 1639 ≤ gN S5 from by omega)) (gI_sI_at) (gP_sP_at)) ⟨a5, _, rfl, (xTl.ch t5 (zKE.tr (zKE.tr (zKE.tr (zKE.tr (zKE.tr zKE.rf (zKE_new (show gN S5 ≤ gN S5 ∧ gN S5 < zLB from ⟨by omega, by have hLB : zLB = 4294967296 := rfl; omega⟩))) (zKE_sP (Or.inr (Or.inr ⟨by omega, by have hLB : zLB = 4294967296 := rfl; omega⟩)))) (zKE_sI (Or.inr (Or.inr ⟨by omega, by have hLB : zLB = 4294967296 := rfl; omega⟩)))) (zKE_sI (Or.inr (Or.inr ⟨by omega, by have hLB : zLB = 4294967296 := rfl; omega⟩)))) (zKE_sP (Or.inr (Or.inr ⟨by omega, by have hLB : zLB = 4294967296 := rfl; omega⟩)))) (by omega) (by intro j h1 h2; omega)), rfl⟩ (by decide) (by omega) (gI_sI_at) (gI_new_at (S := S5) (t := 11) (n := 0) (s := zslots 11)) (gI_new_at (S := S5) (t := 11) (n := 0) (s := zslots 11)) (xR.ke (Fs := []) p5 (zKE.tr (zKE.tr (zKE.tr (zKE.tr (zKE.tr zKE.rf (zKE_new (show gN S5 ≤ gN S5 ∧ gN S5 < zLB from ⟨by omega, by have hLB : zLB = 4294967296 := rfl; omega⟩))) (zKE_sP (Or.inr (Or.inr ⟨by omega, by have hLB : zLB = 4294967296 := rfl; omega⟩)))) (zKE_sI (Or.inr (Or.inr ⟨by omega, by have hLB : zLB = 4294967296 := rfl; omega⟩)))) (zKE_sI (Or.inr (Or.inr ⟨by omega, by have hLB : zLB = 4294967296 := rfl; omega⟩)))) (zKE_sP (Or.inr (Or.inr ⟨by omega, by have hLB : zLB = 4294967296 := rfl; omega⟩)))) (by omega) (by decide)) (by omega) (fun S18 hF18 e18 j18 t18 p18 g18 => ?_) (fun S19 q19 hF19 e19 k19 x19 g19 => ?_))
        · show zEv (d - 1) 253 4 [.ref r, .ref (gN S5)] [] S18 pst15
          refine zv_c1 ht17 rfl rfl ?_
          exact zv_rt ht17 rfl rfl rfl rfl (k20 S18 hF18 e18 j18 t18 p18 g18)
        · exact (k21 S19 q19 hF19 e19 k19 x19 g19)
      refine zv_cl ht rfl rfl rfl (zv_tgv (Eq.trans (ztyp_new (S := S5) (t := 11) (n := 0) (s := zslots 11) (show r ≠ gN S5 from by omega)) p5.1.2.2.2.1) rfl) (by omega) (Nat.le_of_ble_eq_true rfl) (C16 _ (fun S18 hF18 e18 j18 t18 p18 g18 => ?_) (fun S19 q19 hF19 e19 k19 x19 g19 => ?_))
      · show zEv d 260 155 [.ref r, .ref w, .int (Int32.ofNat k), .int (Int32.ofNat deep), .int (Int32.ofNat (b + k)), .int 99, .int 0, .ref a5, .retAddr 0] [.ref (gN S5)] S18 post
        exact zv_rt ht rfl rfl rfl rfl (h1 S3 nd3 hF3 e3 k3 p3 g3 b3 c3 d3 S5 a5 y5 at5 nd5 hF5 e5 k5 t5 p5 g5 c5 S18 hF18 e18 j18 t18 p18 g18)
      · exact (h2 S3 nd3 hF3 e3 k3 p3 g3 b3 c3 d3 S5 a5 y5 at5 nd5 hF5 e5 k5 t5 p5 g5 c5 S19 q19 hF19 e19 k19 x19 g19)
    · exact (h3 S3 nd3 hF3 e3 k3 p3 g3 b3 c3 d3 S6 q6 kk6 z6 hF6 e6 k6 x6 g6)
  · exact (h4 S4 q4 hF4 e4 k4 x4 g4)

theorem wrP100 {d : Nat} {S : zS} (hF : zFin true S) (hd : 5 ≤ d) {tp : Nat → Nat} {sz at0 nd r : Nat} {rec : Nat → Nat → Nat → pE (zNd × Nat × Nat)} {K n : Nat} {w : Nat} (b e0 wl k deep : Nat) (hR : xR tp sz S r (b + k) nd) (hs0 : sz ≤ 300) (ha0 : (b + k) ≤ sz) (hr1 : 1639 ≤ r) (hr2 : r < gN S) (hN : gN S + 30 * (sz - (b + k)) ≤ 1700000) (hdp : deep < 1000) (hnd : nd ≤ 80) (hw : xWd S w (pWl tp b e0)) (hwN : w < gN S) (hwl : (pWl tp b e0).length = wl) (hel : e0 = b + wl) (hes : e0 < sz) (hk0 : 0 < k) (hk : k < wl) (hcc : (pWl tp b e0).getD k 0 = 100) (hIH : deep ≤ 24 → xWr tp sz (d - 1) w b e0 rec n (k + 1) (deep + 1)) {post : Outcome × zS → Prop} (h1 : ∀ S3 : zS, ∀ nd3 : Nat, (zFin true S3) → (pRead (b + k) deep nd false = .ok nd3) → (xFr S S3) → (xR tp sz S3 r (b + k) nd3) → (gN S ≤ gN S3 ∧ gN S3 ≤ gN S + 0 ∧ gZ S3 ≤ gZ S + 0) → ((b + k) ≤ sz) → (nd3 ≤ 80) → (deep ≤ 24) → ∀ S5 : zS, ∀ a5 : Nat, ∀ y5 : zNd, ∀ at5 : Nat, ∀ nd5 : Nat, (zFin true S5) → (pWx tp sz rec n ((b + k) + 1) (deep + 1) e0 nd3 = .ok (y5, at5, nd5)) → (xFr (sI S3 133 r (Int32.ofNat ((b + k) + 1))) S5) → (xTl (gN S3) S5 y5 a5) → (xR tp sz S5 r at5 nd5) → (gN S3 ≤ gN S5 ∧ gN S5 + 30 * (sz - at5) ≤ gN S3 + 30 * (sz - e0) + 2 * (e0 - ((b + k) + 1)) ∧ gZ S5 + 150 * (sz - at5) ≤ gZ S3 + 150 * (sz - e0) + 60 * (e0 - ((b + k) + 1))) → (at5 ≤ sz ∧ gN S3 ≤ a5 ∧ a5 < gN S5) → ∀ S18 : zS, (zFin true S18) → (pJ (tN 22 0 [] (b + k) [y5]) = .ok (tN 22 0 [] (b + k) [y5])) → (xJd (sP (sI (sI (sP (sNew S5 11 0 (zslots 11)) 162 (gN S5) (some 0)) 144 (gN S5) (Int32.ofNat (b + k))) 160 (gN S5) 100) 161 (gN S5) (some a5)) (gN S5) S18) → (xTl (gN S) S18 (tN 22 0 [] (b + k) [y5]) (gN S5)) → (xR tp sz S18 r at5 nd5) → (gN S18 = gN S5 + 1 ∧ gZ S18 = gZ S5 + 19) → post (.returned (some (.ref (gN S5))), S18)) (h2 : ∀ S3 : zS, ∀ nd3 : Nat, (zFin true S3) → (pRead (b + k) deep nd false = .ok nd3) → (xFr S S3) → (xR tp sz S3 r (b + k) nd3) → (gN S ≤ gN S3 ∧ gN S3 ≤ gN S + 0 ∧ gZ S3 ≤ gZ S + 0) → ((b + k) ≤ sz) → (nd3 ≤ 80) → (deep ≤ 24) → ∀ S5 : zS, ∀ a5 : Nat, ∀ y5 : zNd, ∀ at5 : Nat, ∀ nd5 : Nat, (zFin true S5) → (pWx tp sz rec n ((b + k) + 1) (deep + 1) e0 nd3 = .ok (y5, at5, nd5)) → (xFr (sI S3 133 r (Int32.ofNat ((b + k) + 1))) S5) → (xTl (gN S3) S5 y5 a5) → (xR tp sz S5 r at5 nd5) → (gN S3 ≤ gN S5 ∧ gN S5 + 30 * (sz - at5) ≤ gN S3 + 30 * (sz - e0) + 2 * (e0 - ((b + k) + 1)) ∧ gZ S5 + 150 * (sz - at5) ≤ gZ S3 + 150 * (sz - e0) + 60 * (e0 - ((b + k) + 1))) → (at5 ≤ sz ∧ gN S3 ≤ a5 ∧ a5 < gN S5) → ∀ S19 : zS, ∀ q19 : Nat, (zFin true S19) → (pJ (tN 22 0 [] (b + k) [y5]) = .error (3, (b + k))) → (xFn (sP (sI (sI (sP (sNew S5 11 0 (zslots 11)) 162 (gN S5) (some 0)) 144 (gN S5) (Int32.ofNat (b + k))) 160 (gN S5) 100) 161 (gN S5) (some a5)) (gN S5) S19) → (xFl S19 q19 3 (b + k)) → (gN S19 = gN S5 + 1 + 1 ∧ gZ S19 ≤ gZ S5 + 19 + 3) → post (.threw q19, S19)) (h3 : ∀ S3 : zS, ∀ nd3 : Nat, (zFin true S3) → (pRead (b + k) deep nd false = .ok nd3) → (xFr S S3) → (xR tp sz S3 r (b + k) nd3) → (gN S ≤ gN S3 ∧ gN S3 ≤ gN S + 0 ∧ gZ S3 ≤ gZ S + 0) → ((b + k) ≤ sz) → (nd3 ≤ 80) → (deep ≤ 24) → ∀ S6 : zS, ∀ q6 : Nat, ∀ kk6 : Nat, ∀ z6 : Nat, (zFin true S6) → (pWx tp sz rec n ((b + k) + 1) (deep + 1) e0 nd3 = .error (kk6, z6)) → (xFr (sI S3 133 r (Int32.ofNat ((b + k) + 1))) S6) → (xFl S6 q6 kk6 z6) → (gN S3 ≤ gN S6 ∧ gN S6 ≤ gN S3 + 30 * (sz - e0) + 2 * (e0 - ((b + k) + 1)) + 60 ∧ gZ S6 ≤ gZ S3 + 150 * (sz - e0) + 60 * (e0 - ((b + k) + 1)) + 2000) → post (.threw q6, S6)) (h4 : ∀ S4 : zS, ∀ q4 : Nat, (zFin true S4) → (pRead (b + k) deep nd false = .error (2, (b + k))) → (xFr S S4) → (xFl S4 q4 2 (b + k)) → (gN S ≤ gN S4 ∧ gN S4 ≤ gN S + 1 ∧ gZ S4 ≤ gZ S + 3) → post (.threw q4, S4)) : zCall d 260 [.ref r, .ref w, .int (Int32.ofNat k), .int (Int32.ofNat deep)] S post := by
  have ht : ztab 260 = ztb260 := rfl
  show zEv d 260 0 [.ref r, .ref w, .int (Int32.ofNat k), .int (Int32.ofNat deep), .retAddr 0, .retAddr 0, .retAddr 0, .retAddr 0, .retAddr 0] [] S post
  refine zv_c1 ht rfl rfl ?_
  refine zv_ei (x := Int32.ofNat (b + k)) ht rfl rfl (zhas_of (hR.1.2.2.2.1) rfl) hR.1.1 ?_
  refine zv_c2 (L' := [.ref r, .ref w, .int (Int32.ofNat k), .int (Int32.ofNat deep), .int (Int32.ofNat (b + k)), .retAddr 0, .retAddr 0, .retAddr 0, .retAddr 0]) ht rfl rfl ?_
  refine zv_c1 ht rfl rfl (zv_c1 ht rfl rfl ?_)
  refine zv_cl ht rfl rfl rfl (zv_tgv ((zStr.t hw.1)) rfl) (by omega) (Nat.le_of_ble_eq_true rfl) (x_len (S := S) hF (by omega) hw.1 (n := wl) hwl ?_)
  show zEv d 260 11 [.ref r, .ref w, .int (Int32.ofNat k), .int (Int32.ofNat deep), .int (Int32.ofNat (b + k)), .retAddr 0, .retAddr 0, .retAddr 0, .retAddr 0] [.int (Int32.ofNat wl), .int (Int32.ofNat k)] S post
  refine zv_br ht rfl rfl rfl (fun b1 => ?_) (fun b1 => (show False from by have hq := b1; have hz : k = wl := (zi_eqE (a := k) (b := wl) rfl rfl (by omega) (by omega)).mp (Classical.not_not.mp hq); omega).elim)
  refine zv_c1 ht rfl rfl (zv_c1 ht rfl rfl ?_)
  refine zv_cl ht rfl rfl rfl (zv_tgv ((zStr.t hw.1)) rfl) (by omega) (Nat.le_of_ble_eq_true rfl) (x_char (S := S) hF (by omega) hw.1 (i := k) (by omega) (c := 100) hcc ?_)
  show zEv d 260 39 [.ref r, .ref w, .int (Int32.ofNat k), .int (Int32.ofNat deep), .int (Int32.ofNat (b + k)), .retAddr 0, .retAddr 0, .retAddr 0, .retAddr 0] [.int 100] S post
  refine zv_c2 (L' := [.ref r, .ref w, .int (Int32.ofNat k), .int (Int32.ofNat deep), .int (Int32.ofNat (b + k)), .int 100, .retAddr 0, .retAddr 0, .retAddr 0]) ht rfl rfl ?_
  refine zv_c1 ht rfl rfl (zv_c1 ht rfl rfl ?_)
  refine zv_br ht rfl rfl rfl (fun h => absurd h (by decide)) (fun _ => ?_)
  refine zv_c1 ht rfl rfl (zv_c1 ht rfl rfl ?_)
  refine zv_br ht rfl rfl rfl (fun h => absurd h (by decide)) (fun _ => ?_)
  refine zv_c1 ht rfl rfl (zv_c1 ht rfl rfl ?_)
  refine zv_br ht rfl rfl rfl (fun _ => ?_) (fun h => absurd (by decide) h)
  refine zv_c1 ht rfl rfl ?_
  refine zv_c2 (L' := [.ref r, .ref w, .int (Int32.ofNat k), .int (Int32.ofNat deep), .int (Int32.ofNat (b + k)), .int 100, .int 0, .retAddr 0, .retAddr 0]) ht rfl rfl ?_
  refine zv_c1 ht rfl rfl ?_
  refine zv_br ht rfl rfl rfl (fun b2 => ?_) (fun b2 => (show False from by have hq := b2; have hz : k = 0 := (zi_eqE (a := k) (b := 0) rfl rfl (by omega) (by omega)).mp (Classical.not_not.mp hq); omega).elim)
  refine zv_c1 ht rfl rfl (zv_c1 ht rfl rfl (zv_c1 ht rfl rfl ?_))
  refine zv_br ht rfl rfl rfl (fun _ => ?_) (fun h => absurd (by decide) h)
  refine zv_c1 ht rfl rfl (zv_c1 ht rfl rfl ?_)
  refine zv_br ht rfl rfl rfl (fun _ => ?_) (fun h => absurd (by decide) h)
  refine zv_c1 ht rfl rfl ?_
  refine zv_cl ht rfl rfl rfl (zv_tgv (hR.1.2.2.2.1) rfl) (by omega) (Nat.le_of_ble_eq_true rfl) (x_begins (S := S) (tp := tp) (sz := sz) (r := r) (p := (b + k)) (dp := deep) (m := 1) (dq := deep) (two := false) hF (by omega) hR (by omega) (by omega) (by omega) (by omega) rfl rfl (fun S3 nd3 hF3 e3 k3 p3 g3 b3 c3 d3 => ?_) (fun S4 q4 hF4 e4 k4 x4 g4 => ?_))
  · show zEv d 260 106 [.ref r, .ref w, .int (Int32.ofNat k), .int (Int32.ofNat deep), .int (Int32.ofNat (b + k)), .int 100, .int 0, .retAddr 0, .retAddr 0] [] S3 post
    refine zv_c1 ht rfl rfl (zv_c1 ht rfl rfl ?_)
    refine zv_ei (x := Int32.ofNat (b + k)) ht rfl rfl (zhas_of (p3.1.2.2.2.1) rfl) p3.1.1 ?_
    refine zv_c1 ht rfl rfl ?_
    refine zv_e1 (x := Int32.ofNat ((b + k) + 1)) ht rfl rfl (zi_addE (a := (b + k)) (b := 1) rfl rfl) ?_
    refine zv_ci (S' := sI S3 133 r (Int32.ofNat ((b + k) + 1))) ht rfl rfl ⟨(zhas_of (p3.1.2.2.2.1) rfl), (show r < gN S3 from by omega)⟩ ?_
    refine zv_c1 ht rfl rfl (zv_c1 ht rfl rfl (zv_c1 ht rfl rfl (zv_c1 ht rfl rfl ?_)))
    refine zv_e1 (x := Int32.ofNat (k + 1)) ht rfl rfl (zi_addE (a := k) (b := 1) rfl rfl) ?_
    refine zv_c1 ht rfl rfl (zv_c1 ht rfl rfl ?_)
    refine zv_e1 (x := Int32.ofNat (deep + 1)) ht rfl rfl (zi_addE (a := deep) (b := 1) rfl rfl) ?_
    refine zv_cl ht rfl rfl rfl (zv_tgv (p3.1.2.2.2.1) rfl) (by omega) (Nat.le_of_ble_eq_true rfl) (xEc.use (g := gN S3) (cN := gN S3 + 30 * (sz - e0) + 2 * (e0 - ((b + k) + 1))) (cZ := gZ S3 + 150 * (sz - e0) + 60 * (e0 - ((b + k) + 1))) rfl ((hIH (by omega)) (S := sI S3 133 r (Int32.ofNat ((b + k) + 1))) (r := r) hF3 (xR_at p3 (by omega)) (xWd.k hw (zKE.tr (zKE.tr zKE.rf (zKE.w k3 (show gN S ≤ gN S from by omega) (fun _ h => h) (fun _ h => h))) (zKE_sI (Or.inl (by decide))))) (by omega) (by omega)) (fun S5 a5 y5 at5 nd5 hF5 e5 k5 t5 p5 g5 c5 => ?_) (fun S6 q6 kk6 z6 hF6 e6 k6 x6 g6 => ?_))
    · show zEv d 260 127 [.ref r, .ref w, .int (Int32.ofNat k), .int (Int32.ofNat deep), .int (Int32.ofNat (b + k)), .int 100, .int 0, .retAddr 0, .retAddr 0] [.ref a5] S5 post
      refine zv_c2 (L' := [.ref r, .ref w, .int (Int32.ofNat k), .int (Int32.ofNat deep), .int (Int32.ofNat (b + k)), .int 100, .int 0, .ref a5, .retAddr 0]) ht rfl rfl ?_
      refine zv_c1 ht rfl rfl ?_
      refine zv_br ht rfl rfl rfl (fun h => absurd h (by decide)) (fun _ => ?_)
      refine zv_c1 ht rfl rfl ?_
      refine zv_ci (st' := [.ref (gN S5), .ref r]) (S' := sNew S5 11 0 (zslots 11)) ht rfl rfl (znew_ok (show 1639 ≤ gN S5 from by omega) (show gN S5 < 2000000 from by omega)) ?_
      refine zv_c1 ht rfl rfl (zv_c1 ht rfl rfl ?_)
      refine zv_g3 (q := 0) ht rfl (zFin_new hF5) rfl rfl (zhas_of (Eq.trans (ztyp_new (S := S5) (t := 11) (n := 0) (s := zslots 11) (show r ≠ gN S5 from by omega)) p5.1.2.2.2.1) rfl) (Eq.trans (gP_new (S := S5) (t := 11) (n := 0) (s := zslots 11) (show r ≠ gN S5 from by omega)) p5.1.2.2.2.2) ?_
      refine zv_c1 ht rfl rfl (zv_c1 ht rfl rfl (zv_c1 ht rfl rfl ?_))
      have C8 : ∀ (pst7 : Outcome × zS → Prop), (pst7 (.returned none, sP (sI (sI (sP (sNew S5 11 0 (zslots 11)) 162 (gN S5) (some 0)) 144 (gN S5) (Int32.ofNat (b + k))) 160 (gN S5) 100) 161 (gN S5) (some a5))) → zCall (d - 1) 295 [.ref (gN S5), .ref 0, .int (Int32.ofNat (b + k)), .int 100, .ref a5] (sNew S5 11 0 (zslots 11)) pst7 := by
        intro pst7 k14
        have ht9 : ztab 295 = ztb295 := rfl
        show zEv (d - 1) 295 0 [.ref (gN S5), .ref 0, .int (Int32.ofNat (b + k)), .int 100, .ref a5] [] (sNew S5 11 0 (zslots 11)) pst7
        refine zv_c1 ht9 rfl rfl (zv_c1 ht9 rfl rfl ?_)
        refine zv_ci (S' := sP (sNew S5 11 0 (zslots 11)) 162 (gN S5) (some 0)) ht9 rfl rfl ⟨(zhas_of (ztyp_new_at (S := S5) (t := 11) (n := 0) (s := zslots 11) (show 1639 ≤ gN S5 from by omega)) rfl), (show gN S5 < gN S5 + 1 from by omega)⟩ ?_
        refine zv_c1 ht9 rfl rfl (zv_c1 ht9 rfl rfl (zv_c1 ht9 rfl rfl ?_))
        have C11 : ∀ (pst10 : Outcome × zS → Prop), (pst10 (.returned none, sI (sP (sNew S5 11 0 (zslots 11)) 162 (gN S5) (some 0)) 144 (gN S5) (Int32.ofNat (b + k)))) → zCall ((d - 1) - 1) 280 [.ref (gN S5), .ref 0, .int (Int32.ofNat (b + k))] (sP (sNew S5 11 0 (zslots 11)) 162 (gN S5) (some 0)) pst10 := by
          intro pst10 k13
          have ht12 : ztab 280 = ztb280 := rfl
          show zEv ((d - 1) - 1) 280 0 [.ref (gN S5), .ref 0, .int (Int32.ofNat (b + k))] [] (sP (sNew S5 11 0 (zslots 11)) 162 (gN S5) (some 0)) pst10
          refine zv_c1 ht12 rfl rfl (zv_c1 ht12 rfl rfl ?_)
          refine zv_ci (S' := sP (sNew S5 11 0 (zslots 11)) 162 (gN S5) (some 0)) ht12 rfl rfl (zk5 (ztyp_new_at (S := S5) (t := 11) (n := 0) (s := zslots 11) (show 1639 ≤ gN S5 from by omega)) rfl (show gN S5 < gN S5 + 1 from by omega) rfl gP_sP_at) ?_
          refine zv_c1 ht12 rfl rfl (zv_c1 ht12 rfl rfl (zv_c1 ht12 rfl rfl (zv_c1 ht12 rfl rfl ?_)))
          refine zv_ci (S' := sI (sP (sNew S5 11 0 (zslots 11)) 162 (gN S5) (some 0)) 144 (gN S5) (Int32.ofNat (b + k))) ht12 rfl rfl ⟨(zhas_of (ztyp_new_at (S := S5) (t := 11) (n := 0) (s := zslots 11) (show 1639 ≤ gN S5 from by omega)) rfl), (show gN S5 < gN S5 + 1 from by omega)⟩ ?_
          exact zv_rt ht12 rfl rfl rfl rfl k13
        refine zv_cl ht9 rfl rfl rfl rfl (by omega) (Nat.le_of_ble_eq_true rfl) (C11 _ ?_)
        show zEv (d - 1) 295 11 [.ref (gN S5), .ref 0, .int (Int32.ofNat (b + k)), .int 100, .ref a5] [] (sI (sP (sNew S5 11 0 (zslots 11)) 162 (gN S5) (some 0)) 144 (gN S5) (Int32.ofNat (b + k))) pst7
        refine zv_c1 ht9 rfl rfl (zv_c1 ht9 rfl rfl ?_)
        refine zv_ci (S' := sI (sI (sP (sNew S5 11 0 (zslots 11)) 162 (gN S5) (some 0)) 144 (gN S5) (Int32.ofNat (b + k))) 160 (gN S5) 100) ht9 rfl rfl ⟨⟨(zhas_of (ztyp_new_at (S := S5) (t := 11) (n := 0) (s := zslots 11) (show 1639 ≤ gN S5 from by omega)) rfl), (show gN S5 < gN S5 + 1 from by omega)⟩, (by decide)⟩ ?_
        refine zv_c1 ht9 rfl rfl (zv_c1 ht9 rfl rfl ?_)
        refine zv_ci (S' := sP (sI (sI (sP (sNew S5 11 0 (zslots 11)) 162 (gN S5) (some 0)) 144 (gN S5) (Int32.ofNat (b + k))) 160 (gN S5) 100) 161 (gN S5) (some a5)) ht9 rfl rfl ⟨(zhas_of (ztyp_new_at (S := S5) (t := 11) (n := 0) (s := zslots 11) (show 1639 ≤ gN S5 from by omega)) rfl), (show gN S5 < gN S5 + 1 from by omega)⟩ ?_
        exact zv_rt ht9 rfl rfl rfl rfl k14
      refine zv_cl ht rfl rfl rfl rfl (by omega) (Nat.le_of_ble_eq_true rfl) (C8 _ ?_)
      show zEv d 260 152 [.ref r, .ref w, .int (Int32.ofNat k), .int (Int32.ofNat deep), .int (Int32.ofNat (b + k)), .int 100, .int 0, .ref a5, .retAddr 0] [.ref (gN S5), .ref r] (sP (sI (sI (sP (sNew S5 11 0 (zslots 11)) 162 (gN S5) (some 0)) 144 (gN S5) (Int32.ofNat (b + k))) 160 (gN S5) 100) 161 (gN S5) (some a5)) post
      have C16 : ∀ (pst15 : Outcome × zS → Prop), (∀ S18 : zS, (zFin true S18) → (pJ (tN 22 0 [] (b + k) [y5]) = .ok (tN 22 0 [] (b + k) [y5])) → (xJd (sP (sI (sI (sP (sNew S5 11 0 (zslots 11)) 162 (gN S5) (some 0)) 144 (gN S5) (Int32.ofNat (b + k))) 160 (gN S5) 100) 161 (gN S5) (some a5)) (gN S5) S18) → (xTl (gN S) S18 (tN 22 0 [] (b + k) [y5]) (gN S5)) → (xR tp sz S18 r at5 nd5) → (gN S18 = gN S5 + 1 ∧ gZ S18 = gZ S5 + 19) → pst15 (.returned (some (.ref (gN S5))), S18)) → (∀ S19 : zS, ∀ q19 : Nat, (zFin true S19) → (pJ (tN 22 0 [] (b + k) [y5]) = .error (3, (b + k))) → (xFn (sP (sI (sI (sP (sNew S5 11 0 (zslots 11)) 162 (gN S5) (some 0)) 144 (gN S5) (Int32.ofNat (b + k))) 160 (gN S5) 100) 161 (gN S5) (some a5)) (gN S5) S19) → (xFl S19 q19 3 (b + k)) → (gN S19 = gN S5 + 1 + 1 ∧ gZ S19 ≤ gZ S5 + 19 + 3) → pst15 (.threw q19, S19)) → zCall (d - 1) 253 [.ref r, .ref (gN S5)] (sP (sI (sI (sP (sNew S5 11 0 (zslots 11)) 162 (gN S5) (some 0)) 144 (gN S5) (Int32.ofNat (b + k))) 160 (gN S5) 100) 161 (gN S5) (some a5)) pst15 := by
        intro pst15 k20 k21
        have ht17 : ztab 253 = ztb253 := rfl
        show zEv (d - 1) 253 0 [.ref r, .ref (gN S5)] [] (sP (sI (sI (sP (sNew S5 11 0 (zslots 11)) 162 (gN S5) (some 0)) 144 (gN S5) (Int32.ofNat (b + k))) 160 (gN S5) 100) 161 (gN S5) (some a5)) pst15
        refine zv_c1 ht17 rfl rfl ?_
        refine zv_cl ht17 rfl rfl rfl (zv_tgm (ztyp_new_at (S := S5) (t := 11) (n := 0) (s := zslots 11) (show 1639 ≤ gN S5 from by omega)) rfl) (by omega) (Nat.le_of_ble_eq_true rfl) (x_judgeR (S := sP (sI (sI (sP (sNew S5 11 0 (zslots 11)) 162 (gN S5) (some 0)) 144 (gN S5) (Int32.ofNat (b + k))) 160 (gN S5) 100) 161 (gN S5) (some a5)) (tp := tp) (sz := sz) (r := r) (a := gN S5) (k := 22) (v := 0) (p := (b + k)) (ks := []) (js := [a5]) (cs := [y5]) (g := gN S5 + 1) (lo := gN S) (zFin_sP (zFin_sP (zFin_new hF5) rfl) rfl) (by omega) (by omega) (by omega) (by omega) (by omega) rfl (xOwn_W (by decide) (ztyp_new_at (S := S5) (t := 11) (n := 0) (s := zslots 11) (show 1639 ≤ gN S5 from by omega)) (gI_sI_at) (gP_sP_at)) ⟨a5, _, rfl, (xTl.ch t5 (zKE.tr (zKE.tr (zKE.tr (zKE.tr (zKE.tr zKE.rf (zKE_new (show gN S5 ≤ gN S5 ∧ gN S5 < zLB from ⟨by omega, by have hLB : zLB = 4294967296 := rfl; omega⟩))) (zKE_sP (Or.inr (Or.inr ⟨by omega, by have hLB : zLB = 4294967296 := rfl; omega⟩)))) (zKE_sI (Or.inr (Or.inr ⟨by omega, by have hLB : zLB = 4294967296 := rfl; omega⟩)))) (zKE_sI (Or.inr (Or.inr ⟨by omega, by have hLB : zLB = 4294967296 := rfl; omega⟩)))) (zKE_sP (Or.inr (Or.inr ⟨by omega, by have hLB : zLB = 4294967296 := rfl; omega⟩)))) (by omega) (by intro j h1 h2; omega)), rfl⟩ (by decide) (by omega) (gI_sI_at) (gI_new_at (S := S5) (t := 11) (n := 0) (s := zslots 11)) (gI_new_at (S := S5) (t := 11) (n := 0) (s := zslots 11)) (xR.ke (Fs := []) p5 (zKE.tr (zKE.tr (zKE.tr (zKE.tr (zKE.tr zKE.rf (zKE_new (show gN S5 ≤ gN S5 ∧ gN S5 < zLB from ⟨by omega, by have hLB : zLB = 4294967296 := rfl; omega⟩))) (zKE_sP (Or.inr (Or.inr ⟨by omega, by have hLB : zLB = 4294967296 := rfl; omega⟩)))) (zKE_sI (Or.inr (Or.inr ⟨by omega, by have hLB : zLB = 4294967296 := rfl; omega⟩)))) (zKE_sI (Or.inr (Or.inr ⟨by omega, by have hLB : zLB = 4294967296 := rfl; omega⟩)))) (zKE_sP (Or.inr (Or.inr ⟨by omega, by have hLB : zLB = 4294967296 := rfl; omega⟩)))) (by omega) (by decide)) (by omega) (fun S18 hF18 e18 j18 t18 p18 g18 => ?_) (fun S19 q19 hF19 e19 k19 x19 g19 => ?_))
        · show zEv (d - 1) 253 4 [.ref r, .ref (gN S5)] [] S18 pst15
          refine zv_c1 ht17 rfl rfl ?_
          exact zv_rt ht17 rfl rfl rfl rfl (k20 S18 hF18 e18 j18 t18 p18 g18)
        · exact (k21 S19 q19 hF19 e19 k19 x19 g19)
      refine zv_cl ht rfl rfl rfl (zv_tgv (Eq.trans (ztyp_new (S := S5) (t := 11) (n := 0) (s := zslots 11) (show r ≠ gN S5 from by omega)) p5.1.2.2.2.1) rfl) (by omega) (Nat.le_of_ble_eq_true rfl) (C16 _ (fun S18 hF18 e18 j18 t18 p18 g18 => ?_) (fun S19 q19 hF19 e19 k19 x19 g19 => ?_))
      · show zEv d 260 155 [.ref r, .ref w, .int (Int32.ofNat k), .int (Int32.ofNat deep), .int (Int32.ofNat (b + k)), .int 100, .int 0, .ref a5, .retAddr 0] [.ref (gN S5)] S18 post
        exact zv_rt ht rfl rfl rfl rfl (h1 S3 nd3 hF3 e3 k3 p3 g3 b3 c3 d3 S5 a5 y5 at5 nd5 hF5 e5 k5 t5 p5 g5 c5 S18 hF18 e18 j18 t18 p18 g18)
      · exact (h2 S3 nd3 hF3 e3 k3 p3 g3 b3 c3 d3 S5 a5 y5 at5 nd5 hF5 e5 k5 t5 p5 g5 c5 S19 q19 hF19 e19 k19 x19 g19)
    · exact (h3 S3 nd3 hF3 e3 k3 p3 g3 b3 c3 d3 S6 q6 kk6 z6 hF6 e6 k6 x6 g6)
  · exact (h4 S4 q4 hF4 e4 k4 x4 g4)

theorem wrP118 {d : Nat} {S : zS} (hF : zFin true S) (hd : 5 ≤ d) {tp : Nat → Nat} {sz at0 nd r : Nat} {rec : Nat → Nat → Nat → pE (zNd × Nat × Nat)} {K n : Nat} {w : Nat} (b e0 wl k deep : Nat) (hR : xR tp sz S r (b + k) nd) (hs0 : sz ≤ 300) (ha0 : (b + k) ≤ sz) (hr1 : 1639 ≤ r) (hr2 : r < gN S) (hN : gN S + 30 * (sz - (b + k)) ≤ 1700000) (hdp : deep < 1000) (hnd : nd ≤ 80) (hw : xWd S w (pWl tp b e0)) (hwN : w < gN S) (hwl : (pWl tp b e0).length = wl) (hel : e0 = b + wl) (hes : e0 < sz) (hk0 : 0 < k) (hk : k < wl) (hcc : (pWl tp b e0).getD k 0 = 118) (hIH : deep ≤ 24 → xWr tp sz (d - 1) w b e0 rec n (k + 1) (deep + 1)) {post : Outcome × zS → Prop} (h1 : ∀ S3 : zS, ∀ nd3 : Nat, (zFin true S3) → (pRead (b + k) deep nd false = .ok nd3) → (xFr S S3) → (xR tp sz S3 r (b + k) nd3) → (gN S ≤ gN S3 ∧ gN S3 ≤ gN S + 0 ∧ gZ S3 ≤ gZ S + 0) → ((b + k) ≤ sz) → (nd3 ≤ 80) → (deep ≤ 24) → ∀ S5 : zS, ∀ a5 : Nat, ∀ y5 : zNd, ∀ at5 : Nat, ∀ nd5 : Nat, (zFin true S5) → (pWx tp sz rec n ((b + k) + 1) (deep + 1) e0 nd3 = .ok (y5, at5, nd5)) → (xFr (sI S3 133 r (Int32.ofNat ((b + k) + 1))) S5) → (xTl (gN S3) S5 y5 a5) → (xR tp sz S5 r at5 nd5) → (gN S3 ≤ gN S5 ∧ gN S5 + 30 * (sz - at5) ≤ gN S3 + 30 * (sz - e0) + 2 * (e0 - ((b + k) + 1)) ∧ gZ S5 + 150 * (sz - at5) ≤ gZ S3 + 150 * (sz - e0) + 60 * (e0 - ((b + k) + 1))) → (at5 ≤ sz ∧ gN S3 ≤ a5 ∧ a5 < gN S5) → ∀ S18 : zS, (zFin true S18) → (pJ (tN 23 0 [] (b + k) [y5]) = .ok (tN 23 0 [] (b + k) [y5])) → (xJd (sP (sI (sI (sP (sNew S5 11 0 (zslots 11)) 162 (gN S5) (some 0)) 144 (gN S5) (Int32.ofNat (b + k))) 160 (gN S5) 118) 161 (gN S5) (some a5)) (gN S5) S18) → (xTl (gN S) S18 (tN 23 0 [] (b + k) [y5]) (gN S5)) → (xR tp sz S18 r at5 nd5) → (gN S18 = gN S5 + 1 ∧ gZ S18 = gZ S5 + 19) → post (.returned (some (.ref (gN S5))), S18)) (h2 : ∀ S3 : zS, ∀ nd3 : Nat, (zFin true S3) → (pRead (b + k) deep nd false = .ok nd3) → (xFr S S3) → (xR tp sz S3 r (b + k) nd3) → (gN S ≤ gN S3 ∧ gN S3 ≤ gN S + 0 ∧ gZ S3 ≤ gZ S + 0) → ((b + k) ≤ sz) → (nd3 ≤ 80) → (deep ≤ 24) → ∀ S5 : zS, ∀ a5 : Nat, ∀ y5 : zNd, ∀ at5 : Nat, ∀ nd5 : Nat, (zFin true S5) → (pWx tp sz rec n ((b + k) + 1) (deep + 1) e0 nd3 = .ok (y5, at5, nd5)) → (xFr (sI S3 133 r (Int32.ofNat ((b + k) + 1))) S5) → (xTl (gN S3) S5 y5 a5) → (xR tp sz S5 r at5 nd5) → (gN S3 ≤ gN S5 ∧ gN S5 + 30 * (sz - at5) ≤ gN S3 + 30 * (sz - e0) + 2 * (e0 - ((b + k) + 1)) ∧ gZ S5 + 150 * (sz - at5) ≤ gZ S3 + 150 * (sz - e0) + 60 * (e0 - ((b + k) + 1))) → (at5 ≤ sz ∧ gN S3 ≤ a5 ∧ a5 < gN S5) → ∀ S19 : zS, ∀ q19 : Nat, (zFin true S19) → (pJ (tN 23 0 [] (b + k) [y5]) = .error (3, (b + k))) → (xFn (sP (sI (sI (sP (sNew S5 11 0 (zslots 11)) 162 (gN S5) (some 0)) 144 (gN S5) (Int32.ofNat (b + k))) 160 (gN S5) 118) 161 (gN S5) (some a5)) (gN S5) S19) → (xFl S19 q19 3 (b + k)) → (gN S19 = gN S5 + 1 + 1 ∧ gZ S19 ≤ gZ S5 + 19 + 3) → post (.threw q19, S19)) (h3 : ∀ S3 : zS, ∀ nd3 : Nat, (zFin true S3) → (pRead (b + k) deep nd false = .ok nd3) → (xFr S S3) → (xR tp sz S3 r (b + k) nd3) → (gN S ≤ gN S3 ∧ gN S3 ≤ gN S + 0 ∧ gZ S3 ≤ gZ S + 0) → ((b + k) ≤ sz) → (nd3 ≤ 80) → (deep ≤ 24) → ∀ S6 : zS, ∀ q6 : Nat, ∀ kk6 : Nat, ∀ z6 : Nat, (zFin true S6) → (pWx tp sz rec n ((b + k) + 1) (deep + 1) e0 nd3 = .error (kk6, z6)) → (xFr (sI S3 133 r (Int32.ofNat ((b + k) + 1))) S6) → (xFl S6 q6 kk6 z6) → (gN S3 ≤ gN S6 ∧ gN S6 ≤ gN S3 + 30 * (sz - e0) + 2 * (e0 - ((b + k) + 1)) + 60 ∧ gZ S6 ≤ gZ S3 + 150 * (sz - e0) + 60 * (e0 - ((b + k) + 1)) + 2000) → post (.threw q6, S6)) (h4 : ∀ S4 : zS, ∀ q4 : Nat, (zFin true S4) → (pRead (b + k) deep nd false = .error (2, (b + k))) → (xFr S S4) → (xFl S4 q4 2 (b + k)) → (gN S ≤ gN S4 ∧ gN S4 ≤ gN S + 1 ∧ gZ S4 ≤ gZ S + 3) → post (.threw q4, S4)) : zCall d 260 [.ref r, .ref w, .int (Int32.ofNat k), .int (Int32.ofNat deep)] S post := by
  have ht : ztab 260 = ztb260 := rfl
  show zEv d 260 0 [.ref r, .ref w, .int (Int32.ofNat k), .int (Int32.ofNat deep), .retAddr 0, .retAddr 0, .retAddr 0, .retAddr 0, .retAddr 0] [] S post
  refine zv_c1 ht rfl rfl ?_
  refine zv_ei (x := Int32.ofNat (b + k)) ht rfl rfl (zhas_of (hR.1.2.2.2.1) rfl) hR.1.1 ?_
  refine zv_c2 (L' := [.ref r, .ref w, .int (Int32.ofNat k), .int (Int32.ofNat deep), .int (Int32.ofNat (b + k)), .retAddr 0, .retAddr 0, .retAddr 0, .retAddr 0]) ht rfl rfl ?_
  refine zv_c1 ht rfl rfl (zv_c1 ht rfl rfl ?_)
  refine zv_cl ht rfl rfl rfl (zv_tgv ((zStr.t hw.1)) rfl) (by omega) (Nat.le_of_ble_eq_true rfl) (x_len (S := S) hF (by omega) hw.1 (n := wl) hwl ?_)
  show zEv d 260 11 [.ref r, .ref w, .int (Int32.ofNat k), .int (Int32.ofNat deep), .int (Int32.ofNat (b + k)), .retAddr 0, .retAddr 0, .retAddr 0, .retAddr 0] [.int (Int32.ofNat wl), .int (Int32.ofNat k)] S post
  refine zv_br ht rfl rfl rfl (fun b1 => ?_) (fun b1 => (show False from by have hq := b1; have hz : k = wl := (zi_eqE (a := k) (b := wl) rfl rfl (by omega) (by omega)).mp (Classical.not_not.mp hq); omega).elim)
  refine zv_c1 ht rfl rfl (zv_c1 ht rfl rfl ?_)
  refine zv_cl ht rfl rfl rfl (zv_tgv ((zStr.t hw.1)) rfl) (by omega) (Nat.le_of_ble_eq_true rfl) (x_char (S := S) hF (by omega) hw.1 (i := k) (by omega) (c := 118) hcc ?_)
  show zEv d 260 39 [.ref r, .ref w, .int (Int32.ofNat k), .int (Int32.ofNat deep), .int (Int32.ofNat (b + k)), .retAddr 0, .retAddr 0, .retAddr 0, .retAddr 0] [.int 118] S post
  refine zv_c2 (L' := [.ref r, .ref w, .int (Int32.ofNat k), .int (Int32.ofNat deep), .int (Int32.ofNat (b + k)), .int 118, .retAddr 0, .retAddr 0, .retAddr 0]) ht rfl rfl ?_
  refine zv_c1 ht rfl rfl (zv_c1 ht rfl rfl ?_)
  refine zv_br ht rfl rfl rfl (fun h => absurd h (by decide)) (fun _ => ?_)
  refine zv_c1 ht rfl rfl (zv_c1 ht rfl rfl ?_)
  refine zv_br ht rfl rfl rfl (fun h => absurd h (by decide)) (fun _ => ?_)
  refine zv_c1 ht rfl rfl (zv_c1 ht rfl rfl ?_)
  refine zv_br ht rfl rfl rfl (fun _ => ?_) (fun h => absurd (by decide) h)
  refine zv_c1 ht rfl rfl ?_
  refine zv_c2 (L' := [.ref r, .ref w, .int (Int32.ofNat k), .int (Int32.ofNat deep), .int (Int32.ofNat (b + k)), .int 118, .int 0, .retAddr 0, .retAddr 0]) ht rfl rfl ?_
  refine zv_c1 ht rfl rfl ?_
  refine zv_br ht rfl rfl rfl (fun b2 => ?_) (fun b2 => (show False from by have hq := b2; have hz : k = 0 := (zi_eqE (a := k) (b := 0) rfl rfl (by omega) (by omega)).mp (Classical.not_not.mp hq); omega).elim)
  refine zv_c1 ht rfl rfl (zv_c1 ht rfl rfl (zv_c1 ht rfl rfl ?_))
  refine zv_br ht rfl rfl rfl (fun _ => ?_) (fun h => absurd (by decide) h)
  refine zv_c1 ht rfl rfl (zv_c1 ht rfl rfl ?_)
  refine zv_br ht rfl rfl rfl (fun _ => ?_) (fun h => absurd (by decide) h)
  refine zv_c1 ht rfl rfl ?_
  refine zv_cl ht rfl rfl rfl (zv_tgv (hR.1.2.2.2.1) rfl) (by omega) (Nat.le_of_ble_eq_true rfl) (x_begins (S := S) (tp := tp) (sz := sz) (r := r) (p := (b + k)) (dp := deep) (m := 1) (dq := deep) (two := false) hF (by omega) hR (by omega) (by omega) (by omega) (by omega) rfl rfl (fun S3 nd3 hF3 e3 k3 p3 g3 b3 c3 d3 => ?_) (fun S4 q4 hF4 e4 k4 x4 g4 => ?_))
  · show zEv d 260 106 [.ref r, .ref w, .int (Int32.ofNat k), .int (Int32.ofNat deep), .int (Int32.ofNat (b + k)), .int 118, .int 0, .retAddr 0, .retAddr 0] [] S3 post
    refine zv_c1 ht rfl rfl (zv_c1 ht rfl rfl ?_)
    refine zv_ei (x := Int32.ofNat (b + k)) ht rfl rfl (zhas_of (p3.1.2.2.2.1) rfl) p3.1.1 ?_
    refine zv_c1 ht rfl rfl ?_
    refine zv_e1 (x := Int32.ofNat ((b + k) + 1)) ht rfl rfl (zi_addE (a := (b + k)) (b := 1) rfl rfl) ?_
    refine zv_ci (S' := sI S3 133 r (Int32.ofNat ((b + k) + 1))) ht rfl rfl ⟨(zhas_of (p3.1.2.2.2.1) rfl), (show r < gN S3 from by omega)⟩ ?_
    refine zv_c1 ht rfl rfl (zv_c1 ht rfl rfl (zv_c1 ht rfl rfl (zv_c1 ht rfl rfl ?_)))
    refine zv_e1 (x := Int32.ofNat (k + 1)) ht rfl rfl (zi_addE (a := k) (b := 1) rfl rfl) ?_
    refine zv_c1 ht rfl rfl (zv_c1 ht rfl rfl ?_)
    refine zv_e1 (x := Int32.ofNat (deep + 1)) ht rfl rfl (zi_addE (a := deep) (b := 1) rfl rfl) ?_
    refine zv_cl ht rfl rfl rfl (zv_tgv (p3.1.2.2.2.1) rfl) (by omega) (Nat.le_of_ble_eq_true rfl) (xEc.use (g := gN S3) (cN := gN S3 + 30 * (sz - e0) + 2 * (e0 - ((b + k) + 1))) (cZ := gZ S3 + 150 * (sz - e0) + 60 * (e0 - ((b + k) + 1))) rfl ((hIH (by omega)) (S := sI S3 133 r (Int32.ofNat ((b + k) + 1))) (r := r) hF3 (xR_at p3 (by omega)) (xWd.k hw (zKE.tr (zKE.tr zKE.rf (zKE.w k3 (show gN S ≤ gN S from by omega) (fun _ h => h) (fun _ h => h))) (zKE_sI (Or.inl (by decide))))) (by omega) (by omega)) (fun S5 a5 y5 at5 nd5 hF5 e5 k5 t5 p5 g5 c5 => ?_) (fun S6 q6 kk6 z6 hF6 e6 k6 x6 g6 => ?_))
    · show zEv d 260 127 [.ref r, .ref w, .int (Int32.ofNat k), .int (Int32.ofNat deep), .int (Int32.ofNat (b + k)), .int 118, .int 0, .retAddr 0, .retAddr 0] [.ref a5] S5 post
      refine zv_c2 (L' := [.ref r, .ref w, .int (Int32.ofNat k), .int (Int32.ofNat deep), .int (Int32.ofNat (b + k)), .int 118, .int 0, .ref a5, .retAddr 0]) ht rfl rfl ?_
      refine zv_c1 ht rfl rfl ?_
      refine zv_br ht rfl rfl rfl (fun h => absurd h (by decide)) (fun _ => ?_)
      refine zv_c1 ht rfl rfl ?_
      refine zv_ci (st' := [.ref (gN S5), .ref r]) (S' := sNew S5 11 0 (zslots 11)) ht rfl rfl (znew_ok (show 1639 ≤ gN S5 from by omega) (show gN S5 < 2000000 from by omega)) ?_
      refine zv_c1 ht rfl rfl (zv_c1 ht rfl rfl ?_)
      refine zv_g3 (q := 0) ht rfl (zFin_new hF5) rfl rfl (zhas_of (Eq.trans (ztyp_new (S := S5) (t := 11) (n := 0) (s := zslots 11) (show r ≠ gN S5 from by omega)) p5.1.2.2.2.1) rfl) (Eq.trans (gP_new (S := S5) (t := 11) (n := 0) (s := zslots 11) (show r ≠ gN S5 from by omega)) p5.1.2.2.2.2) ?_
      refine zv_c1 ht rfl rfl (zv_c1 ht rfl rfl (zv_c1 ht rfl rfl ?_))
      have C8 : ∀ (pst7 : Outcome × zS → Prop), (pst7 (.returned none, sP (sI (sI (sP (sNew S5 11 0 (zslots 11)) 162 (gN S5) (some 0)) 144 (gN S5) (Int32.ofNat (b + k))) 160 (gN S5) 118) 161 (gN S5) (some a5))) → zCall (d - 1) 295 [.ref (gN S5), .ref 0, .int (Int32.ofNat (b + k)), .int 118, .ref a5] (sNew S5 11 0 (zslots 11)) pst7 := by
        intro pst7 k14
        have ht9 : ztab 295 = ztb295 := rfl
        show zEv (d - 1) 295 0 [.ref (gN S5), .ref 0, .int (Int32.ofNat (b + k)), .int 118, .ref a5] [] (sNew S5 11 0 (zslots 11)) pst7
        refine zv_c1 ht9 rfl rfl (zv_c1 ht9 rfl rfl ?_)
        refine zv_ci (S' := sP (sNew S5 11 0 (zslots 11)) 162 (gN S5) (some 0)) ht9 rfl rfl ⟨(zhas_of (ztyp_new_at (S := S5) (t := 11) (n := 0) (s := zslots 11) (show 1639 ≤ gN S5 from by omega)) rfl), (show gN S5 < gN S5 + 1 from by omega)⟩ ?_
        refine zv_c1 ht9 rfl rfl (zv_c1 ht9 rfl rfl (zv_c1 ht9 rfl rfl ?_))
        have C11 : ∀ (pst10 : Outcome × zS → Prop), (pst10 (.returned none, sI (sP (sNew S5 11 0 (zslots 11)) 162 (gN S5) (some 0)) 144 (gN S5) (Int32.ofNat (b + k)))) → zCall ((d - 1) - 1) 280 [.ref (gN S5), .ref 0, .int (Int32.ofNat (b + k))] (sP (sNew S5 11 0 (zslots 11)) 162 (gN S5) (some 0)) pst10 := by
          intro pst10 k13
          have ht12 : ztab 280 = ztb280 := rfl
          show zEv ((d - 1) - 1) 280 0 [.ref (gN S5), .ref 0, .int (Int32.ofNat (b + k))] [] (sP (sNew S5 11 0 (zslots 11)) 162 (gN S5) (some 0)) pst10
          refine zv_c1 ht12 rfl rfl (zv_c1 ht12 rfl rfl ?_)
          refine zv_ci (S' := sP (sNew S5 11 0 (zslots 11)) 162 (gN S5) (some 0)) ht12 rfl rfl (zk5 (ztyp_new_at (S := S5) (t := 11) (n := 0) (s := zslots 11) (show 1639 ≤ gN S5 from by omega)) rfl (show gN S5 < gN S5 + 1 from by omega) rfl gP_sP_at) ?_
          refine zv_c1 ht12 rfl rfl (zv_c1 ht12 rfl rfl (zv_c1 ht12 rfl rfl (zv_c1 ht12 rfl rfl ?_)))
          refine zv_ci (S' := sI (sP (sNew S5 11 0 (zslots 11)) 162 (gN S5) (some 0)) 144 (gN S5) (Int32.ofNat (b + k))) ht12 rfl rfl ⟨(zhas_of (ztyp_new_at (S := S5) (t := 11) (n := 0) (s := zslots 11) (show 1639 ≤ gN S5 from by omega)) rfl), (show gN S5 < gN S5 + 1 from by omega)⟩ ?_
          exact zv_rt ht12 rfl rfl rfl rfl k13
        refine zv_cl ht9 rfl rfl rfl rfl (by omega) (Nat.le_of_ble_eq_true rfl) (C11 _ ?_)
        show zEv (d - 1) 295 11 [.ref (gN S5), .ref 0, .int (Int32.ofNat (b + k)), .int 118, .ref a5] [] (sI (sP (sNew S5 11 0 (zslots 11)) 162 (gN S5) (some 0)) 144 (gN S5) (Int32.ofNat (b + k))) pst7
        refine zv_c1 ht9 rfl rfl (zv_c1 ht9 rfl rfl ?_)
        refine zv_ci (S' := sI (sI (sP (sNew S5 11 0 (zslots 11)) 162 (gN S5) (some 0)) 144 (gN S5) (Int32.ofNat (b + k))) 160 (gN S5) 118) ht9 rfl rfl ⟨⟨(zhas_of (ztyp_new_at (S := S5) (t := 11) (n := 0) (s := zslots 11) (show 1639 ≤ gN S5 from by omega)) rfl), (show gN S5 < gN S5 + 1 from by omega)⟩, (by decide)⟩ ?_
        refine zv_c1 ht9 rfl rfl (zv_c1 ht9 rfl rfl ?_)
        refine zv_ci (S' := sP (sI (sI (sP (sNew S5 11 0 (zslots 11)) 162 (gN S5) (some 0)) 144 (gN S5) (Int32.ofNat (b + k))) 160 (gN S5) 118) 161 (gN S5) (some a5)) ht9 rfl rfl ⟨(zhas_of (ztyp_new_at (S := S5) (t := 11) (n := 0) (s := zslots 11) (show 1639 ≤ gN S5 from by omega)) rfl), (show gN S5 < gN S5 + 1 from by omega)⟩ ?_
        exact zv_rt ht9 rfl rfl rfl rfl k14
      refine zv_cl ht rfl rfl rfl rfl (by omega) (Nat.le_of_ble_eq_true rfl) (C8 _ ?_)
      show zEv d 260 152 [.ref r, .ref w, .int (Int32.ofNat k), .int (Int32.ofNat deep), .int (Int32.ofNat (b + k)), .int 118, .int 0, .ref a5, .retAddr 0] [.ref (gN S5), .ref r] (sP (sI (sI (sP (sNew S5 11 0 (zslots 11)) 162 (gN S5) (some 0)) 144 (gN S5) (Int32.ofNat (b + k))) 160 (gN S5) 118) 161 (gN S5) (some a5)) post
      have C16 : ∀ (pst15 : Outcome × zS → Prop), (∀ S18 : zS, (zFin true S18) → (pJ (tN 23 0 [] (b + k) [y5]) = .ok (tN 23 0 [] (b + k) [y5])) → (xJd (sP (sI (sI (sP (sNew S5 11 0 (zslots 11)) 162 (gN S5) (some 0)) 144 (gN S5) (Int32.ofNat (b + k))) 160 (gN S5) 118) 161 (gN S5) (some a5)) (gN S5) S18) → (xTl (gN S) S18 (tN 23 0 [] (b + k) [y5]) (gN S5)) → (xR tp sz S18 r at5 nd5) → (gN S18 = gN S5 + 1 ∧ gZ S18 = gZ S5 + 19) → pst15 (.returned (some (.ref (gN S5))), S18)) → (∀ S19 : zS, ∀ q19 : Nat, (zFin true S19) → (pJ (tN 23 0 [] (b + k) [y5]) = .error (3, (b + k))) → (xFn (sP (sI (sI (sP (sNew S5 11 0 (zslots 11)) 162 (gN S5) (some 0)) 144 (gN S5) (Int32.ofNat (b + k))) 160 (gN S5) 118) 161 (gN S5) (some a5)) (gN S5) S19) → (xFl S19 q19 3 (b + k)) → (gN S19 = gN S5 + 1 + 1 ∧ gZ S19 ≤ gZ S5 + 19 + 3) → pst15 (.threw q19, S19)) → zCall (d - 1) 253 [.ref r, .ref (gN S5)] (sP (sI (sI (sP (sNew S5 11 0 (zslots 11)) 162 (gN S5) (some 0)) 144 (gN S5) (Int32.ofNat (b + k))) 160 (gN S5) 118) 161 (gN S5) (some a5)) pst15 := by
        intro pst15 k20 k21
        have ht17 : ztab 253 = ztb253 := rfl
        show zEv (d - 1) 253 0 [.ref r, .ref (gN S5)] [] (sP (sI (sI (sP (sNew S5 11 0 (zslots 11)) 162 (gN S5) (some 0)) 144 (gN S5) (Int32.ofNat (b + k))) 160 (gN S5) 118) 161 (gN S5) (some a5)) pst15
        refine zv_c1 ht17 rfl rfl ?_
        refine zv_cl ht17 rfl rfl rfl (zv_tgm (ztyp_new_at (S := S5) (t := 11) (n := 0) (s := zslots 11) (show 1639 ≤ gN S5 from by omega)) rfl) (by omega) (Nat.le_of_ble_eq_true rfl) (x_judgeR (S := sP (sI (sI (sP (sNew S5 11 0 (zslots 11)) 162 (gN S5) (some 0)) 144 (gN S5) (Int32.ofNat (b + k))) 160 (gN S5) 118) 161 (gN S5) (some a5)) (tp := tp) (sz := sz) (r := r) (a := gN S5) (k := 23) (v := 0) (p := (b + k)) (ks := []) (js := [a5]) (cs := [y5]) (g := gN S5 + 1) (lo := gN S) (zFin_sP (zFin_sP (zFin_new hF5) rfl) rfl) (by omega) (by omega) (by omega) (by omega) (by omega) rfl (xOwn_W (by decide) (ztyp_new_at (S := S5) (t := 11) (n := 0) (s := zslots 11) (show 1639 ≤ gN S5 from by omega)) (gI_sI_at) (gP_sP_at)) ⟨a5, _, rfl, (xTl.ch t5 (zKE.tr (zKE.tr (zKE.tr (zKE.tr (zKE.tr zKE.rf (zKE_new (show gN S5 ≤ gN S5 ∧ gN S5 < zLB from ⟨by omega, by have hLB : zLB = 4294967296 := rfl; omega⟩))) (zKE_sP (Or.inr (Or.inr ⟨by omega, by have hLB : zLB = 4294967296 := rfl; omega⟩)))) (zKE_sI (Or.inr (Or.inr ⟨by omega, by have hLB : zLB = 4294967296 := rfl; omega⟩)))) (zKE_sI (Or.inr (Or.inr ⟨by omega, by have hLB : zLB = 4294967296 := rfl; omega⟩)))) (zKE_sP (Or.inr (Or.inr ⟨by omega, by have hLB : zLB = 4294967296 := rfl; omega⟩)))) (by omega) (by intro j h1 h2; omega)), rfl⟩ (by decide) (by omega) (gI_sI_at) (gI_new_at (S := S5) (t := 11) (n := 0) (s := zslots 11)) (gI_new_at (S := S5) (t := 11) (n := 0) (s := zslots 11)) (xR.ke (Fs := []) p5 (zKE.tr (zKE.tr (zKE.tr (zKE.tr (zKE.tr zKE.rf (zKE_new (show gN S5 ≤ gN S5 ∧ gN S5 < zLB from ⟨by omega, by have hLB : zLB = 4294967296 := rfl; omega⟩))) (zKE_sP (Or.inr (Or.inr ⟨by omega, by have hLB : zLB = 4294967296 := rfl; omega⟩)))) (zKE_sI (Or.inr (Or.inr ⟨by omega, by have hLB : zLB = 4294967296 := rfl; omega⟩)))) (zKE_sI (Or.inr (Or.inr ⟨by omega, by have hLB : zLB = 4294967296 := rfl; omega⟩)))) (zKE_sP (Or.inr (Or.inr ⟨by omega, by have hLB : zLB = 4294967296 := rfl; omega⟩)))) (by omega) (by decide)) (by omega) (fun S18 hF18 e18 j18 t18 p18 g18 => ?_) (fun S19 q19 hF19 e19 k19 x19 g19 => ?_))
        · show zEv (d - 1) 253 4 [.ref r, .ref (gN S5)] [] S18 pst15
          refine zv_c1 ht17 rfl rfl ?_
          exact zv_rt ht17 rfl rfl rfl rfl (k20 S18 hF18 e18 j18 t18 p18 g18)
        · exact (k21 S19 q19 hF19 e19 k19 x19 g19)
      refine zv_cl ht rfl rfl rfl (zv_tgv (Eq.trans (ztyp_new (S := S5) (t := 11) (n := 0) (s := zslots 11) (show r ≠ gN S5 from by omega)) p5.1.2.2.2.1) rfl) (by omega) (Nat.le_of_ble_eq_true rfl) (C16 _ (fun S18 hF18 e18 j18 t18 p18 g18 => ?_) (fun S19 q19 hF19 e19 k19 x19 g19 => ?_))
      · show zEv d 260 155 [.ref r, .ref w, .int (Int32.ofNat k), .int (Int32.ofNat deep), .int (Int32.ofNat (b + k)), .int 118, .int 0, .ref a5, .retAddr 0] [.ref (gN S5)] S18 post
        exact zv_rt ht rfl rfl rfl rfl (h1 S3 nd3 hF3 e3 k3 p3 g3 b3 c3 d3 S5 a5 y5 at5 nd5 hF5 e5 k5 t5 p5 g5 c5 S18 hF18 e18 j18 t18 p18 g18)
      · exact (h2 S3 nd3 hF3 e3 k3 p3 g3 b3 c3 d3 S5 a5 y5 at5 nd5 hF5 e5 k5 t5 p5 g5 c5 S19 q19 hF19 e19 k19 x19 g19)
    · exact (h3 S3 nd3 hF3 e3 k3 p3 g3 b3 c3 d3 S6 q6 kk6 z6 hF6 e6 k6 x6 g6)
  · exact (h4 S4 q4 hF4 e4 k4 x4 g4)

theorem wrP106 {d : Nat} {S : zS} (hF : zFin true S) (hd : 5 ≤ d) {tp : Nat → Nat} {sz at0 nd r : Nat} {rec : Nat → Nat → Nat → pE (zNd × Nat × Nat)} {K n : Nat} {w : Nat} (b e0 wl k deep : Nat) (hR : xR tp sz S r (b + k) nd) (hs0 : sz ≤ 300) (ha0 : (b + k) ≤ sz) (hr1 : 1639 ≤ r) (hr2 : r < gN S) (hN : gN S + 30 * (sz - (b + k)) ≤ 1700000) (hdp : deep < 1000) (hnd : nd ≤ 80) (hw : xWd S w (pWl tp b e0)) (hwN : w < gN S) (hwl : (pWl tp b e0).length = wl) (hel : e0 = b + wl) (hes : e0 < sz) (hk0 : 0 < k) (hk : k < wl) (hcc : (pWl tp b e0).getD k 0 = 106) (hIH : deep ≤ 24 → xWr tp sz (d - 1) w b e0 rec n (k + 1) (deep + 1)) {post : Outcome × zS → Prop} (h1 : ∀ S3 : zS, ∀ nd3 : Nat, (zFin true S3) → (pRead (b + k) deep nd false = .ok nd3) → (xFr S S3) → (xR tp sz S3 r (b + k) nd3) → (gN S ≤ gN S3 ∧ gN S3 ≤ gN S + 0 ∧ gZ S3 ≤ gZ S + 0) → ((b + k) ≤ sz) → (nd3 ≤ 80) → (deep ≤ 24) → ∀ S5 : zS, ∀ a5 : Nat, ∀ y5 : zNd, ∀ at5 : Nat, ∀ nd5 : Nat, (zFin true S5) → (pWx tp sz rec n ((b + k) + 1) (deep + 1) e0 nd3 = .ok (y5, at5, nd5)) → (xFr (sI S3 133 r (Int32.ofNat ((b + k) + 1))) S5) → (xTl (gN S3) S5 y5 a5) → (xR tp sz S5 r at5 nd5) → (gN S3 ≤ gN S5 ∧ gN S5 + 30 * (sz - at5) ≤ gN S3 + 30 * (sz - e0) + 2 * (e0 - ((b + k) + 1)) ∧ gZ S5 + 150 * (sz - at5) ≤ gZ S3 + 150 * (sz - e0) + 60 * (e0 - ((b + k) + 1))) → (at5 ≤ sz ∧ gN S3 ≤ a5 ∧ a5 < gN S5) → ∀ S18 : zS, (zFin true S18) → (pJ (tN 24 0 [] (b + k) [y5]) = .ok (tN 24 0 [] (b + k) [y5])) → (xJd (sP (sI (sI (sP (sNew S5 11 0 (zslots 11)) 162 (gN S5) (some 0)) 144 (gN S5) (Int32.ofNat (b + k))) 160 (gN S5) 106) 161 (gN S5) (some a5)) (gN S5) S18) → (xTl (gN S) S18 (tN 24 0 [] (b + k) [y5]) (gN S5)) → (xR tp sz S18 r at5 nd5) → (gN S18 = gN S5 + 1 ∧ gZ S18 = gZ S5 + 19) → post (.returned (some (.ref (gN S5))), S18)) (h2 : ∀ S3 : zS, ∀ nd3 : Nat, (zFin true S3) → (pRead (b + k) deep nd false = .ok nd3) → (xFr S S3) → (xR tp sz S3 r (b + k) nd3) → (gN S ≤ gN S3 ∧ gN S3 ≤ gN S + 0 ∧ gZ S3 ≤ gZ S + 0) → ((b + k) ≤ sz) → (nd3 ≤ 80) → (deep ≤ 24) → ∀ S5 : zS, ∀ a5 : Nat, ∀ y5 : zNd, ∀ at5 : Nat, ∀ nd5 : Nat, (zFin true S5) → (pWx tp sz rec n ((b + k) + 1) (deep + 1) e0 nd3 = .ok (y5, at5, nd5)) → (xFr (sI S3 133 r (Int32.ofNat ((b + k) + 1))) S5) → (xTl (gN S3) S5 y5 a5) → (xR tp sz S5 r at5 nd5) → (gN S3 ≤ gN S5 ∧ gN S5 + 30 * (sz - at5) ≤ gN S3 + 30 * (sz - e0) + 2 * (e0 - ((b + k) + 1)) ∧ gZ S5 + 150 * (sz - at5) ≤ gZ S3 + 150 * (sz - e0) + 60 * (e0 - ((b + k) + 1))) → (at5 ≤ sz ∧ gN S3 ≤ a5 ∧ a5 < gN S5) → ∀ S19 : zS, ∀ q19 : Nat, (zFin true S19) → (pJ (tN 24 0 [] (b + k) [y5]) = .error (3, (b + k))) → (xFn (sP (sI (sI (sP (sNew S5 11 0 (zslots 11)) 162 (gN S5) (some 0)) 144 (gN S5) (Int32.ofNat (b + k))) 160 (gN S5) 106) 161 (gN S5) (some a5)) (gN S5) S19) → (xFl S19 q19 3 (b + k)) → (gN S19 = gN S5 + 1 + 1 ∧ gZ S19 ≤ gZ S5 + 19 + 3) → post (.threw q19, S19)) (h3 : ∀ S3 : zS, ∀ nd3 : Nat, (zFin true S3) → (pRead (b + k) deep nd false = .ok nd3) → (xFr S S3) → (xR tp sz S3 r (b + k) nd3) → (gN S ≤ gN S3 ∧ gN S3 ≤ gN S + 0 ∧ gZ S3 ≤ gZ S + 0) → ((b + k) ≤ sz) → (nd3 ≤ 80) → (deep ≤ 24) → ∀ S6 : zS, ∀ q6 : Nat, ∀ kk6 : Nat, ∀ z6 : Nat, (zFin true S6) → (pWx tp sz rec n ((b + k) + 1) (deep + 1) e0 nd3 = .error (kk6, z6)) → (xFr (sI S3 133 r (Int32.ofNat ((b + k) + 1))) S6) → (xFl S6 q6 kk6 z6) → (gN S3 ≤ gN S6 ∧ gN S6 ≤ gN S3 + 30 * (sz - e0) + 2 * (e0 - ((b + k) + 1)) + 60 ∧ gZ S6 ≤ gZ S3 + 150 * (sz - e0) + 60 * (e0 - ((b + k) + 1)) + 2000) → post (.threw q6, S6)) (h4 : ∀ S4 : zS, ∀ q4 : Nat, (zFin true S4) → (pRead (b + k) deep nd false = .error (2, (b + k))) → (xFr S S4) → (xFl S4 q4 2 (b + k)) → (gN S ≤ gN S4 ∧ gN S4 ≤ gN S + 1 ∧ gZ S4 ≤ gZ S + 3) → post (.threw q4, S4)) : zCall d 260 [.ref r, .ref w, .int (Int32.ofNat k), .int (Int32.ofNat deep)] S post := by
  have ht : ztab 260 = ztb260 := rfl
  show zEv d 260 0 [.ref r, .ref w, .int (Int32.ofNat k), .int (Int32.ofNat deep), .retAddr 0, .retAddr 0, .retAddr 0, .retAddr 0, .retAddr 0] [] S post
  refine zv_c1 ht rfl rfl ?_
  refine zv_ei (x := Int32.ofNat (b + k)) ht rfl rfl (zhas_of (hR.1.2.2.2.1) rfl) hR.1.1 ?_
  refine zv_c2 (L' := [.ref r, .ref w, .int (Int32.ofNat k), .int (Int32.ofNat deep), .int (Int32.ofNat (b + k)), .retAddr 0, .retAddr 0, .retAddr 0, .retAddr 0]) ht rfl rfl ?_
  refine zv_c1 ht rfl rfl (zv_c1 ht rfl rfl ?_)
  refine zv_cl ht rfl rfl rfl (zv_tgv ((zStr.t hw.1)) rfl) (by omega) (Nat.le_of_ble_eq_true rfl) (x_len (S := S) hF (by omega) hw.1 (n := wl) hwl ?_)
  show zEv d 260 11 [.ref r, .ref w, .int (Int32.ofNat k), .int (Int32.ofNat deep), .int (Int32.ofNat (b + k)), .retAddr 0, .retAddr 0, .retAddr 0, .retAddr 0] [.int (Int32.ofNat wl), .int (Int32.ofNat k)] S post
  refine zv_br ht rfl rfl rfl (fun b1 => ?_) (fun b1 => (show False from by have hq := b1; have hz : k = wl := (zi_eqE (a := k) (b := wl) rfl rfl (by omega) (by omega)).mp (Classical.not_not.mp hq); omega).elim)
  refine zv_c1 ht rfl rfl (zv_c1 ht rfl rfl ?_)
  refine zv_cl ht rfl rfl rfl (zv_tgv ((zStr.t hw.1)) rfl) (by omega) (Nat.le_of_ble_eq_true rfl) (x_char (S := S) hF (by omega) hw.1 (i := k) (by omega) (c := 106) hcc ?_)
  show zEv d 260 39 [.ref r, .ref w, .int (Int32.ofNat k), .int (Int32.ofNat deep), .int (Int32.ofNat (b + k)), .retAddr 0, .retAddr 0, .retAddr 0, .retAddr 0] [.int 106] S post
  refine zv_c2 (L' := [.ref r, .ref w, .int (Int32.ofNat k), .int (Int32.ofNat deep), .int (Int32.ofNat (b + k)), .int 106, .retAddr 0, .retAddr 0, .retAddr 0]) ht rfl rfl ?_
  refine zv_c1 ht rfl rfl (zv_c1 ht rfl rfl ?_)
  refine zv_br ht rfl rfl rfl (fun h => absurd h (by decide)) (fun _ => ?_)
  refine zv_c1 ht rfl rfl (zv_c1 ht rfl rfl ?_)
  refine zv_br ht rfl rfl rfl (fun h => absurd h (by decide)) (fun _ => ?_)
  refine zv_c1 ht rfl rfl (zv_c1 ht rfl rfl ?_)
  refine zv_br ht rfl rfl rfl (fun _ => ?_) (fun h => absurd (by decide) h)
  refine zv_c1 ht rfl rfl ?_
  refine zv_c2 (L' := [.ref r, .ref w, .int (Int32.ofNat k), .int (Int32.ofNat deep), .int (Int32.ofNat (b + k)), .int 106, .int 0, .retAddr 0, .retAddr 0]) ht rfl rfl ?_
  refine zv_c1 ht rfl rfl ?_
  refine zv_br ht rfl rfl rfl (fun b2 => ?_) (fun b2 => (show False from by have hq := b2; have hz : k = 0 := (zi_eqE (a := k) (b := 0) rfl rfl (by omega) (by omega)).mp (Classical.not_not.mp hq); omega).elim)
  refine zv_c1 ht rfl rfl (zv_c1 ht rfl rfl (zv_c1 ht rfl rfl ?_))
  refine zv_br ht rfl rfl rfl (fun _ => ?_) (fun h => absurd (by decide) h)
  refine zv_c1 ht rfl rfl (zv_c1 ht rfl rfl ?_)
  refine zv_br ht rfl rfl rfl (fun _ => ?_) (fun h => absurd (by decide) h)
  refine zv_c1 ht rfl rfl ?_
  refine zv_cl ht rfl rfl rfl (zv_tgv (hR.1.2.2.2.1) rfl) (by omega) (Nat.le_of_ble_eq_true rfl) (x_begins (S := S) (tp := tp) (sz := sz) (r := r) (p := (b + k)) (dp := deep) (m := 1) (dq := deep) (two := false) hF (by omega) hR (by omega) (by omega) (by omega) (by omega) rfl rfl (fun S3 nd3 hF3 e3 k3 p3 g3 b3 c3 d3 => ?_) (fun S4 q4 hF4 e4 k4 x4 g4 => ?_))
  · show zEv d 260 106 [.ref r, .ref w, .int (Int32.ofNat k), .int (Int32.ofNat deep), .int (Int32.ofNat (b + k)), .int 106, .int 0, .retAddr 0, .retAddr 0] [] S3 post
    refine zv_c1 ht rfl rfl (zv_c1 ht rfl rfl ?_)
    refine zv_ei (x := Int32.ofNat (b + k)) ht rfl rfl (zhas_of (p3.1.2.2.2.1) rfl) p3.1.1 ?_
    refine zv_c1 ht rfl rfl ?_
    refine zv_e1 (x := Int32.ofNat ((b + k) + 1)) ht rfl rfl (zi_addE (a := (b + k)) (b := 1) rfl rfl) ?_
    refine zv_ci (S' := sI S3 133 r (Int32.ofNat ((b + k) + 1))) ht rfl rfl ⟨(zhas_of (p3.1.2.2.2.1) rfl), (show r < gN S3 from by omega)⟩ ?_
    refine zv_c1 ht rfl rfl (zv_c1 ht rfl rfl (zv_c1 ht rfl rfl (zv_c1 ht rfl rfl ?_)))
    refine zv_e1 (x := Int32.ofNat (k + 1)) ht rfl rfl (zi_addE (a := k) (b := 1) rfl rfl) ?_
    refine zv_c1 ht rfl rfl (zv_c1 ht rfl rfl ?_)
    refine zv_e1 (x := Int32.ofNat (deep + 1)) ht rfl rfl (zi_addE (a := deep) (b := 1) rfl rfl) ?_
    refine zv_cl ht rfl rfl rfl (zv_tgv (p3.1.2.2.2.1) rfl) (by omega) (Nat.le_of_ble_eq_true rfl) (xEc.use (g := gN S3) (cN := gN S3 + 30 * (sz - e0) + 2 * (e0 - ((b + k) + 1))) (cZ := gZ S3 + 150 * (sz - e0) + 60 * (e0 - ((b + k) + 1))) rfl ((hIH (by omega)) (S := sI S3 133 r (Int32.ofNat ((b + k) + 1))) (r := r) hF3 (xR_at p3 (by omega)) (xWd.k hw (zKE.tr (zKE.tr zKE.rf (zKE.w k3 (show gN S ≤ gN S from by omega) (fun _ h => h) (fun _ h => h))) (zKE_sI (Or.inl (by decide))))) (by omega) (by omega)) (fun S5 a5 y5 at5 nd5 hF5 e5 k5 t5 p5 g5 c5 => ?_) (fun S6 q6 kk6 z6 hF6 e6 k6 x6 g6 => ?_))
    · show zEv d 260 127 [.ref r, .ref w, .int (Int32.ofNat k), .int (Int32.ofNat deep), .int (Int32.ofNat (b + k)), .int 106, .int 0, .retAddr 0, .retAddr 0] [.ref a5] S5 post
      refine zv_c2 (L' := [.ref r, .ref w, .int (Int32.ofNat k), .int (Int32.ofNat deep), .int (Int32.ofNat (b + k)), .int 106, .int 0, .ref a5, .retAddr 0]) ht rfl rfl ?_
      refine zv_c1 ht rfl rfl ?_
      refine zv_br ht rfl rfl rfl (fun h => absurd h (by decide)) (fun _ => ?_)
      refine zv_c1 ht rfl rfl ?_
      refine zv_ci (st' := [.ref (gN S5), .ref r]) (S' := sNew S5 11 0 (zslots 11)) ht rfl rfl (znew_ok (show 1639 ≤ gN S5 from by omega) (show gN S5 < 2000000 from by omega)) ?_
      refine zv_c1 ht rfl rfl (zv_c1 ht rfl rfl ?_)
      refine zv_g3 (q := 0) ht rfl (zFin_new hF5) rfl rfl (zhas_of (Eq.trans (ztyp_new (S := S5) (t := 11) (n := 0) (s := zslots 11) (show r ≠ gN S5 from by omega)) p5.1.2.2.2.1) rfl) (Eq.trans (gP_new (S := S5) (t := 11) (n := 0) (s := zslots 11) (show r ≠ gN S5 from by omega)) p5.1.2.2.2.2) ?_
      refine zv_c1 ht rfl rfl (zv_c1 ht rfl rfl (zv_c1 ht rfl rfl ?_))
      have C8 : ∀ (pst7 : Outcome × zS → Prop), (pst7 (.returned none, sP (sI (sI (sP (sNew S5 11 0 (zslots 11)) 162 (gN S5) (some 0)) 144 (gN S5) (Int32.ofNat (b + k))) 160 (gN S5) 106) 161 (gN S5) (some a5))) → zCall (d - 1) 295 [.ref (gN S5), .ref 0, .int (Int32.ofNat (b + k)), .int 106, .ref a5] (sNew S5 11 0 (zslots 11)) pst7 := by
        intro pst7 k14
        have ht9 : ztab 295 = ztb295 := rfl
        show zEv (d - 1) 295 0 [.ref (gN S5), .ref 0, .int (Int32.ofNat (b + k)), .int 106, .ref a5] [] (sNew S5 11 0 (zslots 11)) pst7
        refine zv_c1 ht9 rfl rfl (zv_c1 ht9 rfl rfl ?_)
        refine zv_ci (S' := sP (sNew S5 11 0 (zslots 11)) 162 (gN S5) (some 0)) ht9 rfl rfl ⟨(zhas_of (ztyp_new_at (S := S5) (t := 11) (n := 0) (s := zslots 11) (show 1639 ≤ gN S5 from by omega)) rfl), (show gN S5 < gN S5 + 1 from by omega)⟩ ?_
        refine zv_c1 ht9 rfl rfl (zv_c1 ht9 rfl rfl (zv_c1 ht9 rfl rfl ?_))
        have C11 : ∀ (pst10 : Outcome × zS → Prop), (pst10 (.returned none, sI (sP (sNew S5 11 0 (zslots 11)) 162 (gN S5) (some 0)) 144 (gN S5) (Int32.ofNat (b + k)))) → zCall ((d - 1) - 1) 280 [.ref (gN S5), .ref 0, .int (Int32.ofNat (b + k))] (sP (sNew S5 11 0 (zslots 11)) 162 (gN S5) (some 0)) pst10 := by
          intro pst10 k13
          have ht12 : ztab 280 = ztb280 := rfl
          show zEv ((d - 1) - 1) 280 0 [.ref (gN S5), .ref 0, .int (Int32.ofNat (b + k))] [] (sP (sNew S5 11 0 (zslots 11)) 162 (gN S5) (some 0)) pst10
          refine zv_c1 ht12 rfl rfl (zv_c1 ht12 rfl rfl ?_)
          refine zv_ci (S' := sP (sNew S5 11 0 (zslots 11)) 162 (gN S5) (some 0)) ht12 rfl rfl (zk5 (ztyp_new_at (S := S5) (t := 11) (n := 0) (s := zslots 11) (show 1639 ≤ gN S5 from by omega)) rfl (show gN S5 < gN S5 + 1 from by omega) rfl gP_sP_at) ?_
          refine zv_c1 ht12 rfl rfl (zv_c1 ht12 rfl rfl (zv_c1 ht12 rfl rfl (zv_c1 ht12 rfl rfl ?_)))
          refine zv_ci (S' := sI (sP (sNew S5 11 0 (zslots 11)) 162 (gN S5) (some 0)) 144 (gN S5) (Int32.ofNat (b + k))) ht12 rfl rfl ⟨(zhas_of (ztyp_new_at (S := S5) (t := 11) (n := 0) (s := zslots 11) (show 1639 ≤ gN S5 from by omega)) rfl), (show gN S5 < gN S5 + 1 from by omega)⟩ ?_
          exact zv_rt ht12 rfl rfl rfl rfl k13
        refine zv_cl ht9 rfl rfl rfl rfl (by omega) (Nat.le_of_ble_eq_true rfl) (C11 _ ?_)
        show zEv (d - 1) 295 11 [.ref (gN S5), .ref 0, .int (Int32.ofNat (b + k)), .int 106, .ref a5] [] (sI (sP (sNew S5 11 0 (zslots 11)) 162 (gN S5) (some 0)) 144 (gN S5) (Int32.ofNat (b + k))) pst7
        refine zv_c1 ht9 rfl rfl (zv_c1 ht9 rfl rfl ?_)
        refine zv_ci (S' := sI (sI (sP (sNew S5 11 0 (zslots 11)) 162 (gN S5) (some 0)) 144 (gN S5) (Int32.ofNat (b + k))) 160 (gN S5) 106) ht9 rfl rfl ⟨⟨(zhas_of (ztyp_new_at (S := S5) (t := 11) (n := 0) (s := zslots 11) (show 1639 ≤ gN S5 from by omega)) rfl), (show gN S5 < gN S5 + 1 from by omega)⟩, (by decide)⟩ ?_
        refine zv_c1 ht9 rfl rfl (zv_c1 ht9 rfl rfl ?_)
        refine zv_ci (S' := sP (sI (sI (sP (sNew S5 11 0 (zslots 11)) 162 (gN S5) (some 0)) 144 (gN S5) (Int32.ofNat (b + k))) 160 (gN S5) 106) 161 (gN S5) (some a5)) ht9 rfl rfl ⟨(zhas_of (ztyp_new_at (S := S5) (t := 11) (n := 0) (s := zslots 11) (show 1639 ≤ gN S5 from by omega)) rfl), (show gN S5 < gN S5 + 1 from by omega)⟩ ?_
        exact zv_rt ht9 rfl rfl rfl rfl k14
      refine zv_cl ht rfl rfl rfl rfl (by omega) (Nat.le_of_ble_eq_true rfl) (C8 _ ?_)
      show zEv d 260 152 [.ref r, .ref w, .int (Int32.ofNat k), .int (Int32.ofNat deep), .int (Int32.ofNat (b + k)), .int 106, .int 0, .ref a5, .retAddr 0] [.ref (gN S5), .ref r] (sP (sI (sI (sP (sNew S5 11 0 (zslots 11)) 162 (gN S5) (some 0)) 144 (gN S5) (Int32.ofNat (b + k))) 160 (gN S5) 106) 161 (gN S5) (some a5)) post
      have C16 : ∀ (pst15 : Outcome × zS → Prop), (∀ S18 : zS, (zFin true S18) → (pJ (tN 24 0 [] (b + k) [y5]) = .ok (tN 24 0 [] (b + k) [y5])) → (xJd (sP (sI (sI (sP (sNew S5 11 0 (zslots 11)) 162 (gN S5) (some 0)) 144 (gN S5) (Int32.ofNat (b + k))) 160 (gN S5) 106) 161 (gN S5) (some a5)) (gN S5) S18) → (xTl (gN S) S18 (tN 24 0 [] (b + k) [y5]) (gN S5)) → (xR tp sz S18 r at5 nd5) → (gN S18 = gN S5 + 1 ∧ gZ S18 = gZ S5 + 19) → pst15 (.returned (some (.ref (gN S5))), S18)) → (∀ S19 : zS, ∀ q19 : Nat, (zFin true S19) → (pJ (tN 24 0 [] (b + k) [y5]) = .error (3, (b + k))) → (xFn (sP (sI (sI (sP (sNew S5 11 0 (zslots 11)) 162 (gN S5) (some 0)) 144 (gN S5) (Int32.ofNat (b + k))) 160 (gN S5) 106) 161 (gN S5) (some a5)) (gN S5) S19) → (xFl S19 q19 3 (b + k)) → (gN S19 = gN S5 + 1 + 1 ∧ gZ S19 ≤ gZ S5 + 19 + 3) → pst15 (.threw q19, S19)) → zCall (d - 1) 253 [.ref r, .ref (gN S5)] (sP (sI (sI (sP (sNew S5 11 0 (zslots 11)) 162 (gN S5) (some 0)) 144 (gN S5) (Int32.ofNat (b + k))) 160 (gN S5) 106) 161 (gN S5) (some a5)) pst15 := by
        intro pst15 k20 k21
        have ht17 : ztab 253 = ztb253 := rfl
        show zEv (d - 1) 253 0 [.ref r, .ref (gN S5)] [] (sP (sI (sI (sP (sNew S5 11 0 (zslots 11)) 162 (gN S5) (some 0)) 144 (gN S5) (Int32.ofNat (b + k))) 160 (gN S5) 106) 161 (gN S5) (some a5)) pst15
        refine zv_c1 ht17 rfl rfl ?_
        refine zv_cl ht17 rfl rfl rfl (zv_tgm (ztyp_new_at (S := S5) (t := 11) (n := 0) (s := zslots 11) (show 1639 ≤ gN S5 from by omega)) rfl) (by omega) (Nat.le_of_ble_eq_true rfl) (x_judgeR (S := sP (sI (sI (sP (sNew S5 11 0 (zslots 11)) 162 (gN S5) (some 0)) 144 (gN S5) (Int32.ofNat (b + k))) 160 (gN S5) 106) 161 (gN S5) (some a5)) (tp := tp) (sz := sz) (r := r) (a := gN S5) (k := 24) (v := 0) (p := (b + k)) (ks := []) (js := [a5]) (cs := [y5]) (g := gN S5 + 1) (lo := gN S) (zFin_sP (zFin_sP (zFin_new hF5) rfl) rfl) (by omega) (by omega) (by omega) (by omega) (by omega) rfl (xOwn_W (by decide) (ztyp_new_at (S := S5) (t := 11) (n := 0) (s := zslots 11) (show 1639 ≤ gN S5 from by omega)) (gI_sI_at) (gP_sP_at)) ⟨a5, _, rfl, (xTl.ch t5 (zKE.tr (zKE.tr (zKE.tr (zKE.tr (zKE.tr zKE.rf (zKE_new (show gN S5 ≤ gN S5 ∧ gN S5 < zLB from ⟨by omega, by have hLB : zLB = 4294967296 := rfl; omega⟩))) (zKE_sP (Or.inr (Or.inr ⟨by omega, by have hLB : zLB = 4294967296 := rfl; omega⟩)))) (zKE_sI (Or.inr (Or.inr ⟨by omega, by have hLB : zLB = 4294967296 := rfl; omega⟩)))) (zKE_sI (Or.inr (Or.inr ⟨by omega, by have hLB : zLB = 4294967296 := rfl; omega⟩)))) (zKE_sP (Or.inr (Or.inr ⟨by omega, by have hLB : zLB = 4294967296 := rfl; omega⟩)))) (by omega) (by intro j h1 h2; omega)), rfl⟩ (by decide) (by omega) (gI_sI_at) (gI_new_at (S := S5) (t := 11) (n := 0) (s := zslots 11)) (gI_new_at (S := S5) (t := 11) (n := 0) (s := zslots 11)) (xR.ke (Fs := []) p5 (zKE.tr (zKE.tr (zKE.tr (zKE.tr (zKE.tr zKE.rf (zKE_new (show gN S5 ≤ gN S5 ∧ gN S5 < zLB from ⟨by omega, by have hLB : zLB = 4294967296 := rfl; omega⟩))) (zKE_sP (Or.inr (Or.inr ⟨by omega, by have hLB : zLB = 4294967296 := rfl; omega⟩)))) (zKE_sI (Or.inr (Or.inr ⟨by omega, by have hLB : zLB = 4294967296 := rfl; omega⟩)))) (zKE_sI (Or.inr (Or.inr ⟨by omega, by have hLB : zLB = 4294967296 := rfl; omega⟩)))) (zKE_sP (Or.inr (Or.inr ⟨by omega, by have hLB : zLB = 4294967296 := rfl; omega⟩)))) (by omega) (by decide)) (by omega) (fun S18 hF18 e18 j18 t18 p18 g18 => ?_) (fun S19 q19 hF19 e19 k19 x19 g19 => ?_))
        · show zEv (d - 1) 253 4 [.ref r, .ref (gN S5)] [] S18 pst15
          refine zv_c1 ht17 rfl rfl ?_
          exact zv_rt ht17 rfl rfl rfl rfl (k20 S18 hF18 e18 j18 t18 p18 g18)
        · exact (k21 S19 q19 hF19 e19 k19 x19 g19)
      refine zv_cl ht rfl rfl rfl (zv_tgv (Eq.trans (ztyp_new (S := S5) (t := 11) (n := 0) (s := zslots 11) (show r ≠ gN S5 from by omega)) p5.1.2.2.2.1) rfl) (by omega) (Nat.le_of_ble_eq_true rfl) (C16 _ (fun S18 hF18 e18 j18 t18 p18 g18 => ?_) (fun S19 q19 hF19 e19 k19 x19 g19 => ?_))
      · show zEv d 260 155 [.ref r, .ref w, .int (Int32.ofNat k), .int (Int32.ofNat deep), .int (Int32.ofNat (b + k)), .int 106, .int 0, .ref a5, .retAddr 0] [.ref (gN S5)] S18 post
        exact zv_rt ht rfl rfl rfl rfl (h1 S3 nd3 hF3 e3 k3 p3 g3 b3 c3 d3 S5 a5 y5 at5 nd5 hF5 e5 k5 t5 p5 g5 c5 S18 hF18 e18 j18 t18 p18 g18)
      · exact (h2 S3 nd3 hF3 e3 k3 p3 g3 b3 c3 d3 S5 a5 y5 at5 nd5 hF5 e5 k5 t5 p5 g5 c5 S19 q19 hF19 e19 k19 x19 g19)
    · exact (h3 S3 nd3 hF3 e3 k3 p3 g3 b3 c3 d3 S6 q6 kk6 z6 hF6 e6 k6 x6 g6)
  · exact (h4 S4 q4 hF4 e4 k4 x4 g4)

theorem wrP110 {d : Nat} {S : zS} (hF : zFin true S) (hd : 5 ≤ d) {tp : Nat → Nat} {sz at0 nd r : Nat} {rec : Nat → Nat → Nat → pE (zNd × Nat × Nat)} {K n : Nat} {w : Nat} (b e0 wl k deep : Nat) (hR : xR tp sz S r (b + k) nd) (hs0 : sz ≤ 300) (ha0 : (b + k) ≤ sz) (hr1 : 1639 ≤ r) (hr2 : r < gN S) (hN : gN S + 30 * (sz - (b + k)) ≤ 1700000) (hdp : deep < 1000) (hnd : nd ≤ 80) (hw : xWd S w (pWl tp b e0)) (hwN : w < gN S) (hwl : (pWl tp b e0).length = wl) (hel : e0 = b + wl) (hes : e0 < sz) (hk0 : 0 < k) (hk : k < wl) (hcc : (pWl tp b e0).getD k 0 = 110) (hIH : deep ≤ 24 → xWr tp sz (d - 1) w b e0 rec n (k + 1) (deep + 1)) {post : Outcome × zS → Prop} (h1 : ∀ S3 : zS, ∀ nd3 : Nat, (zFin true S3) → (pRead (b + k) deep nd false = .ok nd3) → (xFr S S3) → (xR tp sz S3 r (b + k) nd3) → (gN S ≤ gN S3 ∧ gN S3 ≤ gN S + 0 ∧ gZ S3 ≤ gZ S + 0) → ((b + k) ≤ sz) → (nd3 ≤ 80) → (deep ≤ 24) → ∀ S5 : zS, ∀ a5 : Nat, ∀ y5 : zNd, ∀ at5 : Nat, ∀ nd5 : Nat, (zFin true S5) → (pWx tp sz rec n ((b + k) + 1) (deep + 1) e0 nd3 = .ok (y5, at5, nd5)) → (xFr (sI S3 133 r (Int32.ofNat ((b + k) + 1))) S5) → (xTl (gN S3) S5 y5 a5) → (xR tp sz S5 r at5 nd5) → (gN S3 ≤ gN S5 ∧ gN S5 + 30 * (sz - at5) ≤ gN S3 + 30 * (sz - e0) + 2 * (e0 - ((b + k) + 1)) ∧ gZ S5 + 150 * (sz - at5) ≤ gZ S3 + 150 * (sz - e0) + 60 * (e0 - ((b + k) + 1))) → (at5 ≤ sz ∧ gN S3 ≤ a5 ∧ a5 < gN S5) → ∀ S18 : zS, (zFin true S18) → (pJ (tN 25 0 [] (b + k) [y5]) = .ok (tN 25 0 [] (b + k) [y5])) → (xJd (sP (sI (sI (sP (sNew S5 11 0 (zslots 11)) 162 (gN S5) (some 0)) 144 (gN S5) (Int32.ofNat (b + k))) 160 (gN S5) 110) 161 (gN S5) (some a5)) (gN S5) S18) → (xTl (gN S) S18 (tN 25 0 [] (b + k) [y5]) (gN S5)) → (xR tp sz S18 r at5 nd5) → (gN S18 = gN S5 + 1 ∧ gZ S18 = gZ S5 + 19) → post (.returned (some (.ref (gN S5))), S18)) (h2 : ∀ S3 : zS, ∀ nd3 : Nat, (zFin true S3) → (pRead (b + k) deep nd false = .ok nd3) → (xFr S S3) → (xR tp sz S3 r (b + k) nd3) → (gN S ≤ gN S3 ∧ gN S3 ≤ gN S + 0 ∧ gZ S3 ≤ gZ S + 0) → ((b + k) ≤ sz) → (nd3 ≤ 80) → (deep ≤ 24) → ∀ S5 : zS, ∀ a5 : Nat, ∀ y5 : zNd, ∀ at5 : Nat, ∀ nd5 : Nat, (zFin true S5) → (pWx tp sz rec n ((b + k) + 1) (deep + 1) e0 nd3 = .ok (y5, at5, nd5)) → (xFr (sI S3 133 r (Int32.ofNat ((b + k) + 1))) S5) → (xTl (gN S3) S5 y5 a5) → (xR tp sz S5 r at5 nd5) → (gN S3 ≤ gN S5 ∧ gN S5 + 30 * (sz - at5) ≤ gN S3 + 30 * (sz - e0) + 2 * (e0 - ((b + k) + 1)) ∧ gZ S5 + 150 * (sz - at5) ≤ gZ S3 + 150 * (sz - e0) + 60 * (e0 - ((b + k) + 1))) → (at5 ≤ sz ∧ gN S3 ≤ a5 ∧ a5 < gN S5) → ∀ S19 : zS, ∀ q19 : Nat, (zFin true S19) → (pJ (tN 25 0 [] (b + k) [y5]) = .error (3, (b + k))) → (xFn (sP (sI (sI (sP (sNew S5 11 0 (zslots 11)) 162 (gN S5) (some 0)) 144 (gN S5) (Int32.ofNat (b + k))) 160 (gN S5) 110) 161 (gN S5) (some a5)) (gN S5) S19) → (xFl S19 q19 3 (b + k)) → (gN S19 = gN S5 + 1 + 1 ∧ gZ S19 ≤ gZ S5 + 19 + 3) → post (.threw q19, S19)) (h3 : ∀ S3 : zS, ∀ nd3 : Nat, (zFin true S3) → (pRead (b + k) deep nd false = .ok nd3) → (xFr S S3) → (xR tp sz S3 r (b + k) nd3) → (gN S ≤ gN S3 ∧ gN S3 ≤ gN S + 0 ∧ gZ S3 ≤ gZ S + 0) → ((b + k) ≤ sz) → (nd3 ≤ 80) → (deep ≤ 24) → ∀ S6 : zS, ∀ q6 : Nat, ∀ kk6 : Nat, ∀ z6 : Nat, (zFin true S6) → (pWx tp sz rec n ((b + k) + 1) (deep + 1) e0 nd3 = .error (kk6, z6)) → (xFr (sI S3 133 r (Int32.ofNat ((b + k) + 1))) S6) → (xFl S6 q6 kk6 z6) → (gN S3 ≤ gN S6 ∧ gN S6 ≤ gN S3 + 30 * (sz - e0) + 2 * (e0 - ((b + k) + 1)) + 60 ∧ gZ S6 ≤ gZ S3 + 150 * (sz - e0) + 60 * (e0 - ((b + k) + 1)) + 2000) → post (.threw q6, S6)) (h4 : ∀ S4 : zS, ∀ q4 : Nat, (zFin true S4) → (pRead (b + k) deep nd false = .error (2, (b + k))) → (xFr S S4) → (xFl S4 q4 2 (b + k)) → (gN S ≤ gN S4 ∧ gN S4 ≤ gN S + 1 ∧ gZ S4 ≤ gZ S + 3) → post (.threw q4, S4)) : zCall d 260 [.ref r, .ref w, .int (Int32.ofNat k), .int (Int32.ofNat deep)] S post := by
  have ht : ztab 260 = ztb260 := rfl
  show zEv d 260 0 [.ref r, .ref w, .int (Int32.ofNat k), .int (Int32.ofNat deep), .retAddr 0, .retAddr 0, .retAddr 0, .retAddr 0, .retAddr 0] [] S post
  refine zv_c1 ht rfl rfl ?_
  refine zv_ei (x := Int32.ofNat (b + k)) ht rfl rfl (zhas_of (hR.1.2.2.2.1) rfl) hR.1.1 ?_
  refine zv_c2 (L' := [.ref r, .ref w, .int (Int32.ofNat k), .int (Int32.ofNat deep), .int (Int32.ofNat (b + k)), .retAddr 0, .retAddr 0, .retAddr 0, .retAddr 0]) ht rfl rfl ?_
  refine zv_c1 ht rfl rfl (zv_c1 ht rfl rfl ?_)
  refine zv_cl ht rfl rfl rfl (zv_tgv ((zStr.t hw.1)) rfl) (by omega) (Nat.le_of_ble_eq_true rfl) (x_len (S := S) hF (by omega) hw.1 (n := wl) hwl ?_)
  show zEv d 260 11 [.ref r, .ref w, .int (Int32.ofNat k), .int (Int32.ofNat deep), .int (Int32.ofNat (b + k)), .retAddr 0, .retAddr 0, .retAddr 0, .retAddr 0] [.int (Int32.ofNat wl), .int (Int32.ofNat k)] S post
  refine zv_br ht rfl rfl rfl (fun b1 => ?_) (fun b1 => (show False from by have hq := b1; have hz : k = wl := (zi_eqE (a := k) (b := wl) rfl rfl (by omega) (by omega)).mp (Classical.not_not.mp hq); omega).elim)
  refine zv_c1 ht rfl rfl (zv_c1 ht rfl rfl ?_)
  refine zv_cl ht rfl rfl rfl (zv_tgv ((zStr.t hw.1)) rfl) (by omega) (Nat.le_of_ble_eq_true rfl) (x_char (S := S) hF (by omega) hw.1 (i := k) (by omega) (c := 110) hcc ?_)
  show zEv d 260 39 [.ref r, .ref w, .int (Int32.ofNat k), .int (Int32.ofNat deep), .int (Int32.ofNat (b + k)), .retAddr 0, .retAddr 0, .retAddr 0, .retAddr 0] [.int 110] S post
  refine zv_c2 (L' := [.ref r, .ref w, .int (Int32.ofNat k), .int (Int32.ofNat deep), .int (Int32.ofNat (b + k)), .int 110, .retAddr 0, .retAddr 0, .retAddr 0]) ht rfl rfl ?_
  refine zv_c1 ht rfl rfl (zv_c1 ht rfl rfl ?_)
  refine zv_br ht rfl rfl rfl (fun h => absurd h (by decide)) (fun _ => ?_)
  refine zv_c1 ht rfl rfl (zv_c1 ht rfl rfl ?_)
  refine zv_br ht rfl rfl rfl (fun h => absurd h (by decide)) (fun _ => ?_)
  refine zv_c1 ht rfl rfl (zv_c1 ht rfl rfl ?_)
  refine zv_br ht rfl rfl rfl (fun _ => ?_) (fun h => absurd (by decide) h)
  refine zv_c1 ht rfl rfl ?_
  refine zv_c2 (L' := [.ref r, .ref w, .int (Int32.ofNat k), .int (Int32.ofNat deep), .int (Int32.ofNat (b + k)), .int 110, .int 0, .retAddr 0, .retAddr 0]) ht rfl rfl ?_
  refine zv_c1 ht rfl rfl ?_
  refine zv_br ht rfl rfl rfl (fun b2 => ?_) (fun b2 => (show False from by have hq := b2; have hz : k = 0 := (zi_eqE (a := k) (b := 0) rfl rfl (by omega) (by omega)).mp (Classical.not_not.mp hq); omega).elim)
  refine zv_c1 ht rfl rfl (zv_c1 ht rfl rfl (zv_c1 ht rfl rfl ?_))
  refine zv_br ht rfl rfl rfl (fun _ => ?_) (fun h => absurd (by decide) h)
  refine zv_c1 ht rfl rfl (zv_c1 ht rfl rfl ?_)
  refine zv_br ht rfl rfl rfl (fun _ => ?_) (fun h => absurd (by decide) h)
  refine zv_c1 ht rfl rfl ?_
  refine zv_cl ht rfl rfl rfl (zv_tgv (hR.1.2.2.2.1) rfl) (by omega) (Nat.le_of_ble_eq_true rfl) (x_begins (S := S) (tp := tp) (sz := sz) (r := r) (p := (b + k)) (dp := deep) (m := 1) (dq := deep) (two := false) hF (by omega) hR (by omega) (by omega) (by omega) (by omega) rfl rfl (fun S3 nd3 hF3 e3 k3 p3 g3 b3 c3 d3 => ?_) (fun S4 q4 hF4 e4 k4 x4 g4 => ?_))
  · show zEv d 260 106 [.ref r, .ref w, .int (Int32.ofNat k), .int (Int32.ofNat deep), .int (Int32.ofNat (b + k)), .int 110, .int 0, .retAddr 0, .retAddr 0] [] S3 post
    refine zv_c1 ht rfl rfl (zv_c1 ht rfl rfl ?_)
    refine zv_ei (x := Int32.ofNat (b + k)) ht rfl rfl (zhas_of (p3.1.2.2.2.1) rfl) p3.1.1 ?_
    refine zv_c1 ht rfl rfl ?_
    refine zv_e1 (x := Int32.ofNat ((b + k) + 1)) ht rfl rfl (zi_addE (a := (b + k)) (b := 1) rfl rfl) ?_
    refine zv_ci (S' := sI S3 133 r (Int32.ofNat ((b + k) + 1))) ht rfl rfl ⟨(zhas_of (p3.1.2.2.2.1) rfl), (show r < gN S3 from by omega)⟩ ?_
    refine zv_c1 ht rfl rfl (zv_c1 ht rfl rfl (zv_c1 ht rfl rfl (zv_c1 ht rfl rfl ?_)))
    refine zv_e1 (x := Int32.ofNat (k + 1)) ht rfl rfl (zi_addE (a := k) (b := 1) rfl rfl) ?_
    refine zv_c1 ht rfl rfl (zv_c1 ht rfl rfl ?_)
    refine zv_e1 (x := Int32.ofNat (deep + 1)) ht rfl rfl (zi_addE (a := deep) (b := 1) rfl rfl) ?_
    refine zv_cl ht rfl rfl rfl (zv_tgv (p3.1.2.2.2.1) rfl) (by omega) (Nat.le_of_ble_eq_true rfl) (xEc.use (g := gN S3) (cN := gN S3 + 30 * (sz - e0) + 2 * (e0 - ((b + k) + 1))) (cZ := gZ S3 + 150 * (sz - e0) + 60 * (e0 - ((b + k) + 1))) rfl ((hIH (by omega)) (S := sI S3 133 r (Int32.ofNat ((b + k) + 1))) (r := r) hF3 (xR_at p3 (by omega)) (xWd.k hw (zKE.tr (zKE.tr zKE.rf (zKE.w k3 (show gN S ≤ gN S from by omega) (fun _ h => h) (fun _ h => h))) (zKE_sI (Or.inl (by decide))))) (by omega) (by omega)) (fun S5 a5 y5 at5 nd5 hF5 e5 k5 t5 p5 g5 c5 => ?_) (fun S6 q6 kk6 z6 hF6 e6 k6 x6 g6 => ?_))
    · show zEv d 260 127 [.ref r, .ref w, .int (Int32.ofNat k), .int (Int32.ofNat deep), .int (Int32.ofNat (b + k)), .int 110, .int 0, .retAddr 0, .retAddr 0] [.ref a5] S5 post
      refine zv_c2 (L' := [.ref r, .ref w, .int (Int32.ofNat k), .int (Int32.ofNat deep), .int (Int32.ofNat (b + k)), .int 110, .int 0, .ref a5, .retAddr 0]) ht rfl rfl ?_
      refine zv_c1 ht rfl rfl ?_
      refine zv_br ht rfl rfl rfl (fun h => absurd h (by decide)) (fun _ => ?_)
      refine zv_c1 ht rfl rfl ?_
      refine zv_ci (st' := [.ref (gN S5), .ref r]) (S' := sNew S5 11 0 (zslots 11)) ht rfl rfl (znew_ok (show 1639 ≤ gN S5 from by omega) (show gN S5 < 2000000 from by omega)) ?_
      refine zv_c1 ht rfl rfl (zv_c1 ht rfl rfl ?_)
      refine zv_g3 (q := 0) ht rfl (zFin_new hF5) rfl rfl (zhas_of (Eq.trans (ztyp_new (S := S5) (t := 11) (n := 0) (s := zslots 11) (show r ≠ gN S5 from by omega)) p5.1.2.2.2.1) rfl) (Eq.trans (gP_new (S := S5) (t := 11) (n := 0) (s := zslots 11) (show r ≠ gN S5 from by omega)) p5.1.2.2.2.2) ?_
      refine zv_c1 ht rfl rfl (zv_c1 ht rfl rfl (zv_c1 ht rfl rfl ?_))
      have C8 : ∀ (pst7 : Outcome × zS → Prop), (pst7 (.returned none, sP (sI (sI (sP (sNew S5 11 0 (zslots 11)) 162 (gN S5) (some 0)) 144 (gN S5) (Int32.ofNat (b + k))) 160 (gN S5) 110) 161 (gN S5) (some a5))) → zCall (d - 1) 295 [.ref (gN S5), .ref 0, .int (Int32.ofNat (b + k)), .int 110, .ref a5] (sNew S5 11 0 (zslots 11)) pst7 := by
        intro pst7 k14
        have ht9 : ztab 295 = ztb295 := rfl
        show zEv (d - 1) 295 0 [.ref (gN S5), .ref 0, .int (Int32.ofNat (b + k)), .int 110, .ref a5] [] (sNew S5 11 0 (zslots 11)) pst7
        refine zv_c1 ht9 rfl rfl (zv_c1 ht9 rfl rfl ?_)
        refine zv_ci (S' := sP (sNew S5 11 0 (zslots 11)) 162 (gN S5) (some 0)) ht9 rfl rfl ⟨(zhas_of (ztyp_new_at (S := S5) (t := 11) (n := 0) (s := zslots 11) (show 1639 ≤ gN S5 from by omega)) rfl), (show gN S5 < gN S5 + 1 from by omega)⟩ ?_
        refine zv_c1 ht9 rfl rfl (zv_c1 ht9 rfl rfl (zv_c1 ht9 rfl rfl ?_))
        have C11 : ∀ (pst10 : Outcome × zS → Prop), (pst10 (.returned none, sI (sP (sNew S5 11 0 (zslots 11)) 162 (gN S5) (some 0)) 144 (gN S5) (Int32.ofNat (b + k)))) → zCall ((d - 1) - 1) 280 [.ref (gN S5), .ref 0, .int (Int32.ofNat (b + k))] (sP (sNew S5 11 0 (zslots 11)) 162 (gN S5) (some 0)) pst10 := by
          intro pst10 k13
          have ht12 : ztab 280 = ztb280 := rfl
          show zEv ((d - 1) - 1) 280 0 [.ref (gN S5), .ref 0, .int (Int32.ofNat (b + k))] [] (sP (sNew S5 11 0 (zslots 11)) 162 (gN S5) (some 0)) pst10
          refine zv_c1 ht12 rfl rfl (zv_c1 ht12 rfl rfl ?_)
          refine zv_ci (S' := sP (sNew S5 11 0 (zslots 11)) 162 (gN S5) (some 0)) ht12 rfl rfl (zk5 (ztyp_new_at (S := S5) (t := 11) (n := 0) (s := zslots 11) (show 1639 ≤ gN S5 from by omega)) rfl (show gN S5 < gN S5 + 1 from by omega) rfl gP_sP_at) ?_
          refine zv_c1 ht12 rfl rfl (zv_c1 ht12 rfl rfl (zv_c1 ht12 rfl rfl (zv_c1 ht12 rfl rfl ?_)))
          refine zv_ci (S' := sI (sP (sNew S5 11 0 (zslots 11)) 162 (gN S5) (some 0)) 144 (gN S5) (Int32.ofNat (b + k))) ht12 rfl rfl ⟨(zhas_of (ztyp_new_at (S := S5) (t := 11) (n := 0) (s := zslots 11) (show 1639 ≤ gN S5 from by omega)) rfl), (show gN S5 < gN S5 + 1 from by omega)⟩ ?_
          exact zv_rt ht12 rfl rfl rfl rfl k13
        refine zv_cl ht9 rfl rfl rfl rfl (by omega) (Nat.le_of_ble_eq_true rfl) (C11 _ ?_)
        show zEv (d - 1) 295 11 [.ref (gN S5), .ref 0, .int (Int32.ofNat (b + k)), .int 110, .ref a5] [] (sI (sP (sNew S5 11 0 (zslots 11)) 162 (gN S5) (some 0)) 144 (gN S5) (Int32.ofNat (b + k))) pst7
        refine zv_c1 ht9 rfl rfl (zv_c1 ht9 rfl rfl ?_)
        refine zv_ci (S' := sI (sI (sP (sNew S5 11 0 (zslots 11)) 162 (gN S5) (some 0)) 144 (gN S5) (Int32.ofNat (b + k))) 160 (gN S5) 110) ht9 rfl rfl ⟨⟨(zhas_of (ztyp_new_at (S := S5) (t := 11) (n := 0) (s := zslots 11) (show 1639 ≤ gN S5 from by omega)) rfl), (show gN S5 < gN S5 + 1 from by omega)⟩, (by decide)⟩ ?_
        refine zv_c1 ht9 rfl rfl (zv_c1 ht9 rfl rfl ?_)
        refine zv_ci (S' := sP (sI (sI (sP (sNew S5 11 0 (zslots 11)) 162 (gN S5) (some 0)) 144 (gN S5) (Int32.ofNat (b + k))) 160 (gN S5) 110) 161 (gN S5) (some a5)) ht9 rfl rfl ⟨(zhas_of (ztyp_new_at (S := S5) (t := 11) (n := 0) (s := zslots 11) (show 1639 ≤ gN S5 from by omega)) rfl), (show gN S5 < gN S5 + 1 from by omega)⟩ ?_
        exact zv_rt ht9 rfl rfl rfl rfl k14
      refine zv_cl ht rfl rfl rfl rfl (by omega) (Nat.le_of_ble_eq_true rfl) (C8 _ ?_)
      show zEv d 260 152 [.ref r, .ref w, .int (Int32.ofNat k), .int (Int32.ofNat deep), .int (Int32.ofNat (b + k)), .int 110, .int 0, .ref a5, .retAddr 0] [.ref (gN S5), .ref r] (sP (sI (sI (sP (sNew S5 11 0 (zslots 11)) 162 (gN S5) (some 0)) 144 (gN S5) (Int32.ofNat (b + k))) 160 (gN S5) 110) 161 (gN S5) (some a5)) post
      have C16 : ∀ (pst15 : Outcome × zS → Prop), (∀ S18 : zS, (zFin true S18) → (pJ (tN 25 0 [] (b + k) [y5]) = .ok (tN 25 0 [] (b + k) [y5])) → (xJd (sP (sI (sI (sP (sNew S5 11 0 (zslots 11)) 162 (gN S5) (some 0)) 144 (gN S5) (Int32.ofNat (b + k))) 160 (gN S5) 110) 161 (gN S5) (some a5)) (gN S5) S18) → (xTl (gN S) S18 (tN 25 0 [] (b + k) [y5]) (gN S5)) → (xR tp sz S18 r at5 nd5) → (gN S18 = gN S5 + 1 ∧ gZ S18 = gZ S5 + 19) → pst15 (.returned (some (.ref (gN S5))), S18)) → (∀ S19 : zS, ∀ q19 : Nat, (zFin true S19) → (pJ (tN 25 0 [] (b + k) [y5]) = .error (3, (b + k))) → (xFn (sP (sI (sI (sP (sNew S5 11 0 (zslots 11)) 162 (gN S5) (some 0)) 144 (gN S5) (Int32.ofNat (b + k))) 160 (gN S5) 110) 161 (gN S5) (some a5)) (gN S5) S19) → (xFl S19 q19 3 (b + k)) → (gN S19 = gN S5 + 1 + 1 ∧ gZ S19 ≤ gZ S5 + 19 + 3) → pst15 (.threw q19, S19)) → zCall (d - 1) 253 [.ref r, .ref (gN S5)] (sP (sI (sI (sP (sNew S5 11 0 (zslots 11)) 162 (gN S5) (some 0)) 144 (gN S5) (Int32.ofNat (b + k))) 160 (gN S5) 110) 161 (gN S5) (some a5)) pst15 := by
        intro pst15 k20 k21
        have ht17 : ztab 253 = ztb253 := rfl
        show zEv (d - 1) 253 0 [.ref r, .ref (gN S5)] [] (sP (sI (sI (sP (sNew S5 11 0 (zslots 11)) 162 (gN S5) (some 0)) 144 (gN S5) (Int32.ofNat (b + k))) 160 (gN S5) 110) 161 (gN S5) (some a5)) pst15
        refine zv_c1 ht17 rfl rfl ?_
        refine zv_cl ht17 rfl rfl rfl (zv_tgm (ztyp_new_at (S := S5) (t := 11) (n := 0) (s := zslots 11) (show 1639 ≤ gN S5 from by omega)) rfl) (by omega) (Nat.le_of_ble_eq_true rfl) (x_judgeR (S := sP (sI (sI (sP (sNew S5 11 0 (zslots 11)) 162 (gN S5) (some 0)) 144 (gN S5) (Int32.ofNat (b + k))) 160 (gN S5) 110) 161 (gN S5) (some a5)) (tp := tp) (sz := sz) (r := r) (a := gN S5) (k := 25) (v := 0) (p := (b + k)) (ks := []) (js := [a5]) (cs := [y5]) (g := gN S5 + 1) (lo := gN S) (zFin_sP (zFin_sP (zFin_new hF5) rfl) rfl) (by omega) (by omega) (by omega) (by omega) (by omega) rfl (xOwn_W (by decide) (ztyp_new_at (S := S5) (t := 11) (n := 0) (s := zslots 11) (show 1639 ≤ gN S5 from by omega)) (gI_sI_at) (gP_sP_at)) ⟨a5, _, rfl, (xTl.ch t5 (zKE.tr (zKE.tr (zKE.tr (zKE.tr (zKE.tr zKE.rf (zKE_new (show gN S5 ≤ gN S5 ∧ gN S5 < zLB from ⟨by omega, by have hLB : zLB = 4294967296 := rfl; omega⟩))) (zKE_sP (Or.inr (Or.inr ⟨by omega, by have hLB : zLB = 4294967296 := rfl; omega⟩)))) (zKE_sI (Or.inr (Or.inr ⟨by omega, by have hLB : zLB = 4294967296 := rfl; omega⟩)))) (zKE_sI (Or.inr (Or.inr ⟨by omega, by have hLB : zLB = 4294967296 := rfl; omega⟩)))) (zKE_sP (Or.inr (Or.inr ⟨by omega, by have hLB : zLB = 4294967296 := rfl; omega⟩)))) (by omega) (by intro j h1 h2; omega)), rfl⟩ (by decide) (by omega) (gI_sI_at) (gI_new_at (S := S5) (t := 11) (n := 0) (s := zslots 11)) (gI_new_at (S := S5) (t := 11) (n := 0) (s := zslots 11)) (xR.ke (Fs := []) p5 (zKE.tr (zKE.tr (zKE.tr (zKE.tr (zKE.tr zKE.rf (zKE_new (show gN S5 ≤ gN S5 ∧ gN S5 < zLB from ⟨by omega, by have hLB : zLB = 4294967296 := rfl; omega⟩))) (zKE_sP (Or.inr (Or.inr ⟨by omega, by have hLB : zLB = 4294967296 := rfl; omega⟩)))) (zKE_sI (Or.inr (Or.inr ⟨by omega, by have hLB : zLB = 4294967296 := rfl; omega⟩)))) (zKE_sI (Or.inr (Or.inr ⟨by omega, by have hLB : zLB = 4294967296 := rfl; omega⟩)))) (zKE_sP (Or.inr (Or.inr ⟨by omega, by have hLB : zLB = 4294967296 := rfl; omega⟩)))) (by omega) (by decide)) (by omega) (fun S18 hF18 e18 j18 t18 p18 g18 => ?_) (fun S19 q19 hF19 e19 k19 x19 g19 => ?_))
        · show zEv (d - 1) 253 4 [.ref r, .ref (gN S5)] [] S18 pst15
          refine zv_c1 ht17 rfl rfl ?_
          exact zv_rt ht17 rfl rfl rfl rfl (k20 S18 hF18 e18 j18 t18 p18 g18)
        · exact (k21 S19 q19 hF19 e19 k19 x19 g19)
      refine zv_cl ht rfl rfl rfl (zv_tgv (Eq.trans (ztyp_new (S := S5) (t := 11) (n := 0) (s := zslots 11) (show r ≠ gN S5 from by omega)) p5.1.2.2.2.1) rfl) (by omega) (Nat.le_of_ble_eq_true rfl) (C16 _ (fun S18 hF18 e18 j18 t18 p18 g18 => ?_) (fun S19 q19 hF19 e19 k19 x19 g19 => ?_))
      · show zEv d 260 155 [.ref r, .ref w, .int (Int32.ofNat k), .int (Int32.ofNat deep), .int (Int32.ofNat (b + k)), .int 110, .int 0, .ref a5, .retAddr 0] [.ref (gN S5)] S18 post
        exact zv_rt ht rfl rfl rfl rfl (h1 S3 nd3 hF3 e3 k3 p3 g3 b3 c3 d3 S5 a5 y5 at5 nd5 hF5 e5 k5 t5 p5 g5 c5 S18 hF18 e18 j18 t18 p18 g18)
      · exact (h2 S3 nd3 hF3 e3 k3 p3 g3 b3 c3 d3 S5 a5 y5 at5 nd5 hF5 e5 k5 t5 p5 g5 c5 S19 q19 hF19 e19 k19 x19 g19)
    · exact (h3 S3 nd3 hF3 e3 k3 p3 g3 b3 c3 d3 S6 q6 kk6 z6 hF6 e6 k6 x6 g6)
  · exact (h4 S4 q4 hF4 e4 k4 x4 g4)

theorem wrP116 {d : Nat} {S : zS} (hF : zFin true S) (hd : 5 ≤ d) {tp : Nat → Nat} {sz at0 nd r : Nat} {rec : Nat → Nat → Nat → pE (zNd × Nat × Nat)} {K n : Nat} {w : Nat} (b e0 wl k deep : Nat) (hR : xR tp sz S r (b + k) nd) (hs0 : sz ≤ 300) (ha0 : (b + k) ≤ sz) (hr1 : 1639 ≤ r) (hr2 : r < gN S) (hN : gN S + 30 * (sz - (b + k)) ≤ 1700000) (hdp : deep < 1000) (hnd : nd ≤ 80) (hw : xWd S w (pWl tp b e0)) (hwN : w < gN S) (hwl : (pWl tp b e0).length = wl) (hel : e0 = b + wl) (hes : e0 < sz) (hk0 : 0 < k) (hk : k < wl) (hcc : (pWl tp b e0).getD k 0 = 116) (hIH : deep ≤ 24 → xWr tp sz (d - 1) w b e0 rec n (k + 1) (deep + 1)) {post : Outcome × zS → Prop} (h1 : ∀ S3 : zS, ∀ nd3 : Nat, (zFin true S3) → (pRead (b + k) deep nd true = .ok nd3) → (xFr S S3) → (xR tp sz S3 r (b + k) nd3) → (gN S ≤ gN S3 ∧ gN S3 ≤ gN S + 0 ∧ gZ S3 ≤ gZ S + 0) → ((b + k) ≤ sz) → (nd3 ≤ 80) → (deep ≤ 24) → ∀ S5 : zS, ∀ a5 : Nat, ∀ y5 : zNd, ∀ at5 : Nat, ∀ nd5 : Nat, (zFin true S5) → (pWx tp sz rec n ((b + k) + 1) (deep + 1) e0 nd3 = .ok (y5, at5, nd5)) → (xFr (sI S3 133 r (Int32.ofNat ((b + k) + 1))) S5) → (xTl (gN S3) S5 y5 a5) → (xR tp sz S5 r at5 nd5) → (gN S3 ≤ gN S5 ∧ gN S5 + 30 * (sz - at5) ≤ gN S3 + 30 * (sz - e0) + 2 * (e0 - ((b + k) + 1)) ∧ gZ S5 + 150 * (sz - at5) ≤ gZ S3 + 150 * (sz - e0) + 60 * (e0 - ((b + k) + 1))) → (at5 ≤ sz ∧ gN S3 ≤ a5 ∧ a5 < gN S5) → ∀ S22 : zS, (zFin true S22) → (pJ (tN 1 0 [] (b + k) []) = .ok (tN 1 0 [] (b + k) [])) → (xJd (sI (sI (sP (sNew S5 16 0 (zslots 16)) 174 (gN S5) (some 0)) 144 (gN S5) (Int32.ofNat (b + k))) 173 (gN S5) 1) (gN S5) S22) → (xTl (gN S) S22 (tN 1 0 [] (b + k) []) (gN S5)) → (xR tp sz S22 r at5 nd5) → (gN S22 = gN S5 + 1 ∧ gZ S22 = gZ S5 + 19) → ∀ S37 : zS, (zFin true S37) → (pJ (tN 11 0 [] (b + k) [y5, tN 1 0 [] (b + k) []]) = .ok (tN 11 0 [] (b + k) [y5, tN 1 0 [] (b + k) []])) → (xJd (sP (sP (sI (sI (sP (sNew S22 20 0 (zslots 20)) 190 (gN S22) (some 0)) 144 (gN S22) (Int32.ofNat (b + k))) 187 (gN S22) 0) 188 (gN S22) (some a5)) 189 (gN S22) (some (gN S5))) (gN S22) S37) → (xTl (gN S) S37 (tN 11 0 [] (b + k) [y5, tN 1 0 [] (b + k) []]) (gN S22)) → (xR tp sz S37 r at5 nd5) → (gN S37 = gN S22 + 1 ∧ gZ S37 = gZ S22 + 20) → post (.returned (some (.ref (gN S22))), S37)) (h2 : ∀ S3 : zS, ∀ nd3 : Nat, (zFin true S3) → (pRead (b + k) deep nd true = .ok nd3) → (xFr S S3) → (xR tp sz S3 r (b + k) nd3) → (gN S ≤ gN S3 ∧ gN S3 ≤ gN S + 0 ∧ gZ S3 ≤ gZ S + 0) → ((b + k) ≤ sz) → (nd3 ≤ 80) → (deep ≤ 24) → ∀ S5 : zS, ∀ a5 : Nat, ∀ y5 : zNd, ∀ at5 : Nat, ∀ nd5 : Nat, (zFin true S5) → (pWx tp sz rec n ((b + k) + 1) (deep + 1) e0 nd3 = .ok (y5, at5, nd5)) → (xFr (sI S3 133 r (Int32.ofNat ((b + k) + 1))) S5) → (xTl (gN S3) S5 y5 a5) → (xR tp sz S5 r at5 nd5) → (gN S3 ≤ gN S5 ∧ gN S5 + 30 * (sz - at5) ≤ gN S3 + 30 * (sz - e0) + 2 * (e0 - ((b + k) + 1)) ∧ gZ S5 + 150 * (sz - at5) ≤ gZ S3 + 150 * (sz - e0) + 60 * (e0 - ((b + k) + 1))) → (at5 ≤ sz ∧ gN S3 ≤ a5 ∧ a5 < gN S5) → ∀ S22 : zS, (zFin true S22) → (pJ (tN 1 0 [] (b + k) []) = .ok (tN 1 0 [] (b + k) [])) → (xJd (sI (sI (sP (sNew S5 16 0 (zslots 16)) 174 (gN S5) (some 0)) 144 (gN S5) (Int32.ofNat (b + k))) 173 (gN S5) 1) (gN S5) S22) → (xTl (gN S) S22 (tN 1 0 [] (b + k) []) (gN S5)) → (xR tp sz S22 r at5 nd5) → (gN S22 = gN S5 + 1 ∧ gZ S22 = gZ S5 + 19) → ∀ S38 : zS, ∀ q38 : Nat, (zFin true S38) → (pJ (tN 11 0 [] (b + k) [y5, tN 1 0 [] (b + k) []]) = .error (3, (b + k))) → (xFn (sP (sP (sI (sI (sP (sNew S22 20 0 (zslots 20)) 190 (gN S22) (some 0)) 144 (gN S22) (Int32.ofNat (b + k))) 187 (gN S22) 0) 188 (gN S22) (some a5)) 189 (gN S22) (some (gN S5))) (gN S22) S38) → (xFl S38 q38 3 (b + k)) → (gN S38 = gN S22 + 1 + 1 ∧ gZ S38 ≤ gZ S22 + 20 + 3) → post (.threw q38, S38)) (h3 : ∀ S3 : zS, ∀ nd3 : Nat, (zFin true S3) → (pRead (b + k) deep nd true = .ok nd3) → (xFr S S3) → (xR tp sz S3 r (b + k) nd3) → (gN S ≤ gN S3 ∧ gN S3 ≤ gN S + 0 ∧ gZ S3 ≤ gZ S + 0) → ((b + k) ≤ sz) → (nd3 ≤ 80) → (deep ≤ 24) → ∀ S5 : zS, ∀ a5 : Nat, ∀ y5 : zNd, ∀ at5 : Nat, ∀ nd5 : Nat, (zFin true S5) → (pWx tp sz rec n ((b + k) + 1) (deep + 1) e0 nd3 = .ok (y5, at5, nd5)) → (xFr (sI S3 133 r (Int32.ofNat ((b + k) + 1))) S5) → (xTl (gN S3) S5 y5 a5) → (xR tp sz S5 r at5 nd5) → (gN S3 ≤ gN S5 ∧ gN S5 + 30 * (sz - at5) ≤ gN S3 + 30 * (sz - e0) + 2 * (e0 - ((b + k) + 1)) ∧ gZ S5 + 150 * (sz - at5) ≤ gZ S3 + 150 * (sz - e0) + 60 * (e0 - ((b + k) + 1))) → (at5 ≤ sz ∧ gN S3 ≤ a5 ∧ a5 < gN S5) → ∀ S23 : zS, ∀ q23 : Nat, (zFin true S23) → (pJ (tN 1 0 [] (b + k) []) = .error (3, (b + k))) → (xFn (sI (sI (sP (sNew S5 16 0 (zslots 16)) 174 (gN S5) (some 0)) 144 (gN S5) (Int32.ofNat (b + k))) 173 (gN S5) 1) (gN S5) S23) → (xFl S23 q23 3 (b + k)) → (gN S23 = gN S5 + 1 + 1 ∧ gZ S23 ≤ gZ S5 + 19 + 3) → post (.threw q23, S23)) (h4 : ∀ S3 : zS, ∀ nd3 : Nat, (zFin true S3) → (pRead (b + k) deep nd true = .ok nd3) → (xFr S S3) → (xR tp sz S3 r (b + k) nd3) → (gN S ≤ gN S3 ∧ gN S3 ≤ gN S + 0 ∧ gZ S3 ≤ gZ S + 0) → ((b + k) ≤ sz) → (nd3 ≤ 80) → (deep ≤ 24) → ∀ S6 : zS, ∀ q6 : Nat, ∀ kk6 : Nat, ∀ z6 : Nat, (zFin true S6) → (pWx tp sz rec n ((b + k) + 1) (deep + 1) e0 nd3 = .error (kk6, z6)) → (xFr (sI S3 133 r (Int32.ofNat ((b + k) + 1))) S6) → (xFl S6 q6 kk6 z6) → (gN S3 ≤ gN S6 ∧ gN S6 ≤ gN S3 + 30 * (sz - e0) + 2 * (e0 - ((b + k) + 1)) + 60 ∧ gZ S6 ≤ gZ S3 + 150 * (sz - e0) + 60 * (e0 - ((b + k) + 1)) + 2000) → post (.threw q6, S6)) (h5 : ∀ S4 : zS, ∀ q4 : Nat, (zFin true S4) → (pRead (b + k) deep nd true = .error (2, (b + k))) → (xFr S S4) → (xFl S4 q4 2 (b + k)) → (gN S ≤ gN S4 ∧ gN S4 ≤ gN S + 1 ∧ gZ S4 ≤ gZ S + 3) → post (.threw q4, S4)) : zCall d 260 [.ref r, .ref w, .int (Int32.ofNat k), .int (Int32.ofNat deep)] S post := by
  have ht : ztab 260 = ztb260 := rfl
  show zEv d 260 0 [.ref r, .ref w, .int (Int32.ofNat k), .int (Int32.ofNat deep), .retAddr 0, .retAddr 0, .retAddr 0, .retAddr 0, .retAddr 0] [] S post
  refine zv_c1 ht rfl rfl ?_
  refine zv_ei (x := Int32.ofNat (b + k)) ht rfl rfl (zhas_of (hR.1.2.2.2.1) rfl) hR.1.1 ?_
  refine zv_c2 (L' := [.ref r, .ref w, .int (Int32.ofNat k), .int (Int32.ofNat deep), .int (Int32.ofNat (b + k)), .retAddr 0, .retAddr 0, .retAddr 0, .retAddr 0]) ht rfl rfl ?_
  refine zv_c1 ht rfl rfl (zv_c1 ht rfl rfl ?_)
  refine zv_cl ht rfl rfl rfl (zv_tgv ((zStr.t hw.1)) rfl) (by omega) (Nat.le_of_ble_eq_true rfl) (x_len (S := S) hF (by omega) hw.1 (n := wl) hwl ?_)
  show zEv d 260 11 [.ref r, .ref w, .int (Int32.ofNat k), .int (Int32.ofNat deep), .int (Int32.ofNat (b + k)), .retAddr 0, .retAddr 0, .retAddr 0, .retAddr 0] [.int (Int32.ofNat wl), .int (Int32.ofNat k)] S post
  refine zv_br ht rfl rfl rfl (fun b1 => ?_) (fun b1 => (show False from by have hq := b1; have hz : k = wl := (zi_eqE (a := k) (b := wl) rfl rfl (by omega) (by omega)).mp (Classical.not_not.mp hq); omega).elim)
  refine zv_c1 ht rfl rfl (zv_c1 ht rfl rfl ?_)
  refine zv_cl ht rfl rfl rfl (zv_tgv ((zStr.t hw.1)) rfl) (by omega) (Nat.le_of_ble_eq_true rfl) (x_char (S := S) hF (by omega) hw.1 (i := k) (by omega) (c := 116) hcc ?_)
  show zEv d 260 39 [.ref r, .ref w, .int (Int32.ofNat k), .int (Int32.ofNat deep), .int (Int32.ofNat (b + k)), .retAddr 0, .retAddr 0, .retAddr 0, .retAddr 0] [.int 116] S post
  refine zv_c2 (L' := [.ref r, .ref w, .int (Int32.ofNat k), .int (Int32.ofNat deep), .int (Int32.ofNat (b + k)), .int 116, .retAddr 0, .retAddr 0, .retAddr 0]) ht rfl rfl ?_
  refine zv_c1 ht rfl rfl (zv_c1 ht rfl rfl ?_)
  refine zv_br ht rfl rfl rfl (fun _ => ?_) (fun h => absurd (by decide) h)
  refine zv_c1 ht rfl rfl (zv_c1 ht rfl rfl ?_)
  refine zv_c2 (L' := [.ref r, .ref w, .int (Int32.ofNat k), .int (Int32.ofNat deep), .int (Int32.ofNat (b + k)), .int 116, .int 1, .retAddr 0, .retAddr 0]) ht rfl rfl ?_
  refine zv_c1 ht rfl rfl ?_
  refine zv_br ht rfl rfl rfl (fun b2 => ?_) (fun b2 => (show False from by have hq := b2; have hz : k = 0 := (zi_eqE (a := k) (b := 0) rfl rfl (by omega) (by omega)).mp (Classical.not_not.mp hq); omega).elim)
  refine zv_c1 ht rfl rfl (zv_c1 ht rfl rfl (zv_c1 ht rfl rfl ?_))
  refine zv_br ht rfl rfl rfl (fun h => absurd h (by decide)) (fun _ => ?_)
  refine zv_c1 ht rfl rfl (zv_c1 ht rfl rfl (zv_c1 ht rfl rfl ?_))
  refine zv_br ht rfl rfl rfl (fun h => absurd h (by decide)) (fun _ => ?_)
  refine zv_c1 ht rfl rfl (zv_c1 ht rfl rfl ?_)
  refine zv_e1 (x := Int32.ofNat (deep + 1)) ht rfl rfl (zi_addE (a := deep) (b := 1) rfl rfl) ?_
  refine zv_c1 ht rfl rfl ?_
  refine zv_cl ht rfl rfl rfl (zv_tgv (hR.1.2.2.2.1) rfl) (by omega) (Nat.le_of_ble_eq_true rfl) (x_begins (S := S) (tp := tp) (sz := sz) (r := r) (p := (b + k)) (dp := deep) (m := 2) (dq := deep + 1) (two := true) hF (by omega) hR (by omega) (by omega) (by omega) (by omega) rfl rfl (fun S3 nd3 hF3 e3 k3 p3 g3 b3 c3 d3 => ?_) (fun S4 q4 hF4 e4 k4 x4 g4 => ?_))
  · show zEv d 260 106 [.ref r, .ref w, .int (Int32.ofNat k), .int (Int32.ofNat deep), .int (Int32.ofNat (b + k)), .int 116, .int 1, .retAddr 0, .retAddr 0] [] S3 post
    refine zv_c1 ht rfl rfl (zv_c1 ht rfl rfl ?_)
    refine zv_ei (x := Int32.ofNat (b + k)) ht rfl rfl (zhas_of (p3.1.2.2.2.1) rfl) p3.1.1 ?_
    refine zv_c1 ht rfl rfl ?_
    refine zv_e1 (x := Int32.ofNat ((b + k) + 1)) ht rfl rfl (zi_addE (a := (b + k)) (b := 1) rfl rfl) ?_
    refine zv_ci (S' := sI S3 133 r (Int32.ofNat ((b + k) + 1))) ht rfl rfl ⟨(zhas_of (p3.1.2.2.2.1) rfl), (show r < gN S3 from by omega)⟩ ?_
    refine zv_c1 ht rfl rfl (zv_c1 ht rfl rfl (zv_c1 ht rfl rfl (zv_c1 ht rfl rfl ?_)))
    refine zv_e1 (x := Int32.ofNat (k + 1)) ht rfl rfl (zi_addE (a := k) (b := 1) rfl rfl) ?_
    refine zv_c1 ht rfl rfl (zv_c1 ht rfl rfl ?_)
    refine zv_e1 (x := Int32.ofNat (deep + 1)) ht rfl rfl (zi_addE (a := deep) (b := 1) rfl rfl) ?_
    refine zv_cl ht rfl rfl rfl (zv_tgv (p3.1.2.2.2.1) rfl) (by omega) (Nat.le_of_ble_eq_true rfl) (xEc.use (g := gN S3) (cN := gN S3 + 30 * (sz - e0) + 2 * (e0 - ((b + k) + 1))) (cZ := gZ S3 + 150 * (sz - e0) + 60 * (e0 - ((b + k) + 1))) rfl ((hIH (by omega)) (S := sI S3 133 r (Int32.ofNat ((b + k) + 1))) (r := r) hF3 (xR_at p3 (by omega)) (xWd.k hw (zKE.tr (zKE.tr zKE.rf (zKE.w k3 (show gN S ≤ gN S from by omega) (fun _ h => h) (fun _ h => h))) (zKE_sI (Or.inl (by decide))))) (by omega) (by omega)) (fun S5 a5 y5 at5 nd5 hF5 e5 k5 t5 p5 g5 c5 => ?_) (fun S6 q6 kk6 z6 hF6 e6 k6 x6 g6 => ?_))
    · show zEv d 260 127 [.ref r, .ref w, .int (Int32.ofNat k), .int (Int32.ofNat deep), .int (Int32.ofNat (b + k)), .int 116, .int 1, .retAddr 0, .retAddr 0] [.ref a5] S5 post
      refine zv_c2 (L' := [.ref r, .ref w, .int (Int32.ofNat k), .int (Int32.ofNat deep), .int (Int32.ofNat (b + k)), .int 116, .int 1, .ref a5, .retAddr 0]) ht rfl rfl ?_
      refine zv_c1 ht rfl rfl ?_
      refine zv_br ht rfl rfl rfl (fun _ => ?_) (fun h => absurd (by decide) h)
      refine zv_c1 ht rfl rfl ?_
      refine zv_ci (st' := [.ref (gN S5), .ref r]) (S' := sNew S5 16 0 (zslots 16)) ht rfl rfl (znew_ok (show 1639 ≤ gN S5 from by omega) (show gN S5 < 2000000 from by omega)) ?_
      refine zv_c1 ht rfl rfl (zv_c1 ht rfl rfl ?_)
      refine zv_g3 (q := 0) ht rfl (zFin_new hF5) rfl rfl (zhas_of (Eq.trans (ztyp_new (S := S5) (t := 16) (n := 0) (s := zslots 16) (show r ≠ gN S5 from by omega)) p5.1.2.2.2.1) rfl) (Eq.trans (gP_new (S := S5) (t := 16) (n := 0) (s := zslots 16) (show r ≠ gN S5 from by omega)) p5.1.2.2.2.2) ?_
      refine zv_c1 ht rfl rfl (zv_c1 ht rfl rfl (zv_c1 ht rfl rfl ?_))
      refine zv_br ht rfl rfl rfl (fun h => absurd h (by decide)) (fun _ => ?_)
      refine zv_c1 ht rfl rfl (zv_c1 ht rfl rfl ?_)
      have C8 : ∀ (pst7 : Outcome × zS → Prop), (pst7 (.returned none, sI (sI (sP (sNew S5 16 0 (zslots 16)) 174 (gN S5) (some 0)) 144 (gN S5) (Int32.ofNat (b + k))) 173 (gN S5) 1)) → zCall (d - 1) 334 [.ref (gN S5), .ref 0, .int (Int32.ofNat (b + k)), .int 1] (sNew S5 16 0 (zslots 16)) pst7 := by
        intro pst7 k18
        have ht9 : ztab 334 = ztb334 := rfl
        show zEv (d - 1) 334 0 [.ref (gN S5), .ref 0, .int (Int32.ofNat (b + k)), .int 1] [] (sNew S5 16 0 (zslots 16)) pst7
        refine zv_c1 ht9 rfl rfl (zv_c1 ht9 rfl rfl ?_)
        refine zv_ci (S' := sP (sNew S5 16 0 (zslots 16)) 174 (gN S5) (some 0)) ht9 rfl rfl ⟨(zhas_of (ztyp_new_at (S := S5) (t := 16) (n := 0) (s := zslots 16) (show 1639 ≤ gN S5 from by omega)) rfl), (show gN S5 < gN S5 + 1 from by omega)⟩ ?_
        refine zv_c1 ht9 rfl rfl (zv_c1 ht9 rfl rfl (zv_c1 ht9 rfl rfl ?_))
        have C11 : ∀ (pst10 : Outcome × zS → Prop), (pst10 (.returned none, sI (sP (sNew S5 16 0 (zslots 16)) 174 (gN S5) (some 0)) 144 (gN S5) (Int32.ofNat (b + k)))) → zCall ((d - 1) - 1) 306 [.ref (gN S5), .ref 0, .int (Int32.ofNat (b + k))] (sP (sNew S5 16 0 (zslots 16)) 174 (gN S5) (some 0)) pst10 := by
          intro pst10 k17
          have ht12 : ztab 306 = ztb306 := rfl
          show zEv ((d - 1) - 1) 306 0 [.ref (gN S5), .ref 0, .int (Int32.ofNat (b + k))] [] (sP (sNew S5 16 0 (zslots 16)) 174 (gN S5) (some 0)) pst10
          refine zv_c1 ht12 rfl rfl (zv_c1 ht12 rfl rfl ?_)
          refine zv_ci (S' := sP (sNew S5 16 0 (zslots 16)) 174 (gN S5) (some 0)) ht12 rfl rfl (zk5 (ztyp_new_at (S := S5) (t := 16) (n := 0) (s := zslots 16) (show 1639 ≤ gN S5 from by omega)) rfl (show gN S5 < gN S5 + 1 from by omega) rfl gP_sP_at) ?_
          refine zv_c1 ht12 rfl rfl (zv_c1 ht12 rfl rfl (zv_c1 ht12 rfl rfl ?_))
          have C14 : ∀ (pst13 : Outcome × zS → Prop), (pst13 (.returned none, sI (sP (sNew S5 16 0 (zslots 16)) 174 (gN S5) (some 0)) 144 (gN S5) (Int32.ofNat (b + k)))) → zCall (((d - 1) - 1) - 1) 280 [.ref (gN S5), .ref 0, .int (Int32.ofNat (b + k))] (sP (sNew S5 16 0 (zslots 16)) 174 (gN S5) (some 0)) pst13 := by
            intro pst13 k16
            have ht15 : ztab 280 = ztb280 := rfl
            show zEv (((d - 1) - 1) - 1) 280 0 [.ref (gN S5), .ref 0, .int (Int32.ofNat (b + k))] [] (sP (sNew S5 16 0 (zslots 16)) 174 (gN S5) (some 0)) pst13
            refine zv_c1 ht15 rfl rfl (zv_c1 ht15 rfl rfl ?_)
            refine zv_ci (S' := sP (sNew S5 16 0 (zslots 16)) 174 (gN S5) (some 0)) ht15 rfl rfl (zk5 (ztyp_new_at (S := S5) (t := 16) (n := 0) (s := zslots 16) (show 1639 ≤ gN S5 from by omega)) rfl (show gN S5 < gN S5 + 1 from by omega) rfl gP_sP_at) ?_
            refine zv_c1 ht15 rfl rfl (zv_c1 ht15 rfl rfl (zv_c1 ht15 rfl rfl (zv_c1 ht15 rfl rfl ?_)))
            refine zv_ci (S' := sI (sP (sNew S5 16 0 (zslots 16)) 174 (gN S5) (some 0)) 144 (gN S5) (Int32.ofNat (b + k))) ht15 rfl rfl ⟨(zhas_of (ztyp_new_at (S := S5) (t := 16) (n := 0) (s := zslots 16) (show 1639 ≤ gN S5 from by omega)) rfl), (show gN S5 < gN S5 + 1 from by omega)⟩ ?_
            exact zv_rt ht15 rfl rfl rfl rfl k16
          refine zv_cl ht12 rfl rfl rfl rfl (by omega) (Nat.le_of_ble_eq_true rfl) (C14 _ ?_)
          show zEv ((d - 1) - 1) 306 11 [.ref (gN S5), .ref 0, .int (Int32.ofNat (b + k))] [] (sI (sP (sNew S5 16 0 (zslots 16)) 174 (gN S5) (some 0)) 144 (gN S5) (Int32.ofNat (b + k))) pst10
          exact zv_rt ht12 rfl rfl rfl rfl k17
        refine zv_cl ht9 rfl rfl rfl rfl (by omega) (Nat.le_of_ble_eq_true rfl) (C11 _ ?_)
        show zEv (d - 1) 334 11 [.ref (gN S5), .ref 0, .int (Int32.ofNat (b + k)), .int 1] [] (sI (sP (sNew S5 16 0 (zslots 16)) 174 (gN S5) (some 0)) 144 (gN S5) (Int32.ofNat (b + k))) pst7
        refine zv_c1 ht9 rfl rfl (zv_c1 ht9 rfl rfl ?_)
        refine zv_ci (S' := sI (sI (sP (sNew S5 16 0 (zslots 16)) 174 (gN S5) (some 0)) 144 (gN S5) (Int32.ofNat (b + k))) 173 (gN S5) 1) ht9 rfl rfl ⟨⟨(zhas_of (ztyp_new_at (S := S5) (t := 16) (n := 0) (s := zslots 16) (show 1639 ≤ gN S5 from by omega)) rfl), (show gN S5 < gN S5 + 1 from by omega)⟩, (by decide)⟩ ?_
        exact zv_rt ht9 rfl rfl rfl rfl k18
      refine zv_cl ht rfl rfl rfl rfl (by omega) (Nat.le_of_ble_eq_true rfl) (C8 _ ?_)
      show zEv d 260 182 [.ref r, .ref w, .int (Int32.ofNat k), .int (Int32.ofNat deep), .int (Int32.ofNat (b + k)), .int 116, .int 1, .ref a5, .retAddr 0] [.ref (gN S5), .ref r] (sI (sI (sP (sNew S5 16 0 (zslots 16)) 174 (gN S5) (some 0)) 144 (gN S5) (Int32.ofNat (b + k))) 173 (gN S5) 1) post
      have C20 : ∀ (pst19 : Outcome × zS → Prop), (∀ S22 : zS, (zFin true S22) → (pJ (tN 1 0 [] (b + k) []) = .ok (tN 1 0 [] (b + k) [])) → (xJd (sI (sI (sP (sNew S5 16 0 (zslots 16)) 174 (gN S5) (some 0)) 144 (gN S5) (Int32.ofNat (b + k))) 173 (gN S5) 1) (gN S5) S22) → (xTl (gN S) S22 (tN 1 0 [] (b + k) []) (gN S5)) → (xR tp sz S22 r at5 nd5) → (gN S22 = gN S5 + 1 ∧ gZ S22 = gZ S5 + 19) → pst19 (.returned (some (.ref (gN S5))), S22)) → (∀ S23 : zS, ∀ q23 : Nat, (zFin true S23) → (pJ (tN 1 0 [] (b + k) []) = .error (3, (b + k))) → (xFn (sI (sI (sP (sNew S5 16 0 (zslots 16)) 174 (gN S5) (some 0)) 144 (gN S5) (Int32.ofNat (b + k))) 173 (gN S5) 1) (gN S5) S23) → (xFl S23 q23 3 (b + k)) → (gN S23 = gN S5 + 1 + 1 ∧ gZ S23 ≤ gZ S5 + 19 + 3) → pst19 (.threw q23, S23)) → zCall (d - 1) 253 [.ref r, .ref (gN S5)] (sI (sI (sP (sNew S5 16 0 (zslots 16)) 174 (gN S5) (some 0)) 144 (gN S5) (Int32.ofNat (b + k))) 173 (gN S5) 1) pst19 := by
        intro pst19 k24 k25
        have ht21 : ztab 253 = ztb253 := rfl
        show zEv (d - 1) 253 0 [.ref r, .ref (gN S5)] [] (sI (sI (sP (sNew S5 16 0 (zslots 16)) 174 (gN S5) (some 0)) 144 (gN S5) (Int32.ofNat (b + k))) 173 (gN S5) 1) pst19
        refine zv_c1 ht21 rfl rfl ?_
        refine zv_cl ht21 rfl rfl rfl (zv_tgm (ztyp_new_at (S := S5) (t := 16) (n := 0) (s := zslots 16) (show 1639 ≤ gN S5 from by omega)) rfl) (by omega) (Nat.le_of_ble_eq_true rfl) (x_judgeR (S := sI (sI (sP (sNew S5 16 0 (zslots 16)) 174 (gN S5) (some 0)) 144 (gN S5) (Int32.ofNat (b + k))) 173 (gN S5) 1) (tp := tp) (sz := sz) (r := r) (a := gN S5) (k := 1) (v := 0) (p := (b + k)) (ks := []) (js := []) (cs := []) (g := gN S5 + 1) (lo := gN S) (zFin_sP (zFin_new hF5) rfl) (by omega) (by omega) (by omega) (by omega) (by omega) rfl (xOwn_B (by decide) (ztyp_new_at (S := S5) (t := 16) (n := 0) (s := zslots 16) (show 1639 ≤ gN S5 from by omega)) (gI_sI_at)) rfl (by decide) (by omega) (gI_sI_at) (gI_new_at (S := S5) (t := 16) (n := 0) (s := zslots 16)) (gI_new_at (S := S5) (t := 16) (n := 0) (s := zslots 16)) (xR.ke (Fs := []) p5 (zKE.tr (zKE.tr (zKE.tr (zKE.tr zKE.rf (zKE_new (show gN S5 ≤ gN S5 ∧ gN S5 < zLB from ⟨by omega, by have hLB : zLB = 4294967296 := rfl; omega⟩))) (zKE_sP (Or.inr (Or.inr ⟨by omega, by have hLB : zLB = 4294967296 := rfl; omega⟩)))) (zKE_sI (Or.inr (Or.inr ⟨by omega, by have hLB : zLB = 4294967296 := rfl; omega⟩)))) (zKE_sI (Or.inr (Or.inr ⟨by omega, by have hLB : zLB = 4294967296 := rfl; omega⟩)))) (by omega) (by decide)) (by omega) (fun S22 hF22 e22 j22 t22 p22 g22 => ?_) (fun S23 q23 hF23 e23 k23 x23 g23 => ?_))
        · show zEv (d - 1) 253 4 [.ref r, .ref (gN S5)] [] S22 pst19
          refine zv_c1 ht21 rfl rfl ?_
          exact zv_rt ht21 rfl rfl rfl rfl (k24 S22 hF22 e22 j22 t22 p22 g22)
        · exact (k25 S23 q23 hF23 e23 k23 x23 g23)
      refine zv_cl ht rfl rfl rfl (zv_tgv (Eq.trans (ztyp_new (S := S5) (t := 16) (n := 0) (s := zslots 16) (show r ≠ gN S5 from by omega)) p5.1.2.2.2.1) rfl) (by omega) (Nat.le_of_ble_eq_true rfl) (C20 _ (fun S22 hF22 e22 j22 t22 p22 g22 => ?_) (fun S23 q23 hF23 e23 k23 x23 g23 => ?_))
      · show zEv d 260 185 [.ref r, .ref w, .int (Int32.ofNat k), .int (Int32.ofNat deep), .int (Int32.ofNat (b + k)), .int 116, .int 1, .ref a5, .retAddr 0] [.ref (gN S5)] S22 post
        refine zv_c2 (L' := [.ref r, .ref w, .int (Int32.ofNat k), .int (Int32.ofNat deep), .int (Int32.ofNat (b + k)), .int 116, .int 1, .ref a5, .ref (gN S5)]) ht rfl rfl ?_
        refine zv_c1 ht rfl rfl (zv_c1 ht rfl rfl (zv_c1 ht rfl rfl ?_))
        refine zv_br ht rfl rfl rfl (fun h => absurd h (by decide)) (fun _ => ?_)
        refine zv_ci (st' := [.ref (gN S22), .ref r]) (S' := sNew S22 20 0 (zslots 20)) ht rfl rfl (znew_ok (show 1639 ≤ gN S22 from by omega) (show gN S22 < 2000000 from by omega)) ?_
        refine zv_c1 ht rfl rfl (zv_c1 ht rfl rfl ?_)
        refine zv_g3 (q := 0) ht rfl (zFin_new hF22) rfl rfl (zhas_of (Eq.trans (ztyp_new (S := S22) (t := 20) (n := 0) (s := zslots 20) (show r ≠ gN S22 from by omega)) p22.1.2.2.2.1) rfl) (Eq.trans (gP_new (S := S22) (t := 20) (n := 0) (s := zslots 20) (show r ≠ gN S22 from by omega)) p22.1.2.2.2.2) ?_
        refine zv_c1 ht rfl rfl (zv_c1 ht rfl rfl (zv_c1 ht rfl rfl (zv_c1 ht rfl rfl ?_)))
        have C27 : ∀ (pst26 : Outcome × zS → Prop), (pst26 (.returned none, sP (sP (sI (sI (sP (sNew S22 20 0 (zslots 20)) 190 (gN S22) (some 0)) 144 (gN S22) (Int32.ofNat (b + k))) 187 (gN S22) 0) 188 (gN S22) (some a5)) 189 (gN S22) (some (gN S5)))) → zCall (d - 1) 373 [.ref (gN S22), .ref 0, .int (Int32.ofNat (b + k)), .int 0, .ref a5, .ref (gN S5)] (sNew S22 20 0 (zslots 20)) pst26 := by
          intro pst26 k33
          have ht28 : ztab 373 = ztb373 := rfl
          show zEv (d - 1) 373 0 [.ref (gN S22), .ref 0, .int (Int32.ofNat (b + k)), .int 0, .ref a5, .ref (gN S5)] [] (sNew S22 20 0 (zslots 20)) pst26
          refine zv_c1 ht28 rfl rfl (zv_c1 ht28 rfl rfl ?_)
          refine zv_ci (S' := sP (sNew S22 20 0 (zslots 20)) 190 (gN S22) (some 0)) ht28 rfl rfl ⟨(zhas_of (ztyp_new_at (S := S22) (t := 20) (n := 0) (s := zslots 20) (show 1639 ≤ gN S22 from by omega)) rfl), (show gN S22 < gN S22 + 1 from by omega)⟩ ?_
          refine zv_c1 ht28 rfl rfl (zv_c1 ht28 rfl rfl (zv_c1 ht28 rfl rfl ?_))
          have C30 : ∀ (pst29 : Outcome × zS → Prop), (pst29 (.returned none, sI (sP (sNew S22 20 0 (zslots 20)) 190 (gN S22) (some 0)) 144 (gN S22) (Int32.ofNat (b + k)))) → zCall ((d - 1) - 1) 280 [.ref (gN S22), .ref 0, .int (Int32.ofNat (b + k))] (sP (sNew S22 20 0 (zslots 20)) 190 (gN S22) (some 0)) pst29 := by
            intro pst29 k32
            have ht31 : ztab 280 = ztb280 := rfl
            show zEv ((d - 1) - 1) 280 0 [.ref (gN S22), .ref 0, .int (Int32.ofNat (b + k))] [] (sP (sNew S22 20 0 (zslots 20)) 190 (gN S22) (some 0)) pst29
            refine zv_c1 ht31 rfl rfl (zv_c1 ht31 rfl rfl ?_)
            refine zv_ci (S' := sP (sNew S22 20 0 (zslots 20)) 190 (gN S22) (some 0)) ht31 rfl rfl (zk5 (ztyp_new_at (S := S22) (t := 20) (n := 0) (s := zslots 20) (show 1639 ≤ gN S22 from by omega)) rfl (show gN S22 < gN S22 + 1 from by omega) rfl gP_sP_at) ?_
            refine zv_c1 ht31 rfl rfl (zv_c1 ht31 rfl rfl (zv_c1 ht31 rfl rfl (zv_c1 ht31 rfl rfl ?_)))
            refine zv_ci (S' := sI (sP (sNew S22 20 0 (zslots 20)) 190 (gN S22) (some 0)) 144 (gN S22) (Int32.ofNat (b + k))) ht31 rfl rfl ⟨(zhas_of (ztyp_new_at (S := S22) (t := 20) (n := 0) (s := zslots 20) (show 1639 ≤ gN S22 from by omega)) rfl), (show gN S22 < gN S22 + 1 from by omega)⟩ ?_
            exact zv_rt ht31 rfl rfl rfl rfl k32
          refine zv_cl ht28 rfl rfl rfl rfl (by omega) (Nat.le_of_ble_eq_true rfl) (C30 _ ?_)
          show zEv (d - 1) 373 11 [.ref (gN S22), .ref 0, .int (Int32.ofNat (b + k)), .int 0, .ref a5, .ref (gN S5)] [] (sI (sP (sNew S22 20 0 (zslots 20)) 190 (gN S22) (some 0)) 144 (gN S22) (Int32.ofNat (b + k))) pst26
          refine zv_c1 ht28 rfl rfl (zv_c1 ht28 rfl rfl ?_)
          refine zv_ci (S' := sI (sI (sP (sNew S22 20 0 (zslots 20)) 190 (gN S22) (some 0)) 144 (gN S22) (Int32.ofNat (b + k))) 187 (gN S22) 0) ht28 rfl rfl ⟨(zhas_of (ztyp_new_at (S := S22) (t := 20) (n := 0) (s := zslots 20) (show 1639 ≤ gN S22 from by omega)) rfl), (show gN S22 < gN S22 + 1 from by omega)⟩ ?_
          refine zv_c1 ht28 rfl rfl (zv_c1 ht28 rfl rfl ?_)
          refine zv_ci (S' := sP (sI (sI (sP (sNew S22 20 0 (zslots 20)) 190 (gN S22) (some 0)) 144 (gN S22) (Int32.ofNat (b + k))) 187 (gN S22) 0) 188 (gN S22) (some a5)) ht28 rfl rfl ⟨(zhas_of (ztyp_new_at (S := S22) (t := 20) (n := 0) (s := zslots 20) (show 1639 ≤ gN S22 from by omega)) rfl), (show gN S22 < gN S22 + 1 from by omega)⟩ ?_
          refine zv_c1 ht28 rfl rfl (zv_c1 ht28 rfl rfl ?_)
          refine zv_ci (S' := sP (sP (sI (sI (sP (sNew S22 20 0 (zslots 20)) 190 (gN S22) (some 0)) 144 (gN S22) (Int32.ofNat (b + k))) 187 (gN S22) 0) 188 (gN S22) (some a5)) 189 (gN S22) (some (gN S5))) ht28 rfl rfl ⟨(zhas_of (ztyp_new_at (S := S22) (t := 20) (n := 0) (s := zslots 20) (show 1639 ≤ gN S22 from by omega)) rfl), (show gN S22 < gN S22 + 1 from by omega)⟩ ?_
          exact zv_rt ht28 rfl rfl rfl rfl k33
        refine zv_cl ht rfl rfl rfl rfl (by omega) (Nat.le_of_ble_eq_true rfl) (C27 _ ?_)
        show zEv d 260 213 [.ref r, .ref w, .int (Int32.ofNat k), .int (Int32.ofNat deep), .int (Int32.ofNat (b + k)), .int 116, .int 1, .ref a5, .ref (gN S5)] [.ref (gN S22), .ref r] (sP (sP (sI (sI (sP (sNew S22 20 0 (zslots 20)) 190 (gN S22) (some 0)) 144 (gN S22) (Int32.ofNat (b + k))) 187 (gN S22) 0) 188 (gN S22) (some a5)) 189 (gN S22) (some (gN S5))) post
        refine zv_c1 ht rfl rfl ?_
        have C35 : ∀ (pst34 : Outcome × zS → Prop), (∀ S37 : zS, (zFin true S37) → (pJ (tN 11 0 [] (b + k) [y5, tN 1 0 [] (b + k) []]) = .ok (tN 11 0 [] (b + k) [y5, tN 1 0 [] (b + k) []])) → (xJd (sP (sP (sI (sI (sP (sNew S22 20 0 (zslots 20)) 190 (gN S22) (some 0)) 144 (gN S22) (Int32.ofNat (b + k))) 187 (gN S22) 0) 188 (gN S22) (some a5)) 189 (gN S22) (some (gN S5))) (gN S22) S37) → (xTl (gN S) S37 (tN 11 0 [] (b + k) [y5, tN 1 0 [] (b + k) []]) (gN S22)) → (xR tp sz S37 r at5 nd5) → (gN S37 = gN S22 + 1 ∧ gZ S37 = gZ S22 + 20) → pst34 (.returned (some (.ref (gN S22))), S37)) → (∀ S38 : zS, ∀ q38 : Nat, (zFin true S38) → (pJ (tN 11 0 [] (b + k) [y5, tN 1 0 [] (b + k) []]) = .error (3, (b + k))) → (xFn (sP (sP (sI (sI (sP (sNew S22 20 0 (zslots 20)) 190 (gN S22) (some 0)) 144 (gN S22) (Int32.ofNat (b + k))) 187 (gN S22) 0) 188 (gN S22) (some a5)) 189 (gN S22) (some (gN S5))) (gN S22) S38) → (xFl S38 q38 3 (b + k)) → (gN S38 = gN S22 + 1 + 1 ∧ gZ S38 ≤ gZ S22 + 20 + 3) → pst34 (.threw q38, S38)) → zCall (d - 1) 253 [.ref r, .ref (gN S22)] (sP (sP (sI (sI (sP (sNew S22 20 0 (zslots 20)) 190 (gN S22) (some 0)) 144 (gN S22) (Int32.ofNat (b + k))) 187 (gN S22) 0) 188 (gN S22) (some a5)) 189 (gN S22) (some (gN S5))) pst34 := by
          intro pst34 k39 k40
          have ht36 : ztab 253 = ztb253 := rfl
          show zEv (d - 1) 253 0 [.ref r, .ref (gN S22)] [] (sP (sP (sI (sI (sP (sNew S22 20 0 (zslots 20)) 190 (gN S22) (some 0)) 144 (gN S22) (Int32.ofNat (b + k))) 187 (gN S22) 0) 188 (gN S22) (some a5)) 189 (gN S22) (some (gN S5))) pst34
          refine zv_c1 ht36 rfl rfl ?_
          refine zv_cl ht36 rfl rfl rfl (zv_tgm (ztyp_new_at (S := S22) (t := 20) (n := 0) (s := zslots 20) (show 1639 ≤ gN S22 from by omega)) rfl) (by omega) (Nat.le_of_ble_eq_true rfl) (x_judgeR (S := sP (sP (sI (sI (sP (sNew S22 20 0 (zslots 20)) 190 (gN S22) (some 0)) 144 (gN S22) (Int32.ofNat (b + k))) 187 (gN S22) 0) 188 (gN S22) (some a5)) 189 (gN S22) (some (gN S5))) (tp := tp) (sz := sz) (r := r) (a := gN S22) (k := 11) (v := 0) (p := (b + k)) (ks := []) (js := [a5, gN S5]) (cs := [y5, tN 1 0 [] (b + k) []]) (g := gN S22 + 1) (lo := gN S) (zFin_sP (zFin_sP (zFin_sP (zFin_new hF22) rfl) rfl) rfl) (by omega) (by omega) (by omega) (by omega) (by omega) rfl (xOwn_P (by decide) (ztyp_new_at (S := S22) (t := 20) (n := 0) (s := zslots 20) (show 1639 ≤ gN S22 from by omega)) (gI_sI_at) (gP_sP_at) (gP_sP_at)) ⟨a5, _, rfl, (xTl.ch t5 (zKE.tr (zKE.tr (zKE.tr (zKE.tr (zKE.tr (zKE.tr (zKE.tr (zKE.tr (zKE.tr (zKE.tr (zKE.tr zKE.rf (zKE_new (show gN S5 ≤ gN S5 ∧ gN S5 < zLB from ⟨by omega, by have hLB : zLB = 4294967296 := rfl; omega⟩))) (zKE_sP (Or.inr (Or.inr ⟨by omega, by have hLB : zLB = 4294967296 := rfl; omega⟩)))) (zKE_sI (Or.inr (Or.inr ⟨by omega, by have hLB : zLB = 4294967296 := rfl; omega⟩)))) (zKE_sI (Or.inr (Or.inr ⟨by omega, by have hLB : zLB = 4294967296 := rfl; omega⟩)))) (xJd.ke j22 ⟨by omega, by have hLB : zLB = 4294967296 := rfl; omega⟩)) (zKE_new (show gN S5 ≤ gN S22 ∧ gN S22 < zLB from ⟨by omega, by have hLB : zLB = 4294967296 := rfl; omega⟩))) (zKE_sP (Or.inr (Or.inr ⟨by omega, by have hLB : zLB = 4294967296 := rfl; omega⟩)))) (zKE_sI (Or.inr (Or.inr ⟨by omega, by have hLB : zLB = 4294967296 := rfl; omega⟩)))) (zKE_sI (Or.inr (Or.inr ⟨by omega, by have hLB : zLB = 4294967296 := rfl; omega⟩)))) (zKE_sP (Or.inr (Or.inr ⟨by omega, by have hLB : zLB = 4294967296 := rfl; omega⟩)))) (zKE_sP (Or.inr (Or.inr ⟨by omega, by have hLB : zLB = 4294967296 := rfl; omega⟩)))) (by omega) (by intro j h1 h2; omega)), ⟨gN S5, _, rfl, (xTl.ch t22 (zKE.tr (zKE.tr (zKE.tr (zKE.tr (zKE.tr (zKE.tr zKE.rf (zKE_new (show gN S22 ≤ gN S22 ∧ gN S22 < zLB from ⟨by omega, by have hLB : zLB = 4294967296 := rfl; omega⟩))) (zKE_sP (Or.inr (Or.inr ⟨by omega, by have hLB : zLB = 4294967296 := rfl; omega⟩)))) (zKE_sI (Or.inr (Or.inr ⟨by omega, by have hLB : zLB = 4294967296 := rfl; omega⟩)))) (zKE_sI (Or.inr (Or.inr ⟨by omega, by have hLB : zLB = 4294967296 := rfl; omega⟩)))) (zKE_sP (Or.inr (Or.inr ⟨by omega, by have hLB : zLB = 4294967296 := rfl; omega⟩)))) (zKE_sP (Or.inr (Or.inr ⟨by omega, by have hLB : zLB = 4294967296 := rfl; omega⟩)))) (by omega) (by intro j h1 h2; omega)), rfl⟩⟩ (by decide) (by omega) (gI_sI_at) (gI_new_at (S := S22) (t := 20) (n := 0) (s := zslots 20)) (gI_new_at (S := S22) (t := 20) (n := 0) (s := zslots 20)) (xR.ke (Fs := []) p22 (zKE.tr (zKE.tr (zKE.tr (zKE.tr (zKE.tr (zKE.tr zKE.rf (zKE_new (show gN S22 ≤ gN S22 ∧ gN S22 < zLB from ⟨by omega, by have hLB : zLB = 4294967296 := rfl; omega⟩))) (zKE_sP (Or.inr (Or.inr ⟨by omega, by have hLB : zLB = 4294967296 := rfl; omega⟩)))) (zKE_sI (Or.inr (Or.inr ⟨by omega, by have hLB : zLB = 4294967296 := rfl; omega⟩)))) (zKE_sI (Or.inr (Or.inr ⟨by omega, by have hLB : zLB = 4294967296 := rfl; omega⟩)))) (zKE_sP (Or.inr (Or.inr ⟨by omega, by have hLB : zLB = 4294967296 := rfl; omega⟩)))) (zKE_sP (Or.inr (Or.inr ⟨by omega, by have hLB : zLB = 4294967296 := rfl; omega⟩)))) (by omega) (by decide)) (by omega) (fun S37 hF37 e37 j37 t37 p37 g37 => ?_) (fun S38 q38 hF38 e38 k38 x38 g38 => ?_))
          · show zEv (d - 1) 253 4 [.ref r, .ref (gN S22)] [] S37 pst34
            refine zv_c1 ht36 rfl rfl ?_
            exact zv_rt ht36 rfl rfl rfl rfl (k39 S37 hF37 e37 j37 t37 p37 g37)
          · exact (k40 S38 q38 hF38 e38 k38 x38 g38)
        refine zv_cl ht rfl rfl rfl (zv_tgv (Eq.trans (ztyp_new (S := S22) (t := 20) (n := 0) (s := zslots 20) (show r ≠ gN S22 from by omega)) p22.1.2.2.2.1) rfl) (by omega) (Nat.le_of_ble_eq_true rfl) (C35 _ (fun S37 hF37 e37 j37 t37 p37 g37 => ?_) (fun S38 q38 hF38 e38 k38 x38 g38 => ?_))
        · show zEv d 260 265 [.ref r, .ref w, .int (Int32.ofNat k), .int (Int32.ofNat deep), .int (Int32.ofNat (b + k)), .int 116, .int 1, .ref a5, .ref (gN S5)] [.ref (gN S22)] S37 post
          exact zv_rt ht rfl rfl rfl rfl (h1 S3 nd3 hF3 e3 k3 p3 g3 b3 c3 d3 S5 a5 y5 at5 nd5 hF5 e5 k5 t5 p5 g5 c5 S22 hF22 e22 j22 t22 p22 g22 S37 hF37 e37 j37 t37 p37 g37)
        · exact (h2 S3 nd3 hF3 e3 k3 p3 g3 b3 c3 d3 S5 a5 y5 at5 nd5 hF5 e5 k5 t5 p5 g5 c5 S22 hF22 e22 j22 t22 p22 g22 S38 q38 hF38 e38 k38 x38 g38)
      · exact (h3 S3 nd3 hF3 e3 k3 p3 g3 b3 c3 d3 S5 a5 y5 at5 nd5 hF5 e5 k5 t5 p5 g5 c5 S23 q23 hF23 e23 k23 x23 g23)
    · exact (h4 S3 nd3 hF3 e3 k3 p3 g3 b3 c3 d3 S6 q6 kk6 z6 hF6 e6 k6 x6 g6)
  · exact (h5 S4 q4 hF4 e4 k4 x4 g4)

theorem wrP108 {d : Nat} {S : zS} (hF : zFin true S) (hd : 5 ≤ d) {tp : Nat → Nat} {sz at0 nd r : Nat} {rec : Nat → Nat → Nat → pE (zNd × Nat × Nat)} {K n : Nat} {w : Nat} (b e0 wl k deep : Nat) (hR : xR tp sz S r (b + k) nd) (hs0 : sz ≤ 300) (ha0 : (b + k) ≤ sz) (hr1 : 1639 ≤ r) (hr2 : r < gN S) (hN : gN S + 30 * (sz - (b + k)) ≤ 1700000) (hdp : deep < 1000) (hnd : nd ≤ 80) (hw : xWd S w (pWl tp b e0)) (hwN : w < gN S) (hwl : (pWl tp b e0).length = wl) (hel : e0 = b + wl) (hes : e0 < sz) (hk0 : 0 < k) (hk : k < wl) (hcc : (pWl tp b e0).getD k 0 = 108) (hIH : deep ≤ 24 → xWr tp sz (d - 1) w b e0 rec n (k + 1) (deep + 1)) {post : Outcome × zS → Prop} (h1 : ∀ S3 : zS, ∀ nd3 : Nat, (zFin true S3) → (pRead (b + k) deep nd true = .ok nd3) → (xFr S S3) → (xR tp sz S3 r (b + k) nd3) → (gN S ≤ gN S3 ∧ gN S3 ≤ gN S + 0 ∧ gZ S3 ≤ gZ S + 0) → ((b + k) ≤ sz) → (nd3 ≤ 80) → (deep ≤ 24) → ∀ S5 : zS, ∀ a5 : Nat, ∀ y5 : zNd, ∀ at5 : Nat, ∀ nd5 : Nat, (zFin true S5) → (pWx tp sz rec n ((b + k) + 1) (deep + 1) e0 nd3 = .ok (y5, at5, nd5)) → (xFr (sI S3 133 r (Int32.ofNat ((b + k) + 1))) S5) → (xTl (gN S3) S5 y5 a5) → (xR tp sz S5 r at5 nd5) → (gN S3 ≤ gN S5 ∧ gN S5 + 30 * (sz - at5) ≤ gN S3 + 30 * (sz - e0) + 2 * (e0 - ((b + k) + 1)) ∧ gZ S5 + 150 * (sz - at5) ≤ gZ S3 + 150 * (sz - e0) + 60 * (e0 - ((b + k) + 1))) → (at5 ≤ sz ∧ gN S3 ≤ a5 ∧ a5 < gN S5) → ∀ S22 : zS, (zFin true S22) → (pJ (tN 0 0 [] (b + k) []) = .ok (tN 0 0 [] (b + k) [])) → (xJd (sI (sI (sP (sNew S5 16 0 (zslots 16)) 174 (gN S5) (some 0)) 144 (gN S5) (Int32.ofNat (b + k))) 173 (gN S5) 0) (gN S5) S22) → (xTl (gN S) S22 (tN 0 0 [] (b + k) []) (gN S5)) → (xR tp sz S22 r at5 nd5) → (gN S22 = gN S5 + 1 ∧ gZ S22 = gZ S5 + 19) → ∀ S37 : zS, (zFin true S37) → (pJ (tN 16 0 [] (b + k) [tN 0 0 [] (b + k) [], y5]) = .ok (tN 16 0 [] (b + k) [tN 0 0 [] (b + k) [], y5])) → (xJd (sP (sP (sI (sI (sP (sNew S22 20 0 (zslots 20)) 190 (gN S22) (some 0)) 144 (gN S22) (Int32.ofNat (b + k))) 187 (gN S22) 5) 188 (gN S22) (some (gN S5))) 189 (gN S22) (some a5)) (gN S22) S37) → (xTl (gN S) S37 (tN 16 0 [] (b + k) [tN 0 0 [] (b + k) [], y5]) (gN S22)) → (xR tp sz S37 r at5 nd5) → (gN S37 = gN S22 + 1 ∧ gZ S37 = gZ S22 + 20) → post (.returned (some (.ref (gN S22))), S37)) (h2 : ∀ S3 : zS, ∀ nd3 : Nat, (zFin true S3) → (pRead (b + k) deep nd true = .ok nd3) → (xFr S S3) → (xR tp sz S3 r (b + k) nd3) → (gN S ≤ gN S3 ∧ gN S3 ≤ gN S + 0 ∧ gZ S3 ≤ gZ S + 0) → ((b + k) ≤ sz) → (nd3 ≤ 80) → (deep ≤ 24) → ∀ S5 : zS, ∀ a5 : Nat, ∀ y5 : zNd, ∀ at5 : Nat, ∀ nd5 : Nat, (zFin true S5) → (pWx tp sz rec n ((b + k) + 1) (deep + 1) e0 nd3 = .ok (y5, at5, nd5)) → (xFr (sI S3 133 r (Int32.ofNat ((b + k) + 1))) S5) → (xTl (gN S3) S5 y5 a5) → (xR tp sz S5 r at5 nd5) → (gN S3 ≤ gN S5 ∧ gN S5 + 30 * (sz - at5) ≤ gN S3 + 30 * (sz - e0) + 2 * (e0 - ((b + k) + 1)) ∧ gZ S5 + 150 * (sz - at5) ≤ gZ S3 + 150 * (sz - e0) + 60 * (e0 - ((b + k) + 1))) → (at5 ≤ sz ∧ gN S3 ≤ a5 ∧ a5 < gN S5) → ∀ S22 : zS, (zFin true S22) → (pJ (tN 0 0 [] (b + k) []) = .ok (tN 0 0 [] (b + k) [])) → (xJd (sI (sI (sP (sNew S5 16 0 (zslots 16)) 174 (gN S5) (some 0)) 144 (gN S5) (Int32.ofNat (b + k))) 173 (gN S5) 0) (gN S5) S22) → (xTl (gN S) S22 (tN 0 0 [] (b + k) []) (gN S5)) → (xR tp sz S22 r at5 nd5) → (gN S22 = gN S5 + 1 ∧ gZ S22 = gZ S5 + 19) → ∀ S38 : zS, ∀ q38 : Nat, (zFin true S38) → (pJ (tN 16 0 [] (b + k) [tN 0 0 [] (b + k) [], y5]) = .error (3, (b + k))) → (xFn (sP (sP (sI (sI (sP (sNew S22 20 0 (zslots 20)) 190 (gN S22) (some 0)) 144 (gN S22) (Int32.ofNat (b + k))) 187 (gN S22) 5) 188 (gN S22) (some (gN S5))) 189 (gN S22) (some a5)) (gN S22) S38) → (xFl S38 q38 3 (b + k)) → (gN S38 = gN S22 + 1 + 1 ∧ gZ S38 ≤ gZ S22 + 20 + 3) → post (.threw q38, S38)) (h3 : ∀ S3 : zS, ∀ nd3 : Nat, (zFin true S3) → (pRead (b + k) deep nd true = .ok nd3) → (xFr S S3) → (xR tp sz S3 r (b + k) nd3) → (gN S ≤ gN S3 ∧ gN S3 ≤ gN S + 0 ∧ gZ S3 ≤ gZ S + 0) → ((b + k) ≤ sz) → (nd3 ≤ 80) → (deep ≤ 24) → ∀ S5 : zS, ∀ a5 : Nat, ∀ y5 : zNd, ∀ at5 : Nat, ∀ nd5 : Nat, (zFin true S5) → (pWx tp sz rec n ((b + k) + 1) (deep + 1) e0 nd3 = .ok (y5, at5, nd5)) → (xFr (sI S3 133 r (Int32.ofNat ((b + k) + 1))) S5) → (xTl (gN S3) S5 y5 a5) → (xR tp sz S5 r at5 nd5) → (gN S3 ≤ gN S5 ∧ gN S5 + 30 * (sz - at5) ≤ gN S3 + 30 * (sz - e0) + 2 * (e0 - ((b + k) + 1)) ∧ gZ S5 + 150 * (sz - at5) ≤ gZ S3 + 150 * (sz - e0) + 60 * (e0 - ((b + k) + 1))) → (at5 ≤ sz ∧ gN S3 ≤ a5 ∧ a5 < gN S5) → ∀ S23 : zS, ∀ q23 : Nat, (zFin true S23) → (pJ (tN 0 0 [] (b + k) []) = .error (3, (b + k))) → (xFn (sI (sI (sP (sNew S5 16 0 (zslots 16)) 174 (gN S5) (some 0)) 144 (gN S5) (Int32.ofNat (b + k))) 173 (gN S5) 0) (gN S5) S23) → (xFl S23 q23 3 (b + k)) → (gN S23 = gN S5 + 1 + 1 ∧ gZ S23 ≤ gZ S5 + 19 + 3) → post (.threw q23, S23)) (h4 : ∀ S3 : zS, ∀ nd3 : Nat, (zFin true S3) → (pRead (b + k) deep nd true = .ok nd3) → (xFr S S3) → (xR tp sz S3 r (b + k) nd3) → (gN S ≤ gN S3 ∧ gN S3 ≤ gN S + 0 ∧ gZ S3 ≤ gZ S + 0) → ((b + k) ≤ sz) → (nd3 ≤ 80) → (deep ≤ 24) → ∀ S6 : zS, ∀ q6 : Nat, ∀ kk6 : Nat, ∀ z6 : Nat, (zFin true S6) → (pWx tp sz rec n ((b + k) + 1) (deep + 1) e0 nd3 = .error (kk6, z6)) → (xFr (sI S3 133 r (Int32.ofNat ((b + k) + 1))) S6) → (xFl S6 q6 kk6 z6) → (gN S3 ≤ gN S6 ∧ gN S6 ≤ gN S3 + 30 * (sz - e0) + 2 * (e0 - ((b + k) + 1)) + 60 ∧ gZ S6 ≤ gZ S3 + 150 * (sz - e0) + 60 * (e0 - ((b + k) + 1)) + 2000) → post (.threw q6, S6)) (h5 : ∀ S4 : zS, ∀ q4 : Nat, (zFin true S4) → (pRead (b + k) deep nd true = .error (2, (b + k))) → (xFr S S4) → (xFl S4 q4 2 (b + k)) → (gN S ≤ gN S4 ∧ gN S4 ≤ gN S + 1 ∧ gZ S4 ≤ gZ S + 3) → post (.threw q4, S4)) : zCall d 260 [.ref r, .ref w, .int (Int32.ofNat k), .int (Int32.ofNat deep)] S post := by
  have ht : ztab 260 = ztb260 := rfl
  show zEv d 260 0 [.ref r, .ref w, .int (Int32.ofNat k), .int (Int32.ofNat deep), .retAddr 0, .retAddr 0, .retAddr 0, .retAddr 0, .retAddr 0] [] S post
  refine zv_c1 ht rfl rfl ?_
  refine zv_ei (x := Int32.ofNat (b + k)) ht rfl rfl (zhas_of (hR.1.2.2.2.1) rfl) hR.1.1 ?_
  refine zv_c2 (L' := [.ref r, .ref w, .int (Int32.ofNat k), .int (Int32.ofNat deep), .int (Int32.ofNat (b + k)), .retAddr 0, .retAddr 0, .retAddr 0, .retAddr 0]) ht rfl rfl ?_
  refine zv_c1 ht rfl rfl (zv_c1 ht rfl rfl ?_)
  refine zv_cl ht rfl rfl rfl (zv_tgv ((zStr.t hw.1)) rfl) (by omega) (Nat.le_of_ble_eq_true rfl) (x_len (S := S) hF (by omega) hw.1 (n := wl) hwl ?_)
  show zEv d 260 11 [.ref r, .ref w, .int (Int32.ofNat k), .int (Int32.ofNat deep), .int (Int32.ofNat (b + k)), .retAddr 0, .retAddr 0, .retAddr 0, .retAddr 0] [.int (Int32.ofNat wl), .int (Int32.ofNat k)] S post
  refine zv_br ht rfl rfl rfl (fun b1 => ?_) (fun b1 => (show False from by have hq := b1; have hz : k = wl := (zi_eqE (a := k) (b := wl) rfl rfl (by omega) (by omega)).mp (Classical.not_not.mp hq); omega).elim)
  refine zv_c1 ht rfl rfl (zv_c1 ht rfl rfl ?_)
  refine zv_cl ht rfl rfl rfl (zv_tgv ((zStr.t hw.1)) rfl) (by omega) (Nat.le_of_ble_eq_true rfl) (x_char (S := S) hF (by omega) hw.1 (i := k) (by omega) (c := 108) hcc ?_)
  show zEv d 260 39 [.ref r, .ref w, .int (Int32.ofNat k), .int (Int32.ofNat deep), .int (Int32.ofNat (b + k)), .retAddr 0, .retAddr 0, .retAddr 0, .retAddr 0] [.int 108] S post
  refine zv_c2 (L' := [.ref r, .ref w, .int (Int32.ofNat k), .int (Int32.ofNat deep), .int (Int32.ofNat (b + k)), .int 108, .retAddr 0, .retAddr 0, .retAddr 0]) ht rfl rfl ?_
  refine zv_c1 ht rfl rfl (zv_c1 ht rfl rfl ?_)
  refine zv_br ht rfl rfl rfl (fun h => absurd h (by decide)) (fun _ => ?_)
  refine zv_c1 ht rfl rfl (zv_c1 ht rfl rfl ?_)
  refine zv_br ht rfl rfl rfl (fun _ => ?_) (fun h => absurd (by decide) h)
  refine zv_c1 ht rfl rfl (zv_c1 ht rfl rfl ?_)
  refine zv_c2 (L' := [.ref r, .ref w, .int (Int32.ofNat k), .int (Int32.ofNat deep), .int (Int32.ofNat (b + k)), .int 108, .int 1, .retAddr 0, .retAddr 0]) ht rfl rfl ?_
  refine zv_c1 ht rfl rfl ?_
  refine zv_br ht rfl rfl rfl (fun b2 => ?_) (fun b2 => (show False from by have hq := b2; have hz : k = 0 := (zi_eqE (a := k) (b := 0) rfl rfl (by omega) (by omega)).mp (Classical.not_not.mp hq); omega).elim)
  refine zv_c1 ht rfl rfl (zv_c1 ht rfl rfl (zv_c1 ht rfl rfl ?_))
  refine zv_br ht rfl rfl rfl (fun h => absurd h (by decide)) (fun _ => ?_)
  refine zv_c1 ht rfl rfl (zv_c1 ht rfl rfl (zv_c1 ht rfl rfl ?_))
  refine zv_br ht rfl rfl rfl (fun h => absurd h (by decide)) (fun _ => ?_)
  refine zv_c1 ht rfl rfl (zv_c1 ht rfl rfl ?_)
  refine zv_e1 (x := Int32.ofNat (deep + 1)) ht rfl rfl (zi_addE (a := deep) (b := 1) rfl rfl) ?_
  refine zv_c1 ht rfl rfl ?_
  refine zv_cl ht rfl rfl rfl (zv_tgv (hR.1.2.2.2.1) rfl) (by omega) (Nat.le_of_ble_eq_true rfl) (x_begins (S := S) (tp := tp) (sz := sz) (r := r) (p := (b + k)) (dp := deep) (m := 2) (dq := deep + 1) (two := true) hF (by omega) hR (by omega) (by omega) (by omega) (by omega) rfl rfl (fun S3 nd3 hF3 e3 k3 p3 g3 b3 c3 d3 => ?_) (fun S4 q4 hF4 e4 k4 x4 g4 => ?_))
  · show zEv d 260 106 [.ref r, .ref w, .int (Int32.ofNat k), .int (Int32.ofNat deep), .int (Int32.ofNat (b + k)), .int 108, .int 1, .retAddr 0, .retAddr 0] [] S3 post
    refine zv_c1 ht rfl rfl (zv_c1 ht rfl rfl ?_)
    refine zv_ei (x := Int32.ofNat (b + k)) ht rfl rfl (zhas_of (p3.1.2.2.2.1) rfl) p3.1.1 ?_
    refine zv_c1 ht rfl rfl ?_
    refine zv_e1 (x := Int32.ofNat ((b + k) + 1)) ht rfl rfl (zi_addE (a := (b + k)) (b := 1) rfl rfl) ?_
    refine zv_ci (S' := sI S3 133 r (Int32.ofNat ((b + k) + 1))) ht rfl rfl ⟨(zhas_of (p3.1.2.2.2.1) rfl), (show r < gN S3 from by omega)⟩ ?_
    refine zv_c1 ht rfl rfl (zv_c1 ht rfl rfl (zv_c1 ht rfl rfl (zv_c1 ht rfl rfl ?_)))
    refine zv_e1 (x := Int32.ofNat (k + 1)) ht rfl rfl (zi_addE (a := k) (b := 1) rfl rfl) ?_
    refine zv_c1 ht rfl rfl (zv_c1 ht rfl rfl ?_)
    refine zv_e1 (x := Int32.ofNat (deep + 1)) ht rfl rfl (zi_addE (a := deep) (b := 1) rfl rfl) ?_
    refine zv_cl ht rfl rfl rfl (zv_tgv (p3.1.2.2.2.1) rfl) (by omega) (Nat.le_of_ble_eq_true rfl) (xEc.use (g := gN S3) (cN := gN S3 + 30 * (sz - e0) + 2 * (e0 - ((b + k) + 1))) (cZ := gZ S3 + 150 * (sz - e0) + 60 * (e0 - ((b + k) + 1))) rfl ((hIH (by omega)) (S := sI S3 133 r (Int32.ofNat ((b + k) + 1))) (r := r) hF3 (xR_at p3 (by omega)) (xWd.k hw (zKE.tr (zKE.tr zKE.rf (zKE.w k3 (show gN S ≤ gN S from by omega) (fun _ h => h) (fun _ h => h))) (zKE_sI (Or.inl (by decide))))) (by omega) (by omega)) (fun S5 a5 y5 at5 nd5 hF5 e5 k5 t5 p5 g5 c5 => ?_) (fun S6 q6 kk6 z6 hF6 e6 k6 x6 g6 => ?_))
    · show zEv d 260 127 [.ref r, .ref w, .int (Int32.ofNat k), .int (Int32.ofNat deep), .int (Int32.ofNat (b + k)), .int 108, .int 1, .retAddr 0, .retAddr 0] [.ref a5] S5 post
      refine zv_c2 (L' := [.ref r, .ref w, .int (Int32.ofNat k), .int (Int32.ofNat deep), .int (Int32.ofNat (b + k)), .int 108, .int 1, .ref a5, .retAddr 0]) ht rfl rfl ?_
      refine zv_c1 ht rfl rfl ?_
      refine zv_br ht rfl rfl rfl (fun _ => ?_) (fun h => absurd (by decide) h)
      refine zv_c1 ht rfl rfl ?_
      refine zv_ci (st' := [.ref (gN S5), .ref r]) (S' := sNew S5 16 0 (zslots 16)) ht rfl rfl (znew_ok (show 1639 ≤ gN S5 from by omega) (show gN S5 < 2000000 from by omega)) ?_
      refine zv_c1 ht rfl rfl (zv_c1 ht rfl rfl ?_)
      refine zv_g3 (q := 0) ht rfl (zFin_new hF5) rfl rfl (zhas_of (Eq.trans (ztyp_new (S := S5) (t := 16) (n := 0) (s := zslots 16) (show r ≠ gN S5 from by omega)) p5.1.2.2.2.1) rfl) (Eq.trans (gP_new (S := S5) (t := 16) (n := 0) (s := zslots 16) (show r ≠ gN S5 from by omega)) p5.1.2.2.2.2) ?_
      refine zv_c1 ht rfl rfl (zv_c1 ht rfl rfl (zv_c1 ht rfl rfl ?_))
      refine zv_br ht rfl rfl rfl (fun _ => ?_) (fun h => absurd (by decide) h)
      refine zv_c1 ht rfl rfl ?_
      have C8 : ∀ (pst7 : Outcome × zS → Prop), (pst7 (.returned none, sI (sI (sP (sNew S5 16 0 (zslots 16)) 174 (gN S5) (some 0)) 144 (gN S5) (Int32.ofNat (b + k))) 173 (gN S5) 0)) → zCall (d - 1) 334 [.ref (gN S5), .ref 0, .int (Int32.ofNat (b + k)), .int 0] (sNew S5 16 0 (zslots 16)) pst7 := by
        intro pst7 k18
        have ht9 : ztab 334 = ztb334 := rfl
        show zEv (d - 1) 334 0 [.ref (gN S5), .ref 0, .int (Int32.ofNat (b + k)), .int 0] [] (sNew S5 16 0 (zslots 16)) pst7
        refine zv_c1 ht9 rfl rfl (zv_c1 ht9 rfl rfl ?_)
        refine zv_ci (S' := sP (sNew S5 16 0 (zslots 16)) 174 (gN S5) (some 0)) ht9 rfl rfl ⟨(zhas_of (ztyp_new_at (S := S5) (t := 16) (n := 0) (s := zslots 16) (show 1639 ≤ gN S5 from by omega)) rfl), (show gN S5 < gN S5 + 1 from by omega)⟩ ?_
        refine zv_c1 ht9 rfl rfl (zv_c1 ht9 rfl rfl (zv_c1 ht9 rfl rfl ?_))
        have C11 : ∀ (pst10 : Outcome × zS → Prop), (pst10 (.returned none, sI (sP (sNew S5 16 0 (zslots 16)) 174 (gN S5) (some 0)) 144 (gN S5) (Int32.ofNat (b + k)))) → zCall ((d - 1) - 1) 306 [.ref (gN S5), .ref 0, .int (Int32.ofNat (b + k))] (sP (sNew S5 16 0 (zslots 16)) 174 (gN S5) (some 0)) pst10 := by
          intro pst10 k17
          have ht12 : ztab 306 = ztb306 := rfl
          show zEv ((d - 1) - 1) 306 0 [.ref (gN S5), .ref 0, .int (Int32.ofNat (b + k))] [] (sP (sNew S5 16 0 (zslots 16)) 174 (gN S5) (some 0)) pst10
          refine zv_c1 ht12 rfl rfl (zv_c1 ht12 rfl rfl ?_)
          refine zv_ci (S' := sP (sNew S5 16 0 (zslots 16)) 174 (gN S5) (some 0)) ht12 rfl rfl (zk5 (ztyp_new_at (S := S5) (t := 16) (n := 0) (s := zslots 16) (show 1639 ≤ gN S5 from by omega)) rfl (show gN S5 < gN S5 + 1 from by omega) rfl gP_sP_at) ?_
          refine zv_c1 ht12 rfl rfl (zv_c1 ht12 rfl rfl (zv_c1 ht12 rfl rfl ?_))
          have C14 : ∀ (pst13 : Outcome × zS → Prop), (pst13 (.returned none, sI (sP (sNew S5 16 0 (zslots 16)) 174 (gN S5) (some 0)) 144 (gN S5) (Int32.ofNat (b + k)))) → zCall (((d - 1) - 1) - 1) 280 [.ref (gN S5), .ref 0, .int (Int32.ofNat (b + k))] (sP (sNew S5 16 0 (zslots 16)) 174 (gN S5) (some 0)) pst13 := by
            intro pst13 k16
            have ht15 : ztab 280 = ztb280 := rfl
            show zEv (((d - 1) - 1) - 1) 280 0 [.ref (gN S5), .ref 0, .int (Int32.ofNat (b + k))] [] (sP (sNew S5 16 0 (zslots 16)) 174 (gN S5) (some 0)) pst13
            refine zv_c1 ht15 rfl rfl (zv_c1 ht15 rfl rfl ?_)
            refine zv_ci (S' := sP (sNew S5 16 0 (zslots 16)) 174 (gN S5) (some 0)) ht15 rfl rfl (zk5 (ztyp_new_at (S := S5) (t := 16) (n := 0) (s := zslots 16) (show 1639 ≤ gN S5 from by omega)) rfl (show gN S5 < gN S5 + 1 from by omega) rfl gP_sP_at) ?_
            refine zv_c1 ht15 rfl rfl (zv_c1 ht15 rfl rfl (zv_c1 ht15 rfl rfl (zv_c1 ht15 rfl rfl ?_)))
            refine zv_ci (S' := sI (sP (sNew S5 16 0 (zslots 16)) 174 (gN S5) (some 0)) 144 (gN S5) (Int32.ofNat (b + k))) ht15 rfl rfl ⟨(zhas_of (ztyp_new_at (S := S5) (t := 16) (n := 0) (s := zslots 16) (show 1639 ≤ gN S5 from by omega)) rfl), (show gN S5 < gN S5 + 1 from by omega)⟩ ?_
            exact zv_rt ht15 rfl rfl rfl rfl k16
          refine zv_cl ht12 rfl rfl rfl rfl (by omega) (Nat.le_of_ble_eq_true rfl) (C14 _ ?_)
          show zEv ((d - 1) - 1) 306 11 [.ref (gN S5), .ref 0, .int (Int32.ofNat (b + k))] [] (sI (sP (sNew S5 16 0 (zslots 16)) 174 (gN S5) (some 0)) 144 (gN S5) (Int32.ofNat (b + k))) pst10
          exact zv_rt ht12 rfl rfl rfl rfl k17
        refine zv_cl ht9 rfl rfl rfl rfl (by omega) (Nat.le_of_ble_eq_true rfl) (C11 _ ?_)
        show zEv (d - 1) 334 11 [.ref (gN S5), .ref 0, .int (Int32.ofNat (b + k)), .int 0] [] (sI (sP (sNew S5 16 0 (zslots 16)) 174 (gN S5) (some 0)) 144 (gN S5) (Int32.ofNat (b + k))) pst7
        refine zv_c1 ht9 rfl rfl (zv_c1 ht9 rfl rfl ?_)
        refine zv_ci (S' := sI (sI (sP (sNew S5 16 0 (zslots 16)) 174 (gN S5) (some 0)) 144 (gN S5) (Int32.ofNat (b + k))) 173 (gN S5) 0) ht9 rfl rfl ⟨⟨(zhas_of (ztyp_new_at (S := S5) (t := 16) (n := 0) (s := zslots 16) (show 1639 ≤ gN S5 from by omega)) rfl), (show gN S5 < gN S5 + 1 from by omega)⟩, (by decide)⟩ ?_
        exact zv_rt ht9 rfl rfl rfl rfl k18
      refine zv_cl ht rfl rfl rfl rfl (by omega) (Nat.le_of_ble_eq_true rfl) (C8 _ ?_)
      show zEv d 260 182 [.ref r, .ref w, .int (Int32.ofNat k), .int (Int32.ofNat deep), .int (Int32.ofNat (b + k)), .int 108, .int 1, .ref a5, .retAddr 0] [.ref (gN S5), .ref r] (sI (sI (sP (sNew S5 16 0 (zslots 16)) 174 (gN S5) (some 0)) 144 (gN S5) (Int32.ofNat (b + k))) 173 (gN S5) 0) post
      have C20 : ∀ (pst19 : Outcome × zS → Prop), (∀ S22 : zS, (zFin true S22) → (pJ (tN 0 0 [] (b + k) []) = .ok (tN 0 0 [] (b + k) [])) → (xJd (sI (sI (sP (sNew S5 16 0 (zslots 16)) 174 (gN S5) (some 0)) 144 (gN S5) (Int32.ofNat (b + k))) 173 (gN S5) 0) (gN S5) S22) → (xTl (gN S) S22 (tN 0 0 [] (b + k) []) (gN S5)) → (xR tp sz S22 r at5 nd5) → (gN S22 = gN S5 + 1 ∧ gZ S22 = gZ S5 + 19) → pst19 (.returned (some (.ref (gN S5))), S22)) → (∀ S23 : zS, ∀ q23 : Nat, (zFin true S23) → (pJ (tN 0 0 [] (b + k) []) = .error (3, (b + k))) → (xFn (sI (sI (sP (sNew S5 16 0 (zslots 16)) 174 (gN S5) (some 0)) 144 (gN S5) (Int32.ofNat (b + k))) 173 (gN S5) 0) (gN S5) S23) → (xFl S23 q23 3 (b + k)) → (gN S23 = gN S5 + 1 + 1 ∧ gZ S23 ≤ gZ S5 + 19 + 3) → pst19 (.threw q23, S23)) → zCall (d - 1) 253 [.ref r, .ref (gN S5)] (sI (sI (sP (sNew S5 16 0 (zslots 16)) 174 (gN S5) (some 0)) 144 (gN S5) (Int32.ofNat (b + k))) 173 (gN S5) 0) pst19 := by
        intro pst19 k24 k25
        have ht21 : ztab 253 = ztb253 := rfl
        show zEv (d - 1) 253 0 [.ref r, .ref (gN S5)] [] (sI (sI (sP (sNew S5 16 0 (zslots 16)) 174 (gN S5) (some 0)) 144 (gN S5) (Int32.ofNat (b + k))) 173 (gN S5) 0) pst19
        refine zv_c1 ht21 rfl rfl ?_
        refine zv_cl ht21 rfl rfl rfl (zv_tgm (ztyp_new_at (S := S5) (t := 16) (n := 0) (s := zslots 16) (show 1639 ≤ gN S5 from by omega)) rfl) (by omega) (Nat.le_of_ble_eq_true rfl) (x_judgeR (S := sI (sI (sP (sNew S5 16 0 (zslots 16)) 174 (gN S5) (some 0)) 144 (gN S5) (Int32.ofNat (b + k))) 173 (gN S5) 0) (tp := tp) (sz := sz) (r := r) (a := gN S5) (k := 0) (v := 0) (p := (b + k)) (ks := []) (js := []) (cs := []) (g := gN S5 + 1) (lo := gN S) (zFin_sP (zFin_new hF5) rfl) (by omega) (by omega) (by omega) (by omega) (by omega) rfl (xOwn_B (by decide) (ztyp_new_at (S := S5) (t := 16) (n := 0) (s := zslots 16) (show 1639 ≤ gN S5 from by omega)) (gI_sI_at)) rfl (by decide) (by omega) (gI_sI_at) (gI_new_at (S := S5) (t := 16) (n := 0) (s := zslots 16)) (gI_new_at (S := S5) (t := 16) (n := 0) (s := zslots 16)) (xR.ke (Fs := []) p5 (zKE.tr (zKE.tr (zKE.tr (zKE.tr zKE.rf (zKE_new (show gN S5 ≤ gN S5 ∧ gN S5 < zLB from ⟨by omega, by have hLB : zLB = 4294967296 := rfl; omega⟩))) (zKE_sP (Or.inr (Or.inr ⟨by omega, by have hLB : zLB = 4294967296 := rfl; omega⟩)))) (zKE_sI (Or.inr (Or.inr ⟨by omega, by have hLB : zLB = 4294967296 := rfl; omega⟩)))) (zKE_sI (Or.inr (Or.inr ⟨by omega, by have hLB : zLB = 4294967296 := rfl; omega⟩)))) (by omega) (by decide)) (by omega) (fun S22 hF22 e22 j22 t22 p22 g22 => ?_) (fun S23 q23 hF23 e23 k23 x23 g23 => ?_))
        · show zEv (d - 1) 253 4 [.ref r, .ref (gN S5)] [] S22 pst19
          refine zv_c1 ht21 rfl rfl ?_
          exact zv_rt ht21 rfl rfl rfl rfl (k24 S22 hF22 e22 j22 t22 p22 g22)
        · exact (k25 S23 q23 hF23 e23 k23 x23 g23)
      refine zv_cl ht rfl rfl rfl (zv_tgv (Eq.trans (ztyp_new (S := S5) (t := 16) (n := 0) (s := zslots 16) (show r ≠ gN S5 from by omega)) p5.1.2.2.2.1) rfl) (by omega) (Nat.le_of_ble_eq_true rfl) (C20 _ (fun S22 hF22 e22 j22 t22 p22 g22 => ?_) (fun S23 q23 hF23 e23 k23 x23 g23 => ?_))
      · show zEv d 260 185 [.ref r, .ref w, .int (Int32.ofNat k), .int (Int32.ofNat deep), .int (Int32.ofNat (b + k)), .int 108, .int 1, .ref a5, .retAddr 0] [.ref (gN S5)] S22 post
        refine zv_c2 (L' := [.ref r, .ref w, .int (Int32.ofNat k), .int (Int32.ofNat deep), .int (Int32.ofNat (b + k)), .int 108, .int 1, .ref a5, .ref (gN S5)]) ht rfl rfl ?_
        refine zv_c1 ht rfl rfl (zv_c1 ht rfl rfl (zv_c1 ht rfl rfl ?_))
        refine zv_br ht rfl rfl rfl (fun _ => ?_) (fun h => absurd (by decide) h)
        refine zv_c1 ht rfl rfl (zv_c1 ht rfl rfl ?_)
        refine zv_br ht rfl rfl rfl (fun h => absurd h (by decide)) (fun _ => ?_)
        refine zv_ci (st' := [.ref (gN S22), .ref r]) (S' := sNew S22 20 0 (zslots 20)) ht rfl rfl (znew_ok (show 1639 ≤ gN S22 from by omega) (show gN S22 < 2000000 from by omega)) ?_
        refine zv_c1 ht rfl rfl (zv_c1 ht rfl rfl ?_)
        refine zv_g3 (q := 0) ht rfl (zFin_new hF22) rfl rfl (zhas_of (Eq.trans (ztyp_new (S := S22) (t := 20) (n := 0) (s := zslots 20) (show r ≠ gN S22 from by omega)) p22.1.2.2.2.1) rfl) (Eq.trans (gP_new (S := S22) (t := 20) (n := 0) (s := zslots 20) (show r ≠ gN S22 from by omega)) p22.1.2.2.2.2) ?_
        refine zv_c1 ht rfl rfl (zv_c1 ht rfl rfl (zv_c1 ht rfl rfl (zv_c1 ht rfl rfl ?_)))
        have C27 : ∀ (pst26 : Outcome × zS → Prop), (pst26 (.returned none, sP (sP (sI (sI (sP (sNew S22 20 0 (zslots 20)) 190 (gN S22) (some 0)) 144 (gN S22) (Int32.ofNat (b + k))) 187 (gN S22) 5) 188 (gN S22) (some (gN S5))) 189 (gN S22) (some a5))) → zCall (d - 1) 373 [.ref (gN S22), .ref 0, .int (Int32.ofNat (b + k)), .int 5, .ref (gN S5), .ref a5] (sNew S22 20 0 (zslots 20)) pst26 := by
          intro pst26 k33
          have ht28 : ztab 373 = ztb373 := rfl
          show zEv (d - 1) 373 0 [.ref (gN S22), .ref 0, .int (Int32.ofNat (b + k)), .int 5, .ref (gN S5), .ref a5] [] (sNew S22 20 0 (zslots 20)) pst26
          refine zv_c1 ht28 rfl rfl (zv_c1 ht28 rfl rfl ?_)
          refine zv_ci (S' := sP (sNew S22 20 0 (zslots 20)) 190 (gN S22) (some 0)) ht28 rfl rfl ⟨(zhas_of (ztyp_new_at (S := S22) (t := 20) (n := 0) (s := zslots 20) (show 1639 ≤ gN S22 from by omega)) rfl), (show gN S22 < gN S22 + 1 from by omega)⟩ ?_
          refine zv_c1 ht28 rfl rfl (zv_c1 ht28 rfl rfl (zv_c1 ht28 rfl rfl ?_))
          have C30 : ∀ (pst29 : Outcome × zS → Prop), (pst29 (.returned none, sI (sP (sNew S22 20 0 (zslots 20)) 190 (gN S22) (some 0)) 144 (gN S22) (Int32.ofNat (b + k)))) → zCall ((d - 1) - 1) 280 [.ref (gN S22), .ref 0, .int (Int32.ofNat (b + k))] (sP (sNew S22 20 0 (zslots 20)) 190 (gN S22) (some 0)) pst29 := by
            intro pst29 k32
            have ht31 : ztab 280 = ztb280 := rfl
            show zEv ((d - 1) - 1) 280 0 [.ref (gN S22), .ref 0, .int (Int32.ofNat (b + k))] [] (sP (sNew S22 20 0 (zslots 20)) 190 (gN S22) (some 0)) pst29
            refine zv_c1 ht31 rfl rfl (zv_c1 ht31 rfl rfl ?_)
            refine zv_ci (S' := sP (sNew S22 20 0 (zslots 20)) 190 (gN S22) (some 0)) ht31 rfl rfl (zk5 (ztyp_new_at (S := S22) (t := 20) (n := 0) (s := zslots 20) (show 1639 ≤ gN S22 from by omega)) rfl (show gN S22 < gN S22 + 1 from by omega) rfl gP_sP_at) ?_
            refine zv_c1 ht31 rfl rfl (zv_c1 ht31 rfl rfl (zv_c1 ht31 rfl rfl (zv_c1 ht31 rfl rfl ?_)))
            refine zv_ci (S' := sI (sP (sNew S22 20 0 (zslots 20)) 190 (gN S22) (some 0)) 144 (gN S22) (Int32.ofNat (b + k))) ht31 rfl rfl ⟨(zhas_of (ztyp_new_at (S := S22) (t := 20) (n := 0) (s := zslots 20) (show 1639 ≤ gN S22 from by omega)) rfl), (show gN S22 < gN S22 + 1 from by omega)⟩ ?_
            exact zv_rt ht31 rfl rfl rfl rfl k32
          refine zv_cl ht28 rfl rfl rfl rfl (by omega) (Nat.le_of_ble_eq_true rfl) (C30 _ ?_)
          show zEv (d - 1) 373 11 [.ref (gN S22), .ref 0, .int (Int32.ofNat (b + k)), .int 5, .ref (gN S5), .ref a5] [] (sI (sP (sNew S22 20 0 (zslots 20)) 190 (gN S22) (some 0)) 144 (gN S22) (Int32.ofNat (b + k))) pst26
          refine zv_c1 ht28 rfl rfl (zv_c1 ht28 rfl rfl ?_)
          refine zv_ci (S' := sI (sI (sP (sNew S22 20 0 (zslots 20)) 190 (gN S22) (some 0)) 144 (gN S22) (Int32.ofNat (b + k))) 187 (gN S22) 5) ht28 rfl rfl ⟨(zhas_of (ztyp_new_at (S := S22) (t := 20) (n := 0) (s := zslots 20) (show 1639 ≤ gN S22 from by omega)) rfl), (show gN S22 < gN S22 + 1 from by omega)⟩ ?_
          refine zv_c1 ht28 rfl rfl (zv_c1 ht28 rfl rfl ?_)
          refine zv_ci (S' := sP (sI (sI (sP (sNew S22 20 0 (zslots 20)) 190 (gN S22) (some 0)) 144 (gN S22) (Int32.ofNat (b + k))) 187 (gN S22) 5) 188 (gN S22) (some (gN S5))) ht28 rfl rfl ⟨(zhas_of (ztyp_new_at (S := S22) (t := 20) (n := 0) (s := zslots 20) (show 1639 ≤ gN S22 from by omega)) rfl), (show gN S22 < gN S22 + 1 from by omega)⟩ ?_
          refine zv_c1 ht28 rfl rfl (zv_c1 ht28 rfl rfl ?_)
          refine zv_ci (S' := sP (sP (sI (sI (sP (sNew S22 20 0 (zslots 20)) 190 (gN S22) (some 0)) 144 (gN S22) (Int32.ofNat (b + k))) 187 (gN S22) 5) 188 (gN S22) (some (gN S5))) 189 (gN S22) (some a5)) ht28 rfl rfl ⟨(zhas_of (ztyp_new_at (S := S22) (t := 20) (n := 0) (s := zslots 20) (show 1639 ≤ gN S22 from by omega)) rfl), (show gN S22 < gN S22 + 1 from by omega)⟩ ?_
          exact zv_rt ht28 rfl rfl rfl rfl k33
        refine zv_cl ht rfl rfl rfl rfl (by omega) (Nat.le_of_ble_eq_true rfl) (C27 _ ?_)
        show zEv d 260 241 [.ref r, .ref w, .int (Int32.ofNat k), .int (Int32.ofNat deep), .int (Int32.ofNat (b + k)), .int 108, .int 1, .ref a5, .ref (gN S5)] [.ref (gN S22), .ref r] (sP (sP (sI (sI (sP (sNew S22 20 0 (zslots 20)) 190 (gN S22) (some 0)) 144 (gN S22) (Int32.ofNat (b + k))) 187 (gN S22) 5) 188 (gN S22) (some (gN S5))) 189 (gN S22) (some a5)) post
        refine zv_c1 ht rfl rfl ?_
        have C35 : ∀ (pst34 : Outcome × zS → Prop), (∀ S37 : zS, (zFin true S37) → (pJ (tN 16 0 [] (b + k) [tN 0 0 [] (b + k) [], y5]) = .ok (tN 16 0 [] (b + k) [tN 0 0 [] (b + k) [], y5])) → (xJd (sP (sP (sI (sI (sP (sNew S22 20 0 (zslots 20)) 190 (gN S22) (some 0)) 144 (gN S22) (Int32.ofNat (b + k))) 187 (gN S22) 5) 188 (gN S22) (some (gN S5))) 189 (gN S22) (some a5)) (gN S22) S37) → (xTl (gN S) S37 (tN 16 0 [] (b + k) [tN 0 0 [] (b + k) [], y5]) (gN S22)) → (xR tp sz S37 r at5 nd5) → (gN S37 = gN S22 + 1 ∧ gZ S37 = gZ S22 + 20) → pst34 (.returned (some (.ref (gN S22))), S37)) → (∀ S38 : zS, ∀ q38 : Nat, (zFin true S38) → (pJ (tN 16 0 [] (b + k) [tN 0 0 [] (b + k) [], y5]) = .error (3, (b + k))) → (xFn (sP (sP (sI (sI (sP (sNew S22 20 0 (zslots 20)) 190 (gN S22) (some 0)) 144 (gN S22) (Int32.ofNat (b + k))) 187 (gN S22) 5) 188 (gN S22) (some (gN S5))) 189 (gN S22) (some a5)) (gN S22) S38) → (xFl S38 q38 3 (b + k)) → (gN S38 = gN S22 + 1 + 1 ∧ gZ S38 ≤ gZ S22 + 20 + 3) → pst34 (.threw q38, S38)) → zCall (d - 1) 253 [.ref r, .ref (gN S22)] (sP (sP (sI (sI (sP (sNew S22 20 0 (zslots 20)) 190 (gN S22) (some 0)) 144 (gN S22) (Int32.ofNat (b + k))) 187 (gN S22) 5) 188 (gN S22) (some (gN S5))) 189 (gN S22) (some a5)) pst34 := by
          intro pst34 k39 k40
          have ht36 : ztab 253 = ztb253 := rfl
          show zEv (d - 1) 253 0 [.ref r, .ref (gN S22)] [] (sP (sP (sI (sI (sP (sNew S22 20 0 (zslots 20)) 190 (gN S22) (some 0)) 144 (gN S22) (Int32.ofNat (b + k))) 187 (gN S22) 5) 188 (gN S22) (some (gN S5))) 189 (gN S22) (some a5)) pst34
          refine zv_c1 ht36 rfl rfl ?_
          refine zv_cl ht36 rfl rfl rfl (zv_tgm (ztyp_new_at (S := S22) (t := 20) (n := 0) (s := zslots 20) (show 1639 ≤ gN S22 from by omega)) rfl) (by omega) (Nat.le_of_ble_eq_true rfl) (x_judgeR (S := sP (sP (sI (sI (sP (sNew S22 20 0 (zslots 20)) 190 (gN S22) (some 0)) 144 (gN S22) (Int32.ofNat (b + k))) 187 (gN S22) 5) 188 (gN S22) (some (gN S5))) 189 (gN S22) (some a5)) (tp := tp) (sz := sz) (r := r) (a := gN S22) (k := 16) (v := 0) (p := (b + k)) (ks := []) (js := [gN S5, a5]) (cs := [tN 0 0 [] (b + k) [], y5]) (g := gN S22 + 1) (lo := gN S) (zFin_sP (zFin_sP (zFin_sP (zFin_new hF22) rfl) rfl) rfl) (by omega) (by omega) (by omega) (by omega) (by omega) rfl (xOwn_P (by decide) (ztyp_new_at (S := S22) (t := 20) (n := 0) (s := zslots 20) (show 1639 ≤ gN S22 from by omega)) (gI_sI_at) (gP_sP_at) (gP_sP_at)) ⟨gN S5, _, rfl, (xTl.ch t22 (zKE.tr (zKE.tr (zKE.tr (zKE.tr (zKE.tr (zKE.tr zKE.rf (zKE_new (show gN S22 ≤ gN S22 ∧ gN S22 < zLB from ⟨by omega, by have hLB : zLB = 4294967296 := rfl; omega⟩))) (zKE_sP (Or.inr (Or.inr ⟨by omega, by have hLB : zLB = 4294967296 := rfl; omega⟩)))) (zKE_sI (Or.inr (Or.inr ⟨by omega, by have hLB : zLB = 4294967296 := rfl; omega⟩)))) (zKE_sI (Or.inr (Or.inr ⟨by omega, by have hLB : zLB = 4294967296 := rfl; omega⟩)))) (zKE_sP (Or.inr (Or.inr ⟨by omega, by have hLB : zLB = 4294967296 := rfl; omega⟩)))) (zKE_sP (Or.inr (Or.inr ⟨by omega, by have hLB : zLB = 4294967296 := rfl; omega⟩)))) (by omega) (by intro j h1 h2; omega)), ⟨a5, _, rfl, (xTl.ch t5 (zKE.tr (zKE.tr (zKE.tr (zKE.tr (zKE.tr (zKE.tr (zKE.tr (zKE.tr (zKE.tr (zKE.tr (zKE.tr zKE.rf (zKE_new (show gN S5 ≤ gN S5 ∧ gN S5 < zLB from ⟨by omega, by have hLB : zLB = 4294967296 := rfl; omega⟩))) (zKE_sP (Or.inr (Or.inr ⟨by omega, by have hLB : zLB = 4294967296 := rfl; omega⟩)))) (zKE_sI (Or.inr (Or.inr ⟨by omega, by have hLB : zLB = 4294967296 := rfl; omega⟩)))) (zKE_sI (Or.inr (Or.inr ⟨by omega, by have hLB : zLB = 4294967296 := rfl; omega⟩)))) (xJd.ke j22 ⟨by omega, by have hLB : zLB = 4294967296 := rfl; omega⟩)) (zKE_new (show gN S5 ≤ gN S22 ∧ gN S22 < zLB from ⟨by omega, by have hLB : zLB = 4294967296 := rfl; omega⟩))) (zKE_sP (Or.inr (Or.inr ⟨by omega, by have hLB : zLB = 4294967296 := rfl; omega⟩)))) (zKE_sI (Or.inr (Or.inr ⟨by omega, by have hLB : zLB = 4294967296 := rfl; omega⟩)))) (zKE_sI (Or.inr (Or.inr ⟨by omega, by have hLB : zLB = 4294967296 := rfl; omega⟩)))) (zKE_sP (Or.inr (Or.inr ⟨by omega, by have hLB : zLB = 4294967296 := rfl; omega⟩)))) (zKE_sP (Or.inr (Or.inr ⟨by omega, by have hLB : zLB = 4294967296 := rfl; omega⟩)))) (by omega) (by intro j h1 h2; omega)), rfl⟩⟩ (by decide) (by omega) (gI_sI_at) (gI_new_at (S := S22) (t := 20) (n := 0) (s := zslots 20)) (gI_new_at (S := S22) (t := 20) (n := 0) (s := zslots 20)) (xR.ke (Fs := []) p22 (zKE.tr (zKE.tr (zKE.tr (zKE.tr (zKE.tr (zKE.tr zKE.rf (zKE_new (show gN S22 ≤ gN S22 ∧ gN S22 < zLB from ⟨by omega, by have hLB : zLB = 4294967296 := rfl; omega⟩))) (zKE_sP (Or.inr (Or.inr ⟨by omega, by have hLB : zLB = 4294967296 := rfl; omega⟩)))) (zKE_sI (Or.inr (Or.inr ⟨by omega, by have hLB : zLB = 4294967296 := rfl; omega⟩)))) (zKE_sI (Or.inr (Or.inr ⟨by omega, by have hLB : zLB = 4294967296 := rfl; omega⟩)))) (zKE_sP (Or.inr (Or.inr ⟨by omega, by have hLB : zLB = 4294967296 := rfl; omega⟩)))) (zKE_sP (Or.inr (Or.inr ⟨by omega, by have hLB : zLB = 4294967296 := rfl; omega⟩)))) (by omega) (by decide)) (by omega) (fun S37 hF37 e37 j37 t37 p37 g37 => ?_) (fun S38 q38 hF38 e38 k38 x38 g38 => ?_))
          · show zEv (d - 1) 253 4 [.ref r, .ref (gN S22)] [] S37 pst34
            refine zv_c1 ht36 rfl rfl ?_
            exact zv_rt ht36 rfl rfl rfl rfl (k39 S37 hF37 e37 j37 t37 p37 g37)
          · exact (k40 S38 q38 hF38 e38 k38 x38 g38)
        refine zv_cl ht rfl rfl rfl (zv_tgv (Eq.trans (ztyp_new (S := S22) (t := 20) (n := 0) (s := zslots 20) (show r ≠ gN S22 from by omega)) p22.1.2.2.2.1) rfl) (by omega) (Nat.le_of_ble_eq_true rfl) (C35 _ (fun S37 hF37 e37 j37 t37 p37 g37 => ?_) (fun S38 q38 hF38 e38 k38 x38 g38 => ?_))
        · show zEv d 260 265 [.ref r, .ref w, .int (Int32.ofNat k), .int (Int32.ofNat deep), .int (Int32.ofNat (b + k)), .int 108, .int 1, .ref a5, .ref (gN S5)] [.ref (gN S22)] S37 post
          exact zv_rt ht rfl rfl rfl rfl (h1 S3 nd3 hF3 e3 k3 p3 g3 b3 c3 d3 S5 a5 y5 at5 nd5 hF5 e5 k5 t5 p5 g5 c5 S22 hF22 e22 j22 t22 p22 g22 S37 hF37 e37 j37 t37 p37 g37)
        · exact (h2 S3 nd3 hF3 e3 k3 p3 g3 b3 c3 d3 S5 a5 y5 at5 nd5 hF5 e5 k5 t5 p5 g5 c5 S22 hF22 e22 j22 t22 p22 g22 S38 q38 hF38 e38 k38 x38 g38)
      · exact (h3 S3 nd3 hF3 e3 k3 p3 g3 b3 c3 d3 S5 a5 y5 at5 nd5 hF5 e5 k5 t5 p5 g5 c5 S23 q23 hF23 e23 k23 x23 g23)
    · exact (h4 S3 nd3 hF3 e3 k3 p3 g3 b3 c3 d3 S6 q6 kk6 z6 hF6 e6 k6 x6 g6)
  · exact (h5 S4 q4 hF4 e4 k4 x4 g4)

theorem wrP117 {d : Nat} {S : zS} (hF : zFin true S) (hd : 5 ≤ d) {tp : Nat → Nat} {sz at0 nd r : Nat} {rec : Nat → Nat → Nat → pE (zNd × Nat × Nat)} {K n : Nat} {w : Nat} (b e0 wl k deep : Nat) (hR : xR tp sz S r (b + k) nd) (hs0 : sz ≤ 300) (ha0 : (b + k) ≤ sz) (hr1 : 1639 ≤ r) (hr2 : r < gN S) (hN : gN S + 30 * (sz - (b + k)) ≤ 1700000) (hdp : deep < 1000) (hnd : nd ≤ 80) (hw : xWd S w (pWl tp b e0)) (hwN : w < gN S) (hwl : (pWl tp b e0).length = wl) (hel : e0 = b + wl) (hes : e0 < sz) (hk0 : 0 < k) (hk : k < wl) (hcc : (pWl tp b e0).getD k 0 = 117) (hIH : deep ≤ 24 → xWr tp sz (d - 1) w b e0 rec n (k + 1) (deep + 1)) {post : Outcome × zS → Prop} (h1 : ∀ S3 : zS, ∀ nd3 : Nat, (zFin true S3) → (pRead (b + k) deep nd true = .ok nd3) → (xFr S S3) → (xR tp sz S3 r (b + k) nd3) → (gN S ≤ gN S3 ∧ gN S3 ≤ gN S + 0 ∧ gZ S3 ≤ gZ S + 0) → ((b + k) ≤ sz) → (nd3 ≤ 80) → (deep ≤ 24) → ∀ S5 : zS, ∀ a5 : Nat, ∀ y5 : zNd, ∀ at5 : Nat, ∀ nd5 : Nat, (zFin true S5) → (pWx tp sz rec n ((b + k) + 1) (deep + 1) e0 nd3 = .ok (y5, at5, nd5)) → (xFr (sI S3 133 r (Int32.ofNat ((b + k) + 1))) S5) → (xTl (gN S3) S5 y5 a5) → (xR tp sz S5 r at5 nd5) → (gN S3 ≤ gN S5 ∧ gN S5 + 30 * (sz - at5) ≤ gN S3 + 30 * (sz - e0) + 2 * (e0 - ((b + k) + 1)) ∧ gZ S5 + 150 * (sz - at5) ≤ gZ S3 + 150 * (sz - e0) + 60 * (e0 - ((b + k) + 1))) → (at5 ≤ sz ∧ gN S3 ≤ a5 ∧ a5 < gN S5) → ∀ S22 : zS, (zFin true S22) → (pJ (tN 0 0 [] (b + k) []) = .ok (tN 0 0 [] (b + k) [])) → (xJd (sI (sI (sP (sNew S5 16 0 (zslots 16)) 174 (gN S5) (some 0)) 144 (gN S5) (Int32.ofNat (b + k))) 173 (gN S5) 0) (gN S5) S22) → (xTl (gN S) S22 (tN 0 0 [] (b + k) []) (gN S5)) → (xR tp sz S22 r at5 nd5) → (gN S22 = gN S5 + 1 ∧ gZ S22 = gZ S5 + 19) → ∀ S37 : zS, (zFin true S37) → (pJ (tN 16 0 [] (b + k) [y5, tN 0 0 [] (b + k) []]) = .ok (tN 16 0 [] (b + k) [y5, tN 0 0 [] (b + k) []])) → (xJd (sP (sP (sI (sI (sP (sNew S22 20 0 (zslots 20)) 190 (gN S22) (some 0)) 144 (gN S22) (Int32.ofNat (b + k))) 187 (gN S22) 5) 188 (gN S22) (some a5)) 189 (gN S22) (some (gN S5))) (gN S22) S37) → (xTl (gN S) S37 (tN 16 0 [] (b + k) [y5, tN 0 0 [] (b + k) []]) (gN S22)) → (xR tp sz S37 r at5 nd5) → (gN S37 = gN S22 + 1 ∧ gZ S37 = gZ S22 + 20) → post (.returned (some (.ref (gN S22))), S37)) (h2 : ∀ S3 : zS, ∀ nd3 : Nat, (zFin true S3) → (pRead (b + k) deep nd true = .ok nd3) → (xFr S S3) → (xR tp sz S3 r (b + k) nd3) → (gN S ≤ gN S3 ∧ gN S3 ≤ gN S + 0 ∧ gZ S3 ≤ gZ S + 0) → ((b + k) ≤ sz) → (nd3 ≤ 80) → (deep ≤ 24) → ∀ S5 : zS, ∀ a5 : Nat, ∀ y5 : zNd, ∀ at5 : Nat, ∀ nd5 : Nat, (zFin true S5) → (pWx tp sz rec n ((b + k) + 1) (deep + 1) e0 nd3 = .ok (y5, at5, nd5)) → (xFr (sI S3 133 r (Int32.ofNat ((b + k) + 1))) S5) → (xTl (gN S3) S5 y5 a5) → (xR tp sz S5 r at5 nd5) → (gN S3 ≤ gN S5 ∧ gN S5 + 30 * (sz - at5) ≤ gN S3 + 30 * (sz - e0) + 2 * (e0 - ((b + k) + 1)) ∧ gZ S5 + 150 * (sz - at5) ≤ gZ S3 + 150 * (sz - e0) + 60 * (e0 - ((b + k) + 1))) → (at5 ≤ sz ∧ gN S3 ≤ a5 ∧ a5 < gN S5) → ∀ S22 : zS, (zFin true S22) → (pJ (tN 0 0 [] (b + k) []) = .ok (tN 0 0 [] (b + k) [])) → (xJd (sI (sI (sP (sNew S5 16 0 (zslots 16)) 174 (gN S5) (some 0)) 144 (gN S5) (Int32.ofNat (b + k))) 173 (gN S5) 0) (gN S5) S22) → (xTl (gN S) S22 (tN 0 0 [] (b + k) []) (gN S5)) → (xR tp sz S22 r at5 nd5) → (gN S22 = gN S5 + 1 ∧ gZ S22 = gZ S5 + 19) → ∀ S38 : zS, ∀ q38 : Nat, (zFin true S38) → (pJ (tN 16 0 [] (b + k) [y5, tN 0 0 [] (b + k) []]) = .error (3, (b + k))) → (xFn (sP (sP (sI (sI (sP (sNew S22 20 0 (zslots 20)) 190 (gN S22) (some 0)) 144 (gN S22) (Int32.ofNat (b + k))) 187 (gN S22) 5) 188 (gN S22) (some a5)) 189 (gN S22) (some (gN S5))) (gN S22) S38) → (xFl S38 q38 3 (b + k)) → (gN S38 = gN S22 + 1 + 1 ∧ gZ S38 ≤ gZ S22 + 20 + 3) → post (.threw q38, S38)) (h3 : ∀ S3 : zS, ∀ nd3 : Nat, (zFin true S3) → (pRead (b + k) deep nd true = .ok nd3) → (xFr S S3) → (xR tp sz S3 r (b + k) nd3) → (gN S ≤ gN S3 ∧ gN S3 ≤ gN S + 0 ∧ gZ S3 ≤ gZ S + 0) → ((b + k) ≤ sz) → (nd3 ≤ 80) → (deep ≤ 24) → ∀ S5 : zS, ∀ a5 : Nat, ∀ y5 : zNd, ∀ at5 : Nat, ∀ nd5 : Nat, (zFin true S5) → (pWx tp sz rec n ((b + k) + 1) (deep + 1) e0 nd3 = .ok (y5, at5, nd5)) → (xFr (sI S3 133 r (Int32.ofNat ((b + k) + 1))) S5) → (xTl (gN S3) S5 y5 a5) → (xR tp sz S5 r at5 nd5) → (gN S3 ≤ gN S5 ∧ gN S5 + 30 * (sz - at5) ≤ gN S3 + 30 * (sz - e0) + 2 * (e0 - ((b + k) + 1)) ∧ gZ S5 + 150 * (sz - at5) ≤ gZ S3 + 150 * (sz - e0) + 60 * (e0 - ((b + k) + 1))) → (at5 ≤ sz ∧ gN S3 ≤ a5 ∧ a5 < gN S5) → ∀ S23 : zS, ∀ q23 : Nat, (zFin true S23) → (pJ (tN 0 0 [] (b + k) []) = .error (3, (b + k))) → (xFn (sI (sI (sP (sNew S5 16 0 (zslots 16)) 174 (gN S5) (some 0)) 144 (gN S5) (Int32.ofNat (b + k))) 173 (gN S5) 0) (gN S5) S23) → (xFl S23 q23 3 (b + k)) → (gN S23 = gN S5 + 1 + 1 ∧ gZ S23 ≤ gZ S5 + 19 + 3) → post (.threw q23, S23)) (h4 : ∀ S3 : zS, ∀ nd3 : Nat, (zFin true S3) → (pRead (b + k) deep nd true = .ok nd3) → (xFr S S3) → (xR tp sz S3 r (b + k) nd3) → (gN S ≤ gN S3 ∧ gN S3 ≤ gN S + 0 ∧ gZ S3 ≤ gZ S + 0) → ((b + k) ≤ sz) → (nd3 ≤ 80) → (deep ≤ 24) → ∀ S6 : zS, ∀ q6 : Nat, ∀ kk6 : Nat, ∀ z6 : Nat, (zFin true S6) → (pWx tp sz rec n ((b + k) + 1) (deep + 1) e0 nd3 = .error (kk6, z6)) → (xFr (sI S3 133 r (Int32.ofNat ((b + k) + 1))) S6) → (xFl S6 q6 kk6 z6) → (gN S3 ≤ gN S6 ∧ gN S6 ≤ gN S3 + 30 * (sz - e0) + 2 * (e0 - ((b + k) + 1)) + 60 ∧ gZ S6 ≤ gZ S3 + 150 * (sz - e0) + 60 * (e0 - ((b + k) + 1)) + 2000) → post (.threw q6, S6)) (h5 : ∀ S4 : zS, ∀ q4 : Nat, (zFin true S4) → (pRead (b + k) deep nd true = .error (2, (b + k))) → (xFr S S4) → (xFl S4 q4 2 (b + k)) → (gN S ≤ gN S4 ∧ gN S4 ≤ gN S + 1 ∧ gZ S4 ≤ gZ S + 3) → post (.threw q4, S4)) : zCall d 260 [.ref r, .ref w, .int (Int32.ofNat k), .int (Int32.ofNat deep)] S post := by
  have ht : ztab 260 = ztb260 := rfl
  show zEv d 260 0 [.ref r, .ref w, .int (Int32.ofNat k), .int (Int32.ofNat deep), .retAddr 0, .retAddr 0, .retAddr 0, .retAddr 0, .retAddr 0] [] S post
  refine zv_c1 ht rfl rfl ?_
  refine zv_ei (x := Int32.ofNat (b + k)) ht rfl rfl (zhas_of (hR.1.2.2.2.1) rfl) hR.1.1 ?_
  refine zv_c2 (L' := [.ref r, .ref w, .int (Int32.ofNat k), .int (Int32.ofNat deep), .int (Int32.ofNat (b + k)), .retAddr 0, .retAddr 0, .retAddr 0, .retAddr 0]) ht rfl rfl ?_
  refine zv_c1 ht rfl rfl (zv_c1 ht rfl rfl ?_)
  refine zv_cl ht rfl rfl rfl (zv_tgv ((zStr.t hw.1)) rfl) (by omega) (Nat.le_of_ble_eq_true rfl) (x_len (S := S) hF (by omega) hw.1 (n := wl) hwl ?_)
  show zEv d 260 11 [.ref r, .ref w, .int (Int32.ofNat k), .int (Int32.ofNat deep), .int (Int32.ofNat (b + k)), .retAddr 0, .retAddr 0, .retAddr 0, .retAddr 0] [.int (Int32.ofNat wl), .int (Int32.ofNat k)] S post
  refine zv_br ht rfl rfl rfl (fun b1 => ?_) (fun b1 => (show False from by have hq := b1; have hz : k = wl := (zi_eqE (a := k) (b := wl) rfl rfl (by omega) (by omega)).mp (Classical.not_not.mp hq); omega).elim)
  refine zv_c1 ht rfl rfl (zv_c1 ht rfl rfl ?_)
  refine zv_cl ht rfl rfl rfl (zv_tgv ((zStr.t hw.1)) rfl) (by omega) (Nat.le_of_ble_eq_true rfl) (x_char (S := S) hF (by omega) hw.1 (i := k) (by omega) (c := 117) hcc ?_)
  show zEv d 260 39 [.ref r, .ref w, .int (Int32.ofNat k), .int (Int32.ofNat deep), .int (Int32.ofNat (b + k)), .retAddr 0, .retAddr 0, .retAddr 0, .retAddr 0] [.int 117] S post
  refine zv_c2 (L' := [.ref r, .ref w, .int (Int32.ofNat k), .int (Int32.ofNat deep), .int (Int32.ofNat (b + k)), .int 117, .retAddr 0, .retAddr 0, .retAddr 0]) ht rfl rfl ?_
  refine zv_c1 ht rfl rfl (zv_c1 ht rfl rfl ?_)
  refine zv_br ht rfl rfl rfl (fun h => absurd h (by decide)) (fun _ => ?_)
  refine zv_c1 ht rfl rfl (zv_c1 ht rfl rfl ?_)
  refine zv_br ht rfl rfl rfl (fun h => absurd h (by decide)) (fun _ => ?_)
  refine zv_c1 ht rfl rfl (zv_c1 ht rfl rfl ?_)
  refine zv_br ht rfl rfl rfl (fun h => absurd h (by decide)) (fun _ => ?_)
  refine zv_c1 ht rfl rfl (zv_c1 ht rfl rfl ?_)
  refine zv_c2 (L' := [.ref r, .ref w, .int (Int32.ofNat k), .int (Int32.ofNat deep), .int (Int32.ofNat (b + k)), .int 117, .int 1, .retAddr 0, .retAddr 0]) ht rfl rfl ?_
  refine zv_c1 ht rfl rfl ?_
  refine zv_br ht rfl rfl rfl (fun b2 => ?_) (fun b2 => (show False from by have hq := b2; have hz : k = 0 := (zi_eqE (a := k) (b := 0) rfl rfl (by omega) (by omega)).mp (Classical.not_not.mp hq); omega).elim)
  refine zv_c1 ht rfl rfl (zv_c1 ht rfl rfl (zv_c1 ht rfl rfl ?_))
  refine zv_br ht rfl rfl rfl (fun h => absurd h (by decide)) (fun _ => ?_)
  refine zv_c1 ht rfl rfl (zv_c1 ht rfl rfl (zv_c1 ht rfl rfl ?_))
  refine zv_br ht rfl rfl rfl (fun h => absurd h (by decide)) (fun _ => ?_)
  refine zv_c1 ht rfl rfl (zv_c1 ht rfl rfl ?_)
  refine zv_e1 (x := Int32.ofNat (deep + 1)) ht rfl rfl (zi_addE (a := deep) (b := 1) rfl rfl) ?_
  refine zv_c1 ht rfl rfl ?_
  refine zv_cl ht rfl rfl rfl (zv_tgv (hR.1.2.2.2.1) rfl) (by omega) (Nat.le_of_ble_eq_true rfl) (x_begins (S := S) (tp := tp) (sz := sz) (r := r) (p := (b + k)) (dp := deep) (m := 2) (dq := deep + 1) (two := true) hF (by omega) hR (by omega) (by omega) (by omega) (by omega) rfl rfl (fun S3 nd3 hF3 e3 k3 p3 g3 b3 c3 d3 => ?_) (fun S4 q4 hF4 e4 k4 x4 g4 => ?_))
  · show zEv d 260 106 [.ref r, .ref w, .int (Int32.ofNat k), .int (Int32.ofNat deep), .int (Int32.ofNat (b + k)), .int 117, .int 1, .retAddr 0, .retAddr 0] [] S3 post
    refine zv_c1 ht rfl rfl (zv_c1 ht rfl rfl ?_)
    refine zv_ei (x := Int32.ofNat (b + k)) ht rfl rfl (zhas_of (p3.1.2.2.2.1) rfl) p3.1.1 ?_
    refine zv_c1 ht rfl rfl ?_
    refine zv_e1 (x := Int32.ofNat ((b + k) + 1)) ht rfl rfl (zi_addE (a := (b + k)) (b := 1) rfl rfl) ?_
    refine zv_ci (S' := sI S3 133 r (Int32.ofNat ((b + k) + 1))) ht rfl rfl ⟨(zhas_of (p3.1.2.2.2.1) rfl), (show r < gN S3 from by omega)⟩ ?_
    refine zv_c1 ht rfl rfl (zv_c1 ht rfl rfl (zv_c1 ht rfl rfl (zv_c1 ht rfl rfl ?_)))
    refine zv_e1 (x := Int32.ofNat (k + 1)) ht rfl rfl (zi_addE (a := k) (b := 1) rfl rfl) ?_
    refine zv_c1 ht rfl rfl (zv_c1 ht rfl rfl ?_)
    refine zv_e1 (x := Int32.ofNat (deep + 1)) ht rfl rfl (zi_addE (a := deep) (b := 1) rfl rfl) ?_
    refine zv_cl ht rfl rfl rfl (zv_tgv (p3.1.2.2.2.1) rfl) (by omega) (Nat.le_of_ble_eq_true rfl) (xEc.use (g := gN S3) (cN := gN S3 + 30 * (sz - e0) + 2 * (e0 - ((b + k) + 1))) (cZ := gZ S3 + 150 * (sz - e0) + 60 * (e0 - ((b + k) + 1))) rfl ((hIH (by omega)) (S := sI S3 133 r (Int32.ofNat ((b + k) + 1))) (r := r) hF3 (xR_at p3 (by omega)) (xWd.k hw (zKE.tr (zKE.tr zKE.rf (zKE.w k3 (show gN S ≤ gN S from by omega) (fun _ h => h) (fun _ h => h))) (zKE_sI (Or.inl (by decide))))) (by omega) (by omega)) (fun S5 a5 y5 at5 nd5 hF5 e5 k5 t5 p5 g5 c5 => ?_) (fun S6 q6 kk6 z6 hF6 e6 k6 x6 g6 => ?_))
    · show zEv d 260 127 [.ref r, .ref w, .int (Int32.ofNat k), .int (Int32.ofNat deep), .int (Int32.ofNat (b + k)), .int 117, .int 1, .retAddr 0, .retAddr 0] [.ref a5] S5 post
      refine zv_c2 (L' := [.ref r, .ref w, .int (Int32.ofNat k), .int (Int32.ofNat deep), .int (Int32.ofNat (b + k)), .int 117, .int 1, .ref a5, .retAddr 0]) ht rfl rfl ?_
      refine zv_c1 ht rfl rfl ?_
      refine zv_br ht rfl rfl rfl (fun _ => ?_) (fun h => absurd (by decide) h)
      refine zv_c1 ht rfl rfl ?_
      refine zv_ci (st' := [.ref (gN S5), .ref r]) (S' := sNew S5 16 0 (zslots 16)) ht rfl rfl (znew_ok (show 1639 ≤ gN S5 from by omega) (show gN S5 < 2000000 from by omega)) ?_
      refine zv_c1 ht rfl rfl (zv_c1 ht rfl rfl ?_)
      refine zv_g3 (q := 0) ht rfl (zFin_new hF5) rfl rfl (zhas_of (Eq.trans (ztyp_new (S := S5) (t := 16) (n := 0) (s := zslots 16) (show r ≠ gN S5 from by omega)) p5.1.2.2.2.1) rfl) (Eq.trans (gP_new (S := S5) (t := 16) (n := 0) (s := zslots 16) (show r ≠ gN S5 from by omega)) p5.1.2.2.2.2) ?_
      refine zv_c1 ht rfl rfl (zv_c1 ht rfl rfl (zv_c1 ht rfl rfl ?_))
      refine zv_br ht rfl rfl rfl (fun _ => ?_) (fun h => absurd (by decide) h)
      refine zv_c1 ht rfl rfl ?_
      have C8 : ∀ (pst7 : Outcome × zS → Prop), (pst7 (.returned none, sI (sI (sP (sNew S5 16 0 (zslots 16)) 174 (gN S5) (some 0)) 144 (gN S5) (Int32.ofNat (b + k))) 173 (gN S5) 0)) → zCall (d - 1) 334 [.ref (gN S5), .ref 0, .int (Int32.ofNat (b + k)), .int 0] (sNew S5 16 0 (zslots 16)) pst7 := by
        intro pst7 k18
        have ht9 : ztab 334 = ztb334 := rfl
        show zEv (d - 1) 334 0 [.ref (gN S5), .ref 0, .int (Int32.ofNat (b + k)), .int 0] [] (sNew S5 16 0 (zslots 16)) pst7
        refine zv_c1 ht9 rfl rfl (zv_c1 ht9 rfl rfl ?_)
        refine zv_ci (S' := sP (sNew S5 16 0 (zslots 16)) 174 (gN S5) (some 0)) ht9 rfl rfl ⟨(zhas_of (ztyp_new_at (S := S5) (t := 16) (n := 0) (s := zslots 16) (show 1639 ≤ gN S5 from by omega)) rfl), (show gN S5 < gN S5 + 1 from by omega)⟩ ?_
        refine zv_c1 ht9 rfl rfl (zv_c1 ht9 rfl rfl (zv_c1 ht9 rfl rfl ?_))
        have C11 : ∀ (pst10 : Outcome × zS → Prop), (pst10 (.returned none, sI (sP (sNew S5 16 0 (zslots 16)) 174 (gN S5) (some 0)) 144 (gN S5) (Int32.ofNat (b + k)))) → zCall ((d - 1) - 1) 306 [.ref (gN S5), .ref 0, .int (Int32.ofNat (b + k))] (sP (sNew S5 16 0 (zslots 16)) 174 (gN S5) (some 0)) pst10 := by
          intro pst10 k17
          have ht12 : ztab 306 = ztb306 := rfl
          show zEv ((d - 1) - 1) 306 0 [.ref (gN S5), .ref 0, .int (Int32.ofNat (b + k))] [] (sP (sNew S5 16 0 (zslots 16)) 174 (gN S5) (some 0)) pst10
          refine zv_c1 ht12 rfl rfl (zv_c1 ht12 rfl rfl ?_)
          refine zv_ci (S' := sP (sNew S5 16 0 (zslots 16)) 174 (gN S5) (some 0)) ht12 rfl rfl (zk5 (ztyp_new_at (S := S5) (t := 16) (n := 0) (s := zslots 16) (show 1639 ≤ gN S5 from by omega)) rfl (show gN S5 < gN S5 + 1 from by omega) rfl gP_sP_at) ?_
          refine zv_c1 ht12 rfl rfl (zv_c1 ht12 rfl rfl (zv_c1 ht12 rfl rfl ?_))
          have C14 : ∀ (pst13 : Outcome × zS → Prop), (pst13 (.returned none, sI (sP (sNew S5 16 0 (zslots 16)) 174 (gN S5) (some 0)) 144 (gN S5) (Int32.ofNat (b + k)))) → zCall (((d - 1) - 1) - 1) 280 [.ref (gN S5), .ref 0, .int (Int32.ofNat (b + k))] (sP (sNew S5 16 0 (zslots 16)) 174 (gN S5) (some 0)) pst13 := by
            intro pst13 k16
            have ht15 : ztab 280 = ztb280 := rfl
            show zEv (((d - 1) - 1) - 1) 280 0 [.ref (gN S5), .ref 0, .int (Int32.ofNat (b + k))] [] (sP (sNew S5 16 0 (zslots 16)) 174 (gN S5) (some 0)) pst13
            refine zv_c1 ht15 rfl rfl (zv_c1 ht15 rfl rfl ?_)
            refine zv_ci (S' := sP (sNew S5 16 0 (zslots 16)) 174 (gN S5) (some 0)) ht15 rfl rfl (zk5 (ztyp_new_at (S := S5) (t := 16) (n := 0) (s := zslots 16) (show 1639 ≤ gN S5 from by omega)) rfl (show gN S5 < gN S5 + 1 from by omega) rfl gP_sP_at) ?_
            refine zv_c1 ht15 rfl rfl (zv_c1 ht15 rfl rfl (zv_c1 ht15 rfl rfl (zv_c1 ht15 rfl rfl ?_)))
            refine zv_ci (S' := sI (sP (sNew S5 16 0 (zslots 16)) 174 (gN S5) (some 0)) 144 (gN S5) (Int32.ofNat (b + k))) ht15 rfl rfl ⟨(zhas_of (ztyp_new_at (S := S5) (t := 16) (n := 0) (s := zslots 16) (show 1639 ≤ gN S5 from by omega)) rfl), (show gN S5 < gN S5 + 1 from by omega)⟩ ?_
            exact zv_rt ht15 rfl rfl rfl rfl k16
          refine zv_cl ht12 rfl rfl rfl rfl (by omega) (Nat.le_of_ble_eq_true rfl) (C14 _ ?_)
          show zEv ((d - 1) - 1) 306 11 [.ref (gN S5), .ref 0, .int (Int32.ofNat (b + k))] [] (sI (sP (sNew S5 16 0 (zslots 16)) 174 (gN S5) (some 0)) 144 (gN S5) (Int32.ofNat (b + k))) pst10
          exact zv_rt ht12 rfl rfl rfl rfl k17
        refine zv_cl ht9 rfl rfl rfl rfl (by omega) (Nat.le_of_ble_eq_true rfl) (C11 _ ?_)
        show zEv (d - 1) 334 11 [.ref (gN S5), .ref 0, .int (Int32.ofNat (b + k)), .int 0] [] (sI (sP (sNew S5 16 0 (zslots 16)) 174 (gN S5) (some 0)) 144 (gN S5) (Int32.ofNat (b + k))) pst7
        refine zv_c1 ht9 rfl rfl (zv_c1 ht9 rfl rfl ?_)
        refine zv_ci (S' := sI (sI (sP (sNew S5 16 0 (zslots 16)) 174 (gN S5) (some 0)) 144 (gN S5) (Int32.ofNat (b + k))) 173 (gN S5) 0) ht9 rfl rfl ⟨⟨(zhas_of (ztyp_new_at (S := S5) (t := 16) (n := 0) (s := zslots 16) (show 1639 ≤ gN S5 from by omega)) rfl), (show gN S5 < gN S5 + 1 from by omega)⟩, (by decide)⟩ ?_
        exact zv_rt ht9 rfl rfl rfl rfl k18
      refine zv_cl ht rfl rfl rfl rfl (by omega) (Nat.le_of_ble_eq_true rfl) (C8 _ ?_)
      show zEv d 260 182 [.ref r, .ref w, .int (Int32.ofNat k), .int (Int32.ofNat deep), .int (Int32.ofNat (b + k)), .int 117, .int 1, .ref a5, .retAddr 0] [.ref (gN S5), .ref r] (sI (sI (sP (sNew S5 16 0 (zslots 16)) 174 (gN S5) (some 0)) 144 (gN S5) (Int32.ofNat (b + k))) 173 (gN S5) 0) post
      have C20 : ∀ (pst19 : Outcome × zS → Prop), (∀ S22 : zS, (zFin true S22) → (pJ (tN 0 0 [] (b + k) []) = .ok (tN 0 0 [] (b + k) [])) → (xJd (sI (sI (sP (sNew S5 16 0 (zslots 16)) 174 (gN S5) (some 0)) 144 (gN S5) (Int32.ofNat (b + k))) 173 (gN S5) 0) (gN S5) S22) → (xTl (gN S) S22 (tN 0 0 [] (b + k) []) (gN S5)) → (xR tp sz S22 r at5 nd5) → (gN S22 = gN S5 + 1 ∧ gZ S22 = gZ S5 + 19) → pst19 (.returned (some (.ref (gN S5))), S22)) → (∀ S23 : zS, ∀ q23 : Nat, (zFin true S23) → (pJ (tN 0 0 [] (b + k) []) = .error (3, (b + k))) → (xFn (sI (sI (sP (sNew S5 16 0 (zslots 16)) 174 (gN S5) (some 0)) 144 (gN S5) (Int32.ofNat (b + k))) 173 (gN S5) 0) (gN S5) S23) → (xFl S23 q23 3 (b + k)) → (gN S23 = gN S5 + 1 + 1 ∧ gZ S23 ≤ gZ S5 + 19 + 3) → pst19 (.threw q23, S23)) → zCall (d - 1) 253 [.ref r, .ref (gN S5)] (sI (sI (sP (sNew S5 16 0 (zslots 16)) 174 (gN S5) (some 0)) 144 (gN S5) (Int32.ofNat (b + k))) 173 (gN S5) 0) pst19 := by
        intro pst19 k24 k25
        have ht21 : ztab 253 = ztb253 := rfl
        show zEv (d - 1) 253 0 [.ref r, .ref (gN S5)] [] (sI (sI (sP (sNew S5 16 0 (zslots 16)) 174 (gN S5) (some 0)) 144 (gN S5) (Int32.ofNat (b + k))) 173 (gN S5) 0) pst19
        refine zv_c1 ht21 rfl rfl ?_
        refine zv_cl ht21 rfl rfl rfl (zv_tgm (ztyp_new_at (S := S5) (t := 16) (n := 0) (s := zslots 16) (show 1639 ≤ gN S5 from by omega)) rfl) (by omega) (Nat.le_of_ble_eq_true rfl) (x_judgeR (S := sI (sI (sP (sNew S5 16 0 (zslots 16)) 174 (gN S5) (some 0)) 144 (gN S5) (Int32.ofNat (b + k))) 173 (gN S5) 0) (tp := tp) (sz := sz) (r := r) (a := gN S5) (k := 0) (v := 0) (p := (b + k)) (ks := []) (js := []) (cs := []) (g := gN S5 + 1) (lo := gN S) (zFin_sP (zFin_new hF5) rfl) (by omega) (by omega) (by omega) (by omega) (by omega) rfl (xOwn_B (by decide) (ztyp_new_at (S := S5) (t := 16) (n := 0) (s := zslots 16) (show 1639 ≤ gN S5 from by omega)) (gI_sI_at)) rfl (by decide) (by omega) (gI_sI_at) (gI_new_at (S := S5) (t := 16) (n := 0) (s := zslots 16)) (gI_new_at (S := S5) (t := 16) (n := 0) (s := zslots 16)) (xR.ke (Fs := []) p5 (zKE.tr (zKE.tr (zKE.tr (zKE.tr zKE.rf (zKE_new (show gN S5 ≤ gN S5 ∧ gN S5 < zLB from ⟨by omega, by have hLB : zLB = 4294967296 := rfl; omega⟩))) (zKE_sP (Or.inr (Or.inr ⟨by omega, by have hLB : zLB = 4294967296 := rfl; omega⟩)))) (zKE_sI (Or.inr (Or.inr ⟨by omega, by have hLB : zLB = 4294967296 := rfl; omega⟩)))) (zKE_sI (Or.inr (Or.inr ⟨by omega, by have hLB : zLB = 4294967296 := rfl; omega⟩)))) (by omega) (by decide)) (by omega) (fun S22 hF22 e22 j22 t22 p22 g22 => ?_) (fun S23 q23 hF23 e23 k23 x23 g23 => ?_))
        · show zEv (d - 1) 253 4 [.ref r, .ref (gN S5)] [] S22 pst19
          refine zv_c1 ht21 rfl rfl ?_
          exact zv_rt ht21 rfl rfl rfl rfl (k24 S22 hF22 e22 j22 t22 p22 g22)
        · exact (k25 S23 q23 hF23 e23 k23 x23 g23)
      refine zv_cl ht rfl rfl rfl (zv_tgv (Eq.trans (ztyp_new (S := S5) (t := 16) (n := 0) (s := zslots 16) (show r ≠ gN S5 from by omega)) p5.1.2.2.2.1) rfl) (by omega) (Nat.le_of_ble_eq_true rfl) (C20 _ (fun S22 hF22 e22 j22 t22 p22 g22 => ?_) (fun S23 q23 hF23 e23 k23 x23 g23 => ?_))
      · show zEv d 260 185 [.ref r, .ref w, .int (Int32.ofNat k), .int (Int32.ofNat deep), .int (Int32.ofNat (b + k)), .int 117, .int 1, .ref a5, .retAddr 0] [.ref (gN S5)] S22 post
        refine zv_c2 (L' := [.ref r, .ref w, .int (Int32.ofNat k), .int (Int32.ofNat deep), .int (Int32.ofNat (b + k)), .int 117, .int 1, .ref a5, .ref (gN S5)]) ht rfl rfl ?_
        refine zv_c1 ht rfl rfl (zv_c1 ht rfl rfl (zv_c1 ht rfl rfl ?_))
        refine zv_br ht rfl rfl rfl (fun _ => ?_) (fun h => absurd (by decide) h)
        refine zv_c1 ht rfl rfl (zv_c1 ht rfl rfl ?_)
        refine zv_br ht rfl rfl rfl (fun _ => ?_) (fun h => absurd (by decide) h)
        refine zv_ci (st' := [.ref (gN S22), .ref r]) (S' := sNew S22 20 0 (zslots 20)) ht rfl rfl (znew_ok (show 1639 ≤ gN S22 from by omega) (show gN S22 < 2000000 from by omega)) ?_
        refine zv_c1 ht rfl rfl (zv_c1 ht rfl rfl ?_)
        refine zv_g3 (q := 0) ht rfl (zFin_new hF22) rfl rfl (zhas_of (Eq.trans (ztyp_new (S := S22) (t := 20) (n := 0) (s := zslots 20) (show r ≠ gN S22 from by omega)) p22.1.2.2.2.1) rfl) (Eq.trans (gP_new (S := S22) (t := 20) (n := 0) (s := zslots 20) (show r ≠ gN S22 from by omega)) p22.1.2.2.2.2) ?_
        refine zv_c1 ht rfl rfl (zv_c1 ht rfl rfl (zv_c1 ht rfl rfl (zv_c1 ht rfl rfl ?_)))
        have C27 : ∀ (pst26 : Outcome × zS → Prop), (pst26 (.returned none, sP (sP (sI (sI (sP (sNew S22 20 0 (zslots 20)) 190 (gN S22) (some 0)) 144 (gN S22) (Int32.ofNat (b + k))) 187 (gN S22) 5) 188 (gN S22) (some a5)) 189 (gN S22) (some (gN S5)))) → zCall (d - 1) 373 [.ref (gN S22), .ref 0, .int (Int32.ofNat (b + k)), .int 5, .ref a5, .ref (gN S5)] (sNew S22 20 0 (zslots 20)) pst26 := by
          intro pst26 k33
          have ht28 : ztab 373 = ztb373 := rfl
          show zEv (d - 1) 373 0 [.ref (gN S22), .ref 0, .int (Int32.ofNat (b + k)), .int 5, .ref a5, .ref (gN S5)] [] (sNew S22 20 0 (zslots 20)) pst26
          refine zv_c1 ht28 rfl rfl (zv_c1 ht28 rfl rfl ?_)
          refine zv_ci (S' := sP (sNew S22 20 0 (zslots 20)) 190 (gN S22) (some 0)) ht28 rfl rfl ⟨(zhas_of (ztyp_new_at (S := S22) (t := 20) (n := 0) (s := zslots 20) (show 1639 ≤ gN S22 from by omega)) rfl), (show gN S22 < gN S22 + 1 from by omega)⟩ ?_
          refine zv_c1 ht28 rfl rfl (zv_c1 ht28 rfl rfl (zv_c1 ht28 rfl rfl ?_))
          have C30 : ∀ (pst29 : Outcome × zS → Prop), (pst29 (.returned none, sI (sP (sNew S22 20 0 (zslots 20)) 190 (gN S22) (some 0)) 144 (gN S22) (Int32.ofNat (b + k)))) → zCall ((d - 1) - 1) 280 [.ref (gN S22), .ref 0, .int (Int32.ofNat (b + k))] (sP (sNew S22 20 0 (zslots 20)) 190 (gN S22) (some 0)) pst29 := by
            intro pst29 k32
            have ht31 : ztab 280 = ztb280 := rfl
            show zEv ((d - 1) - 1) 280 0 [.ref (gN S22), .ref 0, .int (Int32.ofNat (b + k))] [] (sP (sNew S22 20 0 (zslots 20)) 190 (gN S22) (some 0)) pst29
            refine zv_c1 ht31 rfl rfl (zv_c1 ht31 rfl rfl ?_)
            refine zv_ci (S' := sP (sNew S22 20 0 (zslots 20)) 190 (gN S22) (some 0)) ht31 rfl rfl (zk5 (ztyp_new_at (S := S22) (t := 20) (n := 0) (s := zslots 20) (show 1639 ≤ gN S22 from by omega)) rfl (show gN S22 < gN S22 + 1 from by omega) rfl gP_sP_at) ?_
            refine zv_c1 ht31 rfl rfl (zv_c1 ht31 rfl rfl (zv_c1 ht31 rfl rfl (zv_c1 ht31 rfl rfl ?_)))
            refine zv_ci (S' := sI (sP (sNew S22 20 0 (zslots 20)) 190 (gN S22) (some 0)) 144 (gN S22) (Int32.ofNat (b + k))) ht31 rfl rfl ⟨(zhas_of (ztyp_new_at (S := S22) (t := 20) (n := 0) (s := zslots 20) (show 1639 ≤ gN S22 from by omega)) rfl), (show gN S22 < gN S22 + 1 from by omega)⟩ ?_
            exact zv_rt ht31 rfl rfl rfl rfl k32
          refine zv_cl ht28 rfl rfl rfl rfl (by omega) (Nat.le_of_ble_eq_true rfl) (C30 _ ?_)
          show zEv (d - 1) 373 11 [.ref (gN S22), .ref 0, .int (Int32.ofNat (b + k)), .int 5, .ref a5, .ref (gN S5)] [] (sI (sP (sNew S22 20 0 (zslots 20)) 190 (gN S22) (some 0)) 144 (gN S22) (Int32.ofNat (b + k))) pst26
          refine zv_c1 ht28 rfl rfl (zv_c1 ht28 rfl rfl ?_)
          refine zv_ci (S' := sI (sI (sP (sNew S22 20 0 (zslots 20)) 190 (gN S22) (some 0)) 144 (gN S22) (Int32.ofNat (b + k))) 187 (gN S22) 5) ht28 rfl rfl ⟨(zhas_of (ztyp_new_at (S := S22) (t := 20) (n := 0) (s := zslots 20) (show 1639 ≤ gN S22 from by omega)) rfl), (show gN S22 < gN S22 + 1 from by omega)⟩ ?_
          refine zv_c1 ht28 rfl rfl (zv_c1 ht28 rfl rfl ?_)
          refine zv_ci (S' := sP (sI (sI (sP (sNew S22 20 0 (zslots 20)) 190 (gN S22) (some 0)) 144 (gN S22) (Int32.ofNat (b + k))) 187 (gN S22) 5) 188 (gN S22) (some a5)) ht28 rfl rfl ⟨(zhas_of (ztyp_new_at (S := S22) (t := 20) (n := 0) (s := zslots 20) (show 1639 ≤ gN S22 from by omega)) rfl), (show gN S22 < gN S22 + 1 from by omega)⟩ ?_
          refine zv_c1 ht28 rfl rfl (zv_c1 ht28 rfl rfl ?_)
          refine zv_ci (S' := sP (sP (sI (sI (sP (sNew S22 20 0 (zslots 20)) 190 (gN S22) (some 0)) 144 (gN S22) (Int32.ofNat (b + k))) 187 (gN S22) 5) 188 (gN S22) (some a5)) 189 (gN S22) (some (gN S5))) ht28 rfl rfl ⟨(zhas_of (ztyp_new_at (S := S22) (t := 20) (n := 0) (s := zslots 20) (show 1639 ≤ gN S22 from by omega)) rfl), (show gN S22 < gN S22 + 1 from by omega)⟩ ?_
          exact zv_rt ht28 rfl rfl rfl rfl k33
        refine zv_cl ht rfl rfl rfl rfl (by omega) (Nat.le_of_ble_eq_true rfl) (C27 _ ?_)
        show zEv d 260 262 [.ref r, .ref w, .int (Int32.ofNat k), .int (Int32.ofNat deep), .int (Int32.ofNat (b + k)), .int 117, .int 1, .ref a5, .ref (gN S5)] [.ref (gN S22), .ref r] (sP (sP (sI (sI (sP (sNew S22 20 0 (zslots 20)) 190 (gN S22) (some 0)) 144 (gN S22) (Int32.ofNat (b + k))) 187 (gN S22) 5) 188 (gN S22) (some a5)) 189 (gN S22) (some (gN S5))) post
        have C35 : ∀ (pst34 : Outcome × zS → Prop), (∀ S37 : zS, (zFin true S37) → (pJ (tN 16 0 [] (b + k) [y5, tN 0 0 [] (b + k) []]) = .ok (tN 16 0 [] (b + k) [y5, tN 0 0 [] (b + k) []])) → (xJd (sP (sP (sI (sI (sP (sNew S22 20 0 (zslots 20)) 190 (gN S22) (some 0)) 144 (gN S22) (Int32.ofNat (b + k))) 187 (gN S22) 5) 188 (gN S22) (some a5)) 189 (gN S22) (some (gN S5))) (gN S22) S37) → (xTl (gN S) S37 (tN 16 0 [] (b + k) [y5, tN 0 0 [] (b + k) []]) (gN S22)) → (xR tp sz S37 r at5 nd5) → (gN S37 = gN S22 + 1 ∧ gZ S37 = gZ S22 + 20) → pst34 (.returned (some (.ref (gN S22))), S37)) → (∀ S38 : zS, ∀ q38 : Nat, (zFin true S38) → (pJ (tN 16 0 [] (b + k) [y5, tN 0 0 [] (b + k) []]) = .error (3, (b + k))) → (xFn (sP (sP (sI (sI (sP (sNew S22 20 0 (zslots 20)) 190 (gN S22) (some 0)) 144 (gN S22) (Int32.ofNat (b + k))) 187 (gN S22) 5) 188 (gN S22) (some a5)) 189 (gN S22) (some (gN S5))) (gN S22) S38) → (xFl S38 q38 3 (b + k)) → (gN S38 = gN S22 + 1 + 1 ∧ gZ S38 ≤ gZ S22 + 20 + 3) → pst34 (.threw q38, S38)) → zCall (d - 1) 253 [.ref r, .ref (gN S22)] (sP (sP (sI (sI (sP (sNew S22 20 0 (zslots 20)) 190 (gN S22) (some 0)) 144 (gN S22) (Int32.ofNat (b + k))) 187 (gN S22) 5) 188 (gN S22) (some a5)) 189 (gN S22) (some (gN S5))) pst34 := by
          intro pst34 k39 k40
          have ht36 : ztab 253 = ztb253 := rfl
          show zEv (d - 1) 253 0 [.ref r, .ref (gN S22)] [] (sP (sP (sI (sI (sP (sNew S22 20 0 (zslots 20)) 190 (gN S22) (some 0)) 144 (gN S22) (Int32.ofNat (b + k))) 187 (gN S22) 5) 188 (gN S22) (some a5)) 189 (gN S22) (some (gN S5))) pst34
          refine zv_c1 ht36 rfl rfl ?_
          refine zv_cl ht36 rfl rfl rfl (zv_tgm (ztyp_new_at (S := S22) (t := 20) (n := 0) (s := zslots 20) (show 1639 ≤ gN S22 from by omega)) rfl) (by omega) (Nat.le_of_ble_eq_true rfl) (x_judgeR (S := sP (sP (sI (sI (sP (sNew S22 20 0 (zslots 20)) 190 (gN S22) (some 0)) 144 (gN S22) (Int32.ofNat (b + k))) 187 (gN S22) 5) 188 (gN S22) (some a5)) 189 (gN S22) (some (gN S5))) (tp := tp) (sz := sz) (r := r) (a := gN S22) (k := 16) (v := 0) (p := (b + k)) (ks := []) (js := [a5, gN S5]) (cs := [y5, tN 0 0 [] (b + k) []]) (g := gN S22 + 1) (lo := gN S) (zFin_sP (zFin_sP (zFin_sP (zFin_new hF22) rfl) rfl) rfl) (by omega) (by omega) (by omega) (by omega) (by omega) rfl (xOwn_P (by decide) (ztyp_new_at (S := S22) (t := 20) (n := 0) (s := zslots 20) (show 1639 ≤ gN S22 from by omega)) (gI_sI_at) (gP_sP_at) (gP_sP_at)) ⟨a5, _, rfl, (xTl.ch t5 (zKE.tr (zKE.tr (zKE.tr (zKE.tr (zKE.tr (zKE.tr (zKE.tr (zKE.tr (zKE.tr (zKE.tr (zKE.tr zKE.rf (zKE_new (show gN S5 ≤ gN S5 ∧ gN S5 < zLB from ⟨by omega, by have hLB : zLB = 4294967296 := rfl; omega⟩))) (zKE_sP (Or.inr (Or.inr ⟨by omega, by have hLB : zLB = 4294967296 := rfl; omega⟩)))) (zKE_sI (Or.inr (Or.inr ⟨by omega, by have hLB : zLB = 4294967296 := rfl; omega⟩)))) (zKE_sI (Or.inr (Or.inr ⟨by omega, by have hLB : zLB = 4294967296 := rfl; omega⟩)))) (xJd.ke j22 ⟨by omega, by have hLB : zLB = 4294967296 := rfl; omega⟩)) (zKE_new (show gN S5 ≤ gN S22 ∧ gN S22 < zLB from ⟨by omega, by have hLB : zLB = 4294967296 := rfl; omega⟩))) (zKE_sP (Or.inr (Or.inr ⟨by omega, by have hLB : zLB = 4294967296 := rfl; omega⟩)))) (zKE_sI (Or.inr (Or.inr ⟨by omega, by have hLB : zLB = 4294967296 := rfl; omega⟩)))) (zKE_sI (Or.inr (Or.inr ⟨by omega, by have hLB : zLB = 4294967296 := rfl; omega⟩)))) (zKE_sP (Or.inr (Or.inr ⟨by omega, by have hLB : zLB = 4294967296 := rfl; omega⟩)))) (zKE_sP (Or.inr (Or.inr ⟨by omega, by have hLB : zLB = 4294967296 := rfl; omega⟩)))) (by omega) (by intro j h1 h2; omega)), ⟨gN S5, _, rfl, (xTl.ch t22 (zKE.tr (zKE.tr (zKE.tr (zKE.tr (zKE.tr (zKE.tr zKE.rf (zKE_new (show gN S22 ≤ gN S22 ∧ gN S22 < zLB from ⟨by omega, by have hLB : zLB = 4294967296 := rfl; omega⟩))) (zKE_sP (Or.inr (Or.inr ⟨by omega, by have hLB : zLB = 4294967296 := rfl; omega⟩)))) (zKE_sI (Or.inr (Or.inr ⟨by omega, by have hLB : zLB = 4294967296 := rfl; omega⟩)))) (zKE_sI (Or.inr (Or.inr ⟨by omega, by have hLB : zLB = 4294967296 := rfl; omega⟩)))) (zKE_sP (Or.inr (Or.inr ⟨by omega, by have hLB : zLB = 4294967296 := rfl; omega⟩)))) (zKE_sP (Or.inr (Or.inr ⟨by omega, by have hLB : zLB = 4294967296 := rfl; omega⟩)))) (by omega) (by intro j h1 h2; omega)), rfl⟩⟩ (by decide) (by omega) (gI_sI_at) (gI_new_at (S := S22) (t := 20) (n := 0) (s := zslots 20)) (gI_new_at (S := S22) (t := 20) (n := 0) (s := zslots 20)) (xR.ke (Fs := []) p22 (zKE.tr (zKE.tr (zKE.tr (zKE.tr (zKE.tr (zKE.tr zKE.rf (zKE_new (show gN S22 ≤ gN S22 ∧ gN S22 < zLB from ⟨by omega, by have hLB : zLB = 4294967296 := rfl; omega⟩))) (zKE_sP (Or.inr (Or.inr ⟨by omega, by have hLB : zLB = 4294967296 := rfl; omega⟩)))) (zKE_sI (Or.inr (Or.inr ⟨by omega, by have hLB : zLB = 4294967296 := rfl; omega⟩)))) (zKE_sI (Or.inr (Or.inr ⟨by omega, by have hLB : zLB = 4294967296 := rfl; omega⟩)))) (zKE_sP (Or.inr (Or.inr ⟨by omega, by have hLB : zLB = 4294967296 := rfl; omega⟩)))) (zKE_sP (Or.inr (Or.inr ⟨by omega, by have hLB : zLB = 4294967296 := rfl; omega⟩)))) (by omega) (by decide)) (by omega) (fun S37 hF37 e37 j37 t37 p37 g37 => ?_) (fun S38 q38 hF38 e38 k38 x38 g38 => ?_))
          · show zEv (d - 1) 253 4 [.ref r, .ref (gN S22)] [] S37 pst34
            refine zv_c1 ht36 rfl rfl ?_
            exact zv_rt ht36 rfl rfl rfl rfl (k39 S37 hF37 e37 j37 t37 p37 g37)
          · exact (k40 S38 q38 hF38 e38 k38 x38 g38)
        refine zv_cl ht rfl rfl rfl (zv_tgv (Eq.trans (ztyp_new (S := S22) (t := 20) (n := 0) (s := zslots 20) (show r ≠ gN S22 from by omega)) p22.1.2.2.2.1) rfl) (by omega) (Nat.le_of_ble_eq_true rfl) (C35 _ (fun S37 hF37 e37 j37 t37 p37 g37 => ?_) (fun S38 q38 hF38 e38 k38 x38 g38 => ?_))
        · show zEv d 260 265 [.ref r, .ref w, .int (Int32.ofNat k), .int (Int32.ofNat deep), .int (Int32.ofNat (b + k)), .int 117, .int 1, .ref a5, .ref (gN S5)] [.ref (gN S22)] S37 post
          exact zv_rt ht rfl rfl rfl rfl (h1 S3 nd3 hF3 e3 k3 p3 g3 b3 c3 d3 S5 a5 y5 at5 nd5 hF5 e5 k5 t5 p5 g5 c5 S22 hF22 e22 j22 t22 p22 g22 S37 hF37 e37 j37 t37 p37 g37)
        · exact (h2 S3 nd3 hF3 e3 k3 p3 g3 b3 c3 d3 S5 a5 y5 at5 nd5 hF5 e5 k5 t5 p5 g5 c5 S22 hF22 e22 j22 t22 p22 g22 S38 q38 hF38 e38 k38 x38 g38)
      · exact (h3 S3 nd3 hF3 e3 k3 p3 g3 b3 c3 d3 S5 a5 y5 at5 nd5 hF5 e5 k5 t5 p5 g5 c5 S23 q23 hF23 e23 k23 x23 g23)
    · exact (h4 S3 nd3 hF3 e3 k3 p3 g3 b3 c3 d3 S6 q6 kk6 z6 hF6 e6 k6 x6 g6)
  · exact (h5 S4 q4 hF4 e4 k4 x4 g4)


