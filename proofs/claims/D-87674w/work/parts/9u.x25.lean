set_option maxRecDepth 100000
/-! ===== the house reads wrappers, whole ===== -/
section X25
variable {d : Nat} {post : Outcome × zS → Prop} {tp : Nat → Nat} {sz : Nat}
theorem x_wordP {S : zS} (hF : zFin true S) (hd : 7 ≤ d) {r at0 nd g z : Nat} (hR : xR tp sz S r at0 nd) (hg : gN S = g) (hz : gZ S = z) (hN2 : g < 1800000)
    (h1 : ∀ S' s wl, zFin true S' → pWE tp sz at0 = at0 + wl → xFr S S' → xR tp sz S' r at0 nd → zDs S' s (pWl tp at0 (at0 + wl)) → (g ≤ s ∧ s < gN S') → g ≤ gN S' ∧ gN S' ≤ g + (2 * wl + 22) ∧ gZ S' ≤ z + (5 * wl + 60) → 1 ≤ wl ∧ at0 + wl ≤ sz → post (.returned (some (.ref s)), S'))
    (h2 : ∀ S' q, zFin true S' → pWE tp sz at0 = at0 → xFr S S' → xFl S' q 1 at0 → g ≤ gN S' ∧ gN S' ≤ g + 1 ∧ gZ S' ≤ z + 3 → post (.threw q, S')) : zCall d 245 [.ref r] S post := by
  subst hg
  subst hz
  refine x_word hF hd hR hN2 (fun S' s f l1 l2 k R ds hs g => ?_) h2
  have e : pWE tp sz at0 = at0 + (pWE tp sz at0 - at0) := by omega
  refine h1 S' s (pWE tp sz at0 - at0) f e k R (by rw [← e]; exact ds) hs g ⟨by omega, by omega⟩
end X25
theorem wrE {d : Nat} {S : zS} (hF : zFin true S) (hd : 14 ≤ d) {tp : Nat → Nat} {sz at0 nd r : Nat} {rec : Nat → Nat → Nat → pE (zNd × Nat × Nat)} {K : Nat} {w : Nat} (b e0 wl deep : Nat) (hR : xR tp sz S r e0 nd) (hs0 : sz ≤ 300) (ha0 : e0 ≤ sz) (hr1 : 1639 ≤ r) (hr2 : r < gN S) (hN : gN S + 30 * (sz - e0) ≤ 1700000) (hdp : deep < 1000) (hnd : nd ≤ 80) (hw : xWd S w (pWl tp b e0)) (hwN : w < gN S) (hwl : (pWl tp b e0).length = wl) (hel : e0 = b + wl) (hes : e0 < sz) (hmono : pMono rec) (hK : K + 5 ≤ d) (hK2 : 14 ≤ d) (hRd : ∀ de dp d', de = deep → de ≤ 24 → dp = de + 1 → K ≤ d' → xRd tp sz d' dp rec) {post : Outcome × zS → Prop} (h1 : ∀ S2 : zS, ∀ s2 : Nat, ∀ wl2 : Nat, (zFin true S2) → (pWE tp sz (e0 + 1) = (e0 + 1) + wl2) → (xFr (sI S 133 r (Int32.ofNat (e0 + 1))) S2) → (xR tp sz S2 r (e0 + 1) nd) → (zDs S2 s2 (pWl tp (e0 + 1) ((e0 + 1) + wl2))) → (gN S ≤ s2 ∧ s2 < gN S2) → (gN S ≤ gN S2 ∧ gN S2 ≤ gN S + (2 * wl2 + 22) ∧ gZ S2 ≤ gZ S + (5 * wl2 + 60)) → (1 ≤ wl2 ∧ (e0 + 1) + wl2 ≤ sz) → ∀ S4 : zS, ∀ a4 : Nat, ∀ y4 : zNd, ∀ at4 : Nat, ∀ nd4 : Nat, (zFin true S4) → (pNamed tp sz rec deep (e0 + 1) nd = .ok (y4, at4, nd4)) → (xFr S2 S4) → (xTl (gN S2) S4 y4 a4) → (xR tp sz S4 r at4 nd4) → (gN S2 ≤ gN S4 ∧ gN S4 + 30 * (sz - at4) ≤ gN S2 + 30 * (sz - pWE tp sz (e0 + 1)) + 2 ∧ gZ S4 + 150 * (sz - at4) ≤ gZ S2 + 150 * (sz - pWE tp sz (e0 + 1)) + 60) → (at4 ≤ sz ∧ gN S2 ≤ a4 ∧ a4 < gN S4) → post (.returned (some (.ref a4)), S4)) (h2 : ∀ S2 : zS, ∀ s2 : Nat, ∀ wl2 : Nat, (zFin true S2) → (pWE tp sz (e0 + 1) = (e0 + 1) + wl2) → (xFr (sI S 133 r (Int32.ofNat (e0 + 1))) S2) → (xR tp sz S2 r (e0 + 1) nd) → (zDs S2 s2 (pWl tp (e0 + 1) ((e0 + 1) + wl2))) → (gN S ≤ s2 ∧ s2 < gN S2) → (gN S ≤ gN S2 ∧ gN S2 ≤ gN S + (2 * wl2 + 22) ∧ gZ S2 ≤ gZ S + (5 * wl2 + 60)) → (1 ≤ wl2 ∧ (e0 + 1) + wl2 ≤ sz) → ∀ S5 : zS, ∀ q5 : Nat, ∀ kk5 : Nat, ∀ z5 : Nat, (zFin true S5) → (pNamed tp sz rec deep (e0 + 1) nd = .error (kk5, z5)) → (xFr S2 S5) → (xFl S5 q5 kk5 z5) → (gN S2 ≤ gN S5 ∧ gN S5 ≤ gN S2 + 30 * (sz - pWE tp sz (e0 + 1)) + 2 + 60 ∧ gZ S5 ≤ gZ S2 + 150 * (sz - pWE tp sz (e0 + 1)) + 60 + 2000) → post (.threw q5, S5)) (h3 : ∀ S3 : zS, ∀ q3 : Nat, (zFin true S3) → (pWE tp sz (e0 + 1) = (e0 + 1)) → (xFr (sI S 133 r (Int32.ofNat (e0 + 1))) S3) → (xFl S3 q3 1 (e0 + 1)) → (gN S ≤ gN S3 ∧ gN S3 ≤ gN S + 1 ∧ gZ S3 ≤ gZ S + 3) → post (.threw q3, S3)) : zCall d 260 [.ref r, .ref w, .int (Int32.ofNat wl), .int (Int32.ofNat deep)] S post := by
  have ht : ztab 260 = ztb260 := rfl
  show zEv d 260 0 [.ref r, .ref w, .int (Int32.ofNat wl), .int (Int32.ofNat deep), .retAddr 0, .retAddr 0, .retAddr 0, .retAddr 0, .retAddr 0] [] S post
  refine zv_c1 ht rfl rfl ?_
  refine zv_ei (x := Int32.ofNat e0) ht rfl rfl (zhas_of (hR.1.2.2.2.1) rfl) hR.1.1 ?_
  refine zv_c2 (L' := [.ref r, .ref w, .int (Int32.ofNat wl), .int (Int32.ofNat deep), .int (Int32.ofNat e0), .retAddr 0, .retAddr 0, .retAddr 0, .retAddr 0]) ht rfl rfl ?_
  refine zv_c1 ht rfl rfl (zv_c1 ht rfl rfl ?_)
  refine zv_cl ht rfl rfl rfl (zv_tgv ((zStr.t hw.1)) rfl) (by omega) (Nat.le_of_ble_eq_true rfl) (x_len (S := S) hF (by omega) hw.1 (n := wl) hwl ?_)
  show zEv d 260 11 [.ref r, .ref w, .int (Int32.ofNat wl), .int (Int32.ofNat deep), .int (Int32.ofNat e0), .retAddr 0, .retAddr 0, .retAddr 0, .retAddr 0] [.int (Int32.ofNat wl), .int (Int32.ofNat wl)] S post
  refine zv_br ht rfl rfl rfl (fun b1 => (show False from by have hq := b1; have hz : ¬ (wl = wl) := fun h => hq ((zi_eqE (a := wl) (b := wl) rfl rfl (by omega) (by omega)).mpr h); omega).elim) (fun b1 => ?_)
  refine zv_c1 ht rfl rfl (zv_c1 ht rfl rfl ?_)
  refine zv_ei (x := Int32.ofNat e0) ht rfl rfl (zhas_of (hR.1.2.2.2.1) rfl) hR.1.1 ?_
  refine zv_c1 ht rfl rfl ?_
  refine zv_e1 (x := Int32.ofNat (e0 + 1)) ht rfl rfl (zi_addE (a := e0) (b := 1) rfl rfl) ?_
  refine zv_ci (S' := sI S 133 r (Int32.ofNat (e0 + 1))) ht rfl rfl ⟨(zhas_of (hR.1.2.2.2.1) rfl), (show r < gN S from by omega)⟩ ?_
  refine zv_c1 ht rfl rfl (zv_c1 ht rfl rfl ?_)
  refine zv_cl ht rfl rfl rfl (zv_tgv (hR.1.2.2.2.1) rfl) (by omega) (Nat.le_of_ble_eq_true rfl) (x_wordP (S := sI S 133 r (Int32.ofNat (e0 + 1))) (tp := tp) (sz := sz) (r := r) (g := gN S) (z := gZ S) hF (by omega) (xR_at hR (by omega)) rfl rfl (by omega) (fun S2 s2 wl2 hF2 e2 k2 p2 d2 s_2 g2 c2 => ?_) (fun S3 q3 hF3 e3 k3 x3 g3 => ?_))
  · show zEv d 260 29 [.ref r, .ref w, .int (Int32.ofNat wl), .int (Int32.ofNat deep), .int (Int32.ofNat e0), .retAddr 0, .retAddr 0, .retAddr 0, .retAddr 0] [.ref s2, .ref r] S2 post
    refine zv_c1 ht rfl rfl ?_
    refine zv_cl ht rfl rfl rfl (zv_tgv (p2.1.2.2.2.1) rfl) (by omega) (Nat.le_of_ble_eq_true rfl) (xEc.use (g := gN S2) (cN := gN S2 + 30 * (sz - pWE tp sz (e0 + 1)) + 2) (cZ := gZ S2 + 150 * (sz - pWE tp sz (e0 + 1)) + 60) rfl (x_plain (S := S2) (r := r) (rec := rec) (K := K) hF2 (by omega) (by omega) hmono p2 (by omega) (by omega) (by omega) (fun dp q h1 h2 h3 => hRd _ dp q (by omega) h1 h2 h3) (by rw [e2]; exact d2) (by omega)) (fun S4 a4 y4 at4 nd4 hF4 e4 k4 t4 p4 g4 c4 => ?_) (fun S5 q5 kk5 z5 hF5 e5 k5 x5 g5 => ?_))
    · show zEv d 260 33 [.ref r, .ref w, .int (Int32.ofNat wl), .int (Int32.ofNat deep), .int (Int32.ofNat e0), .retAddr 0, .retAddr 0, .retAddr 0, .retAddr 0] [.ref a4] S4 post
      exact zv_rt ht rfl rfl rfl rfl (h1 S2 s2 wl2 hF2 e2 k2 p2 d2 s_2 g2 c2 S4 a4 y4 at4 nd4 hF4 e4 k4 t4 p4 g4 c4)
    · exact (h2 S2 s2 wl2 hF2 e2 k2 p2 d2 s_2 g2 c2 S5 q5 kk5 z5 hF5 e5 k5 x5 g5)
  · exact (h3 S3 q3 hF3 e3 k3 x3 g3)

theorem wrF {d : Nat} {S : zS} (hF : zFin true S) (hd : 8 ≤ d) {tp : Nat → Nat} {sz at0 nd r : Nat} {w : Nat} (b e0 wl c pb deep : Nat) (hR : xR tp sz S r b nd) (hs0 : sz ≤ 300) (ha0 : b ≤ sz) (hr1 : 1639 ≤ r) (hr2 : r < gN S) (hN : gN S + 30 * (sz - b) ≤ 1700000) (hdp : deep < 1000) (hnd : nd ≤ 80) (hw : xWd S w (pWl tp b e0)) (hwN : w < gN S) (hwl : (pWl tp b e0).length = wl) (hel : e0 = b + wl) (hes : e0 < sz) (hk : 0 < wl) (hcc : (pWl tp b e0).getD 0 0 = c) (hc : c < 128) (hbad : pBad (pWl tp b e0) b = .error (1, pb)) {post : Outcome × zS → Prop} (h1 : ∀ S9 : zS, ∀ q9 : Nat, (zFin true S9) → (xFr S S9) → (xFl S9 q9 1 pb) → (gN S ≤ gN S9 ∧ gN S9 ≤ gN S + 1 ∧ gZ S9 ≤ gZ S + 3) → post (.threw q9, S9)) : zCall d 260 [.ref r, .ref w, .int 0, .int (Int32.ofNat deep)] S post := by
  have ht : ztab 260 = ztb260 := rfl
  show zEv d 260 0 [.ref r, .ref w, .int 0, .int (Int32.ofNat deep), .retAddr 0, .retAddr 0, .retAddr 0, .retAddr 0, .retAddr 0] [] S post
  refine zv_c1 ht rfl rfl ?_
  refine zv_ei (x := Int32.ofNat b) ht rfl rfl (zhas_of (hR.1.2.2.2.1) rfl) hR.1.1 ?_
  refine zv_c2 (L' := [.ref r, .ref w, .int 0, .int (Int32.ofNat deep), .int (Int32.ofNat b), .retAddr 0, .retAddr 0, .retAddr 0, .retAddr 0]) ht rfl rfl ?_
  refine zv_c1 ht rfl rfl (zv_c1 ht rfl rfl ?_)
  refine zv_cl ht rfl rfl rfl (zv_tgv ((zStr.t hw.1)) rfl) (by omega) (Nat.le_of_ble_eq_true rfl) (x_len (S := S) hF (by omega) hw.1 (n := wl) hwl ?_)
  show zEv d 260 11 [.ref r, .ref w, .int 0, .int (Int32.ofNat deep), .int (Int32.ofNat b), .retAddr 0, .retAddr 0, .retAddr 0, .retAddr 0] [.int (Int32.ofNat wl), .int 0] S post
  refine zv_br ht rfl rfl rfl (fun b1 => ?_) (fun b1 => (show False from by have hq := b1; have hz : 0 = wl := (zi_eqE (a := 0) (b := wl) rfl rfl (by omega) (by omega)).mp (Classical.not_not.mp hq); omega).elim)
  refine zv_c1 ht rfl rfl (zv_c1 ht rfl rfl ?_)
  refine zv_cl ht rfl rfl rfl (zv_tgv ((zStr.t hw.1)) rfl) (by omega) (Nat.le_of_ble_eq_true rfl) (x_char (S := S) hF (by omega) hw.1 (i := 0) (by omega) (c := c) hcc ?_)
  show zEv d 260 39 [.ref r, .ref w, .int 0, .int (Int32.ofNat deep), .int (Int32.ofNat b), .retAddr 0, .retAddr 0, .retAddr 0, .retAddr 0] [.int (Int32.ofNat c)] S post
  refine zv_c2 (L' := [.ref r, .ref w, .int 0, .int (Int32.ofNat deep), .int (Int32.ofNat b), .int (Int32.ofNat c), .retAddr 0, .retAddr 0, .retAddr 0]) ht rfl rfl ?_
  refine zv_c1 ht rfl rfl (zv_c1 ht rfl rfl ?_)
  have J7 : zEv d 260 67 [.ref r, .ref w, .int 0, .int (Int32.ofNat deep), .int (Int32.ofNat b), .int (Int32.ofNat c), .retAddr 0, .retAddr 0, .retAddr 0] [.int (zbo ((c = 116) ∨ (c = 108) ∨ (c = 117)))] S post := by
    refine zv_c2 (L' := [.ref r, .ref w, .int 0, .int (Int32.ofNat deep), .int (Int32.ofNat b), .int (Int32.ofNat c), .int (zbo ((c = 116) ∨ (c = 108) ∨ (c = 117))), .retAddr 0, .retAddr 0]) ht rfl rfl ?_
    refine zv_c1 ht rfl rfl ?_
    refine zv_br ht rfl rfl rfl (fun h => absurd h (by decide)) (fun _ => ?_)
    refine zv_c1 ht rfl rfl (zv_c1 ht rfl rfl ?_)
    refine zv_cl ht rfl rfl rfl (zv_tgv (hR.1.2.2.2.1) rfl) (by omega) (Nat.le_of_ble_eq_true rfl) (x_findEr (S := S) (r := r) hF (by omega) hR (by omega) hw (by omega) hbad (fun S9 q9 hF9 k9 x9 g9 => ?_))
    · exact (h1 S9 q9 hF9 k9 x9 g9)
  have J5 : ((c = 116) ∨ (c = 108) ∨ (c = 117)) → zEv d 260 62 [.ref r, .ref w, .int 0, .int (Int32.ofNat deep), .int (Int32.ofNat b), .int (Int32.ofNat c), .retAddr 0, .retAddr 0, .retAddr 0] [] S post := by
    intro b6
    refine zv_c1 ht rfl rfl (zv_c1 ht rfl rfl ?_)
    exact (zv_sub (zz := zbo ((c = 116) ∨ (c = 108) ∨ (c = 117))) (zy := 1) (p := fun zz => zEv d 260 67 [.ref r, .ref w, .int 0, .int (Int32.ofNat deep), .int (Int32.ofNat b), .int (Int32.ofNat c), .retAddr 0, .retAddr 0, .retAddr 0] [.int zz] S post) (zbo_pos b6) J7)
  refine zv_br ht rfl rfl rfl (fun b2 => ?_) (fun b2 => ?_)
  · replace b2 : c = 116 := (zi_eqE (a := c) (b := 116) rfl rfl (by omega) (by omega)).mp b2
    exact (J5 (Or.inl b2))
  · replace b2 : ¬ (c = 116) := fun h => b2 ((zi_eqE (a := c) (b := 116) rfl rfl (by omega) (by omega)).mpr h)
    refine zv_c1 ht rfl rfl (zv_c1 ht rfl rfl ?_)
    refine zv_br ht rfl rfl rfl (fun b3 => ?_) (fun b3 => ?_)
    · replace b3 : c = 108 := (zi_eqE (a := c) (b := 108) rfl rfl (by omega) (by omega)).mp b3
      exact (J5 (Or.inr (Or.inl b3)))
    · replace b3 : ¬ (c = 108) := fun h => b3 ((zi_eqE (a := c) (b := 108) rfl rfl (by omega) (by omega)).mpr h)
      refine zv_c1 ht rfl rfl (zv_c1 ht rfl rfl ?_)
      refine zv_br ht rfl rfl rfl (fun b4 => ?_) (fun b4 => ?_)
      · replace b4 : ¬ (c = 117) := fun h => b4 ((zi_eqE (a := c) (b := 117) rfl rfl (by omega) (by omega)).mpr h)
        refine zv_c1 ht rfl rfl ?_
        exact (zv_sub (zz := zbo ((c = 116) ∨ (c = 108) ∨ (c = 117))) (zy := 0) (p := fun zz => zEv d 260 67 [.ref r, .ref w, .int 0, .int (Int32.ofNat deep), .int (Int32.ofNat b), .int (Int32.ofNat c), .retAddr 0, .retAddr 0, .retAddr 0] [.int zz] S post) (zbo_neg (fun h => h.elim b2 (fun h => h.elim b3 b4))) J7)
      · replace b4 : c = 117 := (zi_eqE (a := c) (b := 117) rfl rfl (by omega) (by omega)).mp (Classical.not_not.mp b4)
        exact (J5 (Or.inr (Or.inr b4)))


