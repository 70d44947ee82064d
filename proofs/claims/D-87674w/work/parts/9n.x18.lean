set_option maxRecDepth 100000
/-! ===== the house reads a thresh's parts ===== -/
section X18
variable {d : Nat} {post : Outcome × zS → Prop} {tp : Nat → Nat} {sz : Nat}
theorem xTs.app {P : Nat → Prop} {S : zS} {y : zNd} {a : Nat} (hy : xT P S y a) : ∀ {cs : List zNd} {js : List Nat}, xTs P S cs js → xTs P S (cs ++ [y]) (js ++ [a]) := by
  intro cs
  induction cs with
  | nil => intro js h; rw [h]; exact ⟨a, [], rfl, hy, rfl⟩
  | cons x cs ih =>
    rintro js ⟨j, js', rfl, g1, g2⟩
    exact ⟨j, js' ++ [a], rfl, g1, ih g2⟩
theorem xTl.nc {lo : Nat} {S : zS} {x : zNd} {a : Nat} (h : xTl lo S x a) : zNc (ztyp S a) = true := by
  obtain ⟨ks, q1, q2, -⟩ := xT_iff.mp h
  exact q2.nc
theorem x_loopT (hd : 5 ≤ d) {S : zS} {r at00 p v deep : Nat} {rec : Nat → Nat → Nat → pE (zNd × Nat × Nat)} (hmono : pMono rec) (h16 : 1639 ≤ gN S) (hrN : r < gN S) (hp : p ≤ 300) (hdp : deep < 1000) (hv0 : 1 ≤ v) (hv : v < 2147483648) (hRd : ∀ dp, dp = deep + 1 → xRd tp sz (d - 1) dp rec) (hN0 : gN S + 30 * (sz - at00) ≤ 1700000) :
    ∀ (n got : Nat) (S1 : zS) (at1 nd : Nat) (cs : List zNd) (js : List Nat), got + n = 13 → got ≤ 12 → js.length = got → nd ≤ 80 → zFin true S1 → xR tp sz S1 r at1 nd → zKE (gN S) [] xFs S S1 → ztyp S1 (gN S) = 113 → zlen S1 (gN S) = 12 → (∀ i, i < got → gQ S1 (gN S) i = some (js.getD i 0)) → xTs (fun j => gN S + 1 ≤ j ∧ j < gN S1) S1 cs js → gN S + 1 ≤ gN S1 → gN S1 + 30 * (sz - at1) + 50 ≤ gN S + 30 * (sz - at00) → gZ S1 + 150 * (sz - at1) + 250 ≤ gZ S + 150 * (sz - at00) → (got = 0 → pSee tp sz at1 = 44) → at00 + 2 ≤ at1 →
    (∀ o S', xEnd tp sz r S at00 (pItems tp sz (rec (deep + 1)) 12 n got at1 nd >>= fun w => thK tp sz v p (cs ++ w.1) w.2.1 w.2.2) o S' → post (o, S')) →
    zEv d 263 35 [.ref r, .int (Int32.ofNat p), .int (Int32.ofNat deep), .ref (gN S), .int (Int32.ofNat got), .int (Int32.ofNat v)] [] S1 post := by
  have hLB : zLB = 4294967296 := rfl
  intro n
  induction n with
  | zero => intro got S1 at1 nd cs js h1 h2; omega
  | succ n ih =>
    intro got S1 at1 nd cs js hg hg2 hkl hnd hF hR hfr htR hlR hrow hcs hN hN1 hZ1 hsee hat h
    have h8 := hR.2.2.2.1
    have h9 := hR.2.2.2.2.1
    have hcl : cs.length = got := by rw [hcs.len]; exact hkl
    have ex : ∀ {S' : zS}, xFr S1 S' → xFr S S' := fun k => zKE.tr hfr (zKE.w k (by omega) (fun _ h => h) (fun _ h => h))
    have stop : ¬ pSee tp sz at1 = 44 → (pItems tp sz (rec (deep + 1)) 12 (n + 1) got at1 nd >>= fun w => thK tp sz v p (cs ++ w.1) w.2.1 w.2.2) = thK tp sz v p cs at1 nd := by
      intro hc
      refine (pb_ok (pI_stop (fun e => hc (hsee e)) hc)).trans ?_
      show thK tp sz v p (cs ++ []) at1 nd = _
      rw [List.append_nil]
    refine th1 (S := S1) (rec := rec) hF (by omega) p deep (gN S) got v hR h8.1 h8.2 h9.1 h9.2 (by omega) hp hdp hnd hmono hRd hg2 hv htR hlR (by omega) (by omega) ?_ ?_ ?_ ?_ ?_ ?_ ?_
    · intro c1 e1 b1 n1 m1 S4 f4 e4 k4 R4 g4 l4
      have hst := stop (by rw [e1]; exact n1)
      have hT4 : ztyp S4 (gN S) = 113 := (k4.T (Or.inl (by omega))).trans htR
      have hL4 : zlen S4 (gN S) = 12 := (k4.Len (Or.inl (by omega))).trans hlR
      have hQ4 : gQ S4 (gN S) = gQ S1 (gN S) := k4.Q (Or.inl (by omega)) (by simp)
      generalize hT : sP (sI (sI (sI (sP (sNew S4 18 0 (zslots 18)) 182 (gN S4) (some 0)) 144 (gN S4) (Int32.ofNat p)) 179 (gN S4) (Int32.ofNat v)) 180 (gN S4) (Int32.ofNat got)) 181 (gN S4) (some (gN S)) = T
      have kT : zKE (gN S4) [] [] S4 T := by
        rw [← hT]
        exact ((((((zKE_new ⟨Nat.le_refl _, by omega⟩).tr (zKE_sP (Or.inr (Or.inr ⟨Nat.le_refl _, by omega⟩)))).tr (zKE_sI (Or.inr (Or.inr ⟨Nat.le_refl _, by omega⟩)))).tr (zKE_sI (Or.inr (Or.inr ⟨Nat.le_refl _, by omega⟩)))).tr (zKE_sI (Or.inr (Or.inr ⟨Nat.le_refl _, by omega⟩)))).tr (zKE_sP (Or.inr (Or.inr ⟨Nat.le_refl _, by omega⟩))))
      have fT : zFin true T := by
        rw [← hT]
        exact zFin_sP (zFin_sP (zFin_new f4) rfl) rfl
      have gT1 : gN T = gN S4 + 1 := by rw [← hT]; rfl
      have gT2 : gZ T = gZ S4 + 20 := by rw [← hT]; rfl
      have tT : ztyp T (gN S4) = 18 := by rw [← hT]; exact ztyp_new_at (by omega)
      have i1 : gI T 144 (gN S4) = Int32.ofNat p := by rw [← hT]; exact (gI_sI_nf (by decide)).trans ((gI_sI_nf (by decide)).trans gI_sI_at)
      have i2 : gI T 179 (gN S4) = Int32.ofNat v := by rw [← hT]; exact (gI_sI_nf (by decide)).trans gI_sI_at
      have i3 : gI T 180 (gN S4) = Int32.ofNat got := by rw [← hT]; exact gI_sI_at
      have i4 : gI T 156 (gN S4) = 0 := by rw [← hT]; exact (gI_sI_nf (by decide)).trans ((gI_sI_nf (by decide)).trans ((gI_sI_nf (by decide)).trans gI_new_at))
      have i5 : gI T 146 (gN S4) = 0 := by rw [← hT]; exact (gI_sI_nf (by decide)).trans ((gI_sI_nf (by decide)).trans ((gI_sI_nf (by decide)).trans gI_new_at))
      have p1 : gP T 181 (gN S4) = some (gN S) := by rw [← hT]; exact gP_sP_at
      refine jaH (S := T) fT (by omega) r (gN S4) tT ?_
      have kk : zKE (gN S1) [] xFs S1 T := k4.tr (zKE.w kT (by omega) (fun _ h => h) (fun _ h => by cases h))
      refine x_judgeR (S := T) (tp := tp) (sz := sz) (r := r) (at0 := at1 + 1) (nd := nd) (a := gN S4) (k := 17) (v := v) (p := p) (g := gN S4 + 1) (lo := gN S) (ks := []) (js := js) (cs := cs) fT (by omega) (by omega) (by omega) (by omega) (by omega) gT1 (xOwn_H (R := gN S) tT i2 (by rw [hkl]; exact i3) ⟨hv0, by omega, by omega⟩ ⟨Nat.le_refl _, by omega⟩ p1 ((kT.T (Or.inl (by omega))).trans hT4) (by rw [(kT.Len (Or.inl (by omega))).trans hL4]; omega) (fun i hi => ?_)) (hcs.em (xEq.ke kk (fun j hj => ⟨hj.2, by simp⟩) (by decide)) (fun j hj => ⟨⟨by omega, by omega⟩, by omega⟩)) (by omega) (by omega) i1 i4 i5 (R4.ke kT (by omega) (by decide)) (Nat.zero_le _) (fun S5 f5 e5 j5 t5 R5 g5 => ?_) (fun S5 q5 f5 e5 k5 x5 g5 => ?_)
      · rw [kT.Q (Or.inl (by omega)) (by simp), hQ4]
        exact hrow i (by omega)
      · show zEv (d - 1) 253 4 _ [] S5 _
        refine zEv.wk (by repeat' (first | exact trivial | exact Or.inl rfl | exact Or.inr rfl | refine ⟨?_, ?_⟩)) (ja4 (S := S5) f5 (gN S4) ?_)
        show zEv d 263 122 _ [.ref (gN S4)] S5 post
        refine zEv.wk (by repeat' (first | exact trivial | exact Or.inl rfl | exact Or.inr rfl | refine ⟨?_, ?_⟩)) (th122 (S := S5) f5 (gN S4) ?_)
        have k5 : zKE (gN S4) [] [] S4 S5 := kT.tr (xJd.ke j5 ⟨Nat.le_refl _, by omega⟩)
        refine h _ _ (xEnd.good (S' := S5) f5 ((ex k4).tr (zKE.w k5 (by omega) (fun _ h => h) (fun _ h => by cases h))) t5 R5 (by omega) (hst.trans ?_))
        unfold thK
        rw [if_neg (by omega)]
        exact (pb_ok e4).trans ((pb_ok e5).trans rfl)
      · show post (.threw q5, S5)
        have k5' : zKE (gN S) [] xFs S4 S5 := (zKE.w kT (by omega) (fun _ h => h) (fun _ h => by cases h) : zKE (gN S) [] xFs S4 T).tr (xFn.ke k5 (by omega) ⟨by omega, by omega⟩)
        refine h _ _ (xEnd.err (S' := S5) f5 ((ex k4).tr k5') x5 (by omega) (hst.trans ?_))
        unfold thK
        rw [if_neg (by omega)]
        exact (pb_ok e4).trans (pb_er e5)
    · intro c1 e1 b1 n1 m1 S5 a5 y5 at5 nd5 f5 e5 k5 t5 R5 g5 c5
      rw [(k5.T (Or.inl (by omega))).trans htR]
      exact zput_nc t5.nc
    · intro c1 e1 b1 n1 m1 S5 q5 f5 e5 k5 x5 g5
      refine h _ _ (xEnd.err (S' := S5) f5 (ex k5) x5 (by omega) ((stop (by rw [e1]; exact n1)).trans ?_))
      unfold thK
      rw [if_neg (by omega)]
      exact pb_er e5
    · intro c1 e1 b1 n1 m1 S5 f5 k5 x5 g5
      refine h _ _ (xEnd.err (S' := S5) f5 (ex k5) x5 (by omega) ((stop (by rw [e1]; exact n1)).trans ?_))
      unfold thK
      rw [if_pos (by omega)]
    · intro c1 e1 b1 n1 m1 S5 q5 kk5 z5 f5 e5 k5 x5 g5
      have e44 : pSee tp sz at1 = 44 := e1.trans n1
      exact h _ _ (xEnd.err (S' := S5) f5 (ex k5) x5 (by omega) (pb_er (pI_e2 (Or.inr e44) m1 (if_pos e44) e5)))
    · intro c1 e1 b1 n1 m1 S5 f5 k5 x5 g5
      exact h _ _ (xEnd.err (S' := S5) f5 (ex k5) x5 (by omega) (pb_er (pI_most (Or.inr (e1.trans n1)) m1)))
    · intro c1 e1 b1 n1 m1 S5 a5 y5 at5 nd5 f5 e5 k5 t5 R5 g5 c5
      have e44 : pSee tp sz at1 = 44 := e1.trans n1
      obtain ⟨hm1, hm2⟩ := hmono _ _ _ _ hnd e5
      have hm1 : at1 + 1 < at5 := hm1
      have hm2 : nd5 ≤ 80 := hm2
      have kA : zKE (gN S) [] [] S5 (sQ S5 (gN S) got (some a5)) := zKE_sQ (Or.inr ⟨Nat.le_refl _, by omega⟩)
      have kB : xEq (fun j => gN S + 1 ≤ j ∧ j < gN S5) S5 (sQ S5 (gN S) got (some a5)) := by
        intro j hj
        refine ⟨rfl, rfl, fun _ _ _ _ _ => ⟨rfl, rfl⟩, rfl, ?_⟩
        funext i
        exact gQ_sQ_ne (by omega)
      refine ih (got + 1) (sQ S5 (gN S) got (some a5)) at5 nd5 (cs ++ [y5]) (js ++ [a5]) (by omega) (by omega) (by rw [List.length_append, hkl]; rfl) hm2 f5 (R5.ke kA hrN (by decide)) ((ex k5).tr (zKE.w kA (Nat.le_refl _) (fun _ h => h) (fun _ h => by cases h))) ((k5.T (Or.inl (by omega))).trans htR) ((k5.Len (Or.inl (by omega))).trans hlR) (fun i hi => ?_) (xTs.app ?_ ?_) (by show _ ≤ gN S5; omega) (by show gN S5 + _ ≤ _; omega) (by show gZ S5 + _ ≤ _; omega) (fun e => absurd e (by omega)) (by omega) (fun o S' hh => h o S' ?_)
      · by_cases e : i = got
        · subst e
          rw [gQ_sQ_at, ← hkl, getD_pre]
        · rw [gQ_sQ_nj e, k5.Q (Or.inl (by omega)) (by simp), hrow i (by omega), getD_app2 (by omega)]
      · exact xT.em kB (fun j hj => hj) (xT.em xEq.rf (fun j hj => ⟨by omega, hj.2⟩) t5)
      · exact (hcs.em (xEq.ke k5 (fun j hj => ⟨hj.2, by simp⟩) (by decide)) (fun j hj => ⟨hj.1, by omega⟩)).em kB (fun j hj => hj)
      · have eq : (pItems tp sz (rec (deep + 1)) 12 (n + 1) got at1 nd >>= fun w => thK tp sz v p (cs ++ w.1) w.2.1 w.2.2) = (pItems tp sz (rec (deep + 1)) 12 n (got + 1) at5 nd5 >>= fun w => thK tp sz v p (cs ++ [y5] ++ w.1) w.2.1 w.2.2) := by
          cases hi : pItems tp sz (rec (deep + 1)) 12 n (got + 1) at5 nd5 with
          | error z => rw [pI_e3 (Or.inr e44) m1 (if_pos e44) e5 hi]; rfl
          | ok w =>
            obtain ⟨l, w⟩ := w
            rw [pI_ok (Or.inr e44) m1 (if_pos e44) e5 hi]
            show thK tp sz v p (cs ++ y5 :: l) w.1 w.2 = thK tp sz v p (cs ++ [y5] ++ l) w.1 w.2
            simp
        rw [eq]
        exact hh
theorem x_thresh {S : zS} (hF : zFin true S) (hd : 5 ≤ d) {r at0 nd p deep : Nat} {rec : Nat → Nat → Nat → pE (zNd × Nat × Nat)} (hmono : pMono rec) (hR : xR tp sz S r at0 nd) (hnd : nd ≤ 80) (hN0 : gN S + 30 * (sz - at0) ≤ 1700000) (hp : p ≤ 300) (hdp : deep < 1000) (hRd : ∀ dp, dp = deep + 1 → xRd tp sz (d - 1) dp rec)
    (h : ∀ o S', xEnd tp sz r S at0 (pW tp sz rec 17 p deep at0 nd) o S' → post (o, S')) : zCall d 263 [.ref r, .int (Int32.ofNat p), .int (Int32.ofNat deep)] S post := by
  have h8 := hR.2.2.2.1
  have h9 := hR.2.2.2.2.1
  have hLB : zLB = 4294967296 := rfl
  have eU : pW tp sz rec 17 p deep at0 nd = (do
    let a0 ← pWant tp sz 40 at0
    let q ← pNum tp sz a0
    let w ← pItems tp sz (rec (deep + 1)) 12 13 0 q.2 nd
    thK tp sz q.1 p w.1 w.2.1 w.2.2) := rfl
  have k0 : zKE (gN S) [] xFs S (sNew S 113 12 12) := zKE_new ⟨Nat.le_refl _, by omega⟩
  refine th0 (rec := rec) hF (by omega) p deep hR h8.1 h8.2 h9.1 h9.2 (by omega) hp hdp ?_ ?_ ?_ ?_
  · intro S1 f1 e1 k1 R1 g1 l1 S3 v3 at3 f3 e3 k3 R3 g3 l3 c3 d3 c5 e5 b5 n5
    have g1 : gN S + 1 ≤ gN S1 ∧ gN S1 ≤ gN S + 1 + 0 ∧ gZ S1 ≤ gZ S + 12 + 0 := g1
    have kk : zKE (gN S + 1) [] xFs (sNew S 113 12 12) S3 := zKE.tr k1 (zKE.w k3 (by show gN S + 1 ≤ gN S1; omega) (fun _ h => h) (fun _ h => h))
    have hs := (xsee_lt (e5.trans n5) (by omega)).1
    refine x_loopT (d := d) (post := post) (S := S) (r := r) (at00 := at0) (p := p) (v := v3) (deep := deep) (rec := rec) hd hmono (by omega) h9.2 hp hdp c3.1 c3.2 hRd hN0 13 0 S3 at3 nd [] [] rfl (by omega) rfl hnd f3 R3 (k0.tr (zKE.w kk (by omega) (fun _ h => h) (fun _ h => h))) ((kk.T (Or.inl (Nat.lt_succ_self _))).trans (ztyp_new_at (by omega))) ((kk.Len (Or.inl (Nat.lt_succ_self _))).trans (zlen_new_at (by omega))) (fun i hi => absurd hi (Nat.not_lt_zero _)) rfl (by omega) (by omega) (by omega) (fun _ => e5.trans n5) (by omega) (fun o S' hh => h o S' ?_)
    have := eU.trans ((pb_ok e1).trans (pb_ok e3))
    rw [this]
    exact hh
  · intro S1 f1 e1 k1 R1 g1 l1 S3 v3 at3 f3 e3 k3 R3 g3 l3 c3 d3 c5 e5 b5 n5 S7 f7 k7 x7 g7
    have g1 : gN S + 1 ≤ gN S1 ∧ gN S1 ≤ gN S + 1 + 0 ∧ gZ S1 ≤ gZ S + 12 + 0 := g1
    refine h _ _ (xEnd.err (S' := S7) f7 (((k0.tr (zKE.w k1 (Nat.le_succ _) (fun _ h => h) (fun _ h => h))).tr (zKE.w k3 (by omega) (fun _ h => h) (fun _ h => h))).tr (zKE.w k7 (by omega) (fun _ h => h) (fun _ h => h))) x7 (by omega) (eU.trans ((pb_ok e1).trans ((pb_ok e3).trans ?_))))
    have n5' : ¬ pSee tp sz at3 = 44 := by rw [e5]; exact n5
    have : pItems tp sz (rec (deep + 1)) 12 13 0 at3 nd = .error (1, at3) := pI_e1 (Or.inl rfl) (by omega) (if_neg n5')
    exact pb_er this
  · intro S1 f1 e1 k1 R1 g1 l1 S4 q4 z4 f4 e4 k4 x4 g4
    have g1 : gN S + 1 ≤ gN S1 ∧ gN S1 ≤ gN S + 1 + 0 ∧ gZ S1 ≤ gZ S + 12 + 0 := g1
    exact h _ _ (xEnd.err (S' := S4) f4 ((k0.tr (zKE.w k1 (Nat.le_succ _) (fun _ h => h) (fun _ h => h))).tr (zKE.w k4 (by omega) (fun _ h => h) (fun _ h => h))) x4 (by omega) (eU.trans ((pb_ok e1).trans (pb_er e4))))
  · intro S2 q2 f2 e2 k2 x2 g2
    have g2 : gN S + 1 ≤ gN S2 ∧ gN S2 ≤ gN S + 1 + 1 ∧ gZ S2 ≤ gZ S + 12 + 3 := g2
    exact h _ _ (xEnd.err (S' := S2) f2 (k0.tr (zKE.w k2 (Nat.le_succ _) (fun _ h => h) (fun _ h => h))) x2 (by omega) (eU.trans (pb_er e2)))
end X18

