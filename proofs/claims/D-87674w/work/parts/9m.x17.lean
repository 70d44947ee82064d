set_option maxRecDepth 100000
/-! ===== the house reads rows: whole ===== -/
theorem zput_nc {c : Nat} (h : zNc c = true) : zput 113 c = true := by
  have k : ∀ c, c < 21 → zNc c = true → zput 113 c = true := by decide
  exact k c (zNc_lt h) h
/-- what is done behind the items -/
noncomputable def muK (tp : Nat → Nat) (sz v p : Nat) (l : List Nat) (at1 nd : Nat) : pE (zNd × Nat × Nat) := if l.length < v then .error (1, at1) else do
  let at2 ← pWant tp sz 41 at1
  let x ← pJ (tN 18 v l p [])
  .ok (x, at2, nd)
noncomputable def thK (tp : Nat → Nat) (sz v p : Nat) (l : List zNd) (at1 nd : Nat) : pE (zNd × Nat × Nat) := if l.length < v then .error (1, at1) else do
  let at2 ← pWant tp sz 41 at1
  let x ← pJ (tN 17 v [] p l)
  .ok (x, at2, nd)
section X17
variable {d : Nat} {post : Outcome × zS → Prop} {tp : Nat → Nat} {sz : Nat}
theorem getD_app2 {l : List Nat} {t i : Nat} (h : i < l.length) : (l ++ [t]).getD i 0 = l.getD i 0 := by simp [List.getD, List.getElem?_append_left h]
theorem x_loopU (hd : 5 ≤ d) {S : zS} {r at00 nd p v : Nat} (hN2 : gN S < 1700000) (h16 : 1639 ≤ gN S) (hrN : r < gN S) (hp : p ≤ 300) (hv0 : 1 ≤ v) (hv : v < 2147483648) :
    ∀ (n got : Nat) (S1 : zS) (at1 : Nat) (ks : List Nat), got + n = 17 → got ≤ 16 → ks.length = got → (∀ k ∈ ks, k < 16) → zFin true S1 → xR tp sz S1 r at1 nd → zKE (gN S) [] xFs S S1 → ztyp S1 (gN S) = 100 → zlen S1 (gN S) = 16 → (∀ i, i < got → gA S1 (gN S) i = Int32.ofNat (ks.getD i 0)) → gN S1 = gN S + 1 → gZ S1 ≤ gZ S + 16 → (got = 0 → pSee tp sz at1 = 44) → at00 + 2 ≤ at1 →
    (∀ o S', xEnd tp sz r S at00 (pItems tp sz (pKey tp sz) 16 n got at1 nd >>= fun w => muK tp sz v p (ks ++ w.1) w.2.1 w.2.2) o S' → post (o, S')) →
    zEv d 262 33 [.ref r, .int (Int32.ofNat p), .ref (gN S), .int (Int32.ofNat got), .int (Int32.ofNat v)] [] S1 post := by
  have hLB : zLB = 4294967296 := rfl
  intro n
  induction n with
  | zero => intro got S1 at1 ks h1 h2; omega
  | succ n ih =>
    intro got S1 at1 ks hg hg2 hkl hks hF hR hfr htR hlR hrow hN hZ hsee hat h
    have h8 := hR.2.2.2.1
    have h9 := hR.2.2.2.2.1
    have ex : ∀ {S' : zS}, xFr S1 S' → xFr S S' := fun k => zKE.tr hfr (zKE.w k (by omega) (fun _ h => h) (fun _ h => h))
    have stop : ¬ pSee tp sz at1 = 44 → (pItems tp sz (pKey tp sz) 16 (n + 1) got at1 nd >>= fun w => muK tp sz v p (ks ++ w.1) w.2.1 w.2.2) = muK tp sz v p ks at1 nd := by
      intro hc
      refine (pb_ok (pI_stop (fun e => hc (hsee e)) hc)).trans ?_
      show muK tp sz v p (ks ++ []) at1 nd = _
      rw [List.append_nil]
    refine mu1 (S := S1) hF (by omega) p (gN S) got v hR h8.1 h8.2 h9.1 h9.2 (by omega) hp hg2 hv htR hlR (by omega) (by omega) ?_ ?_ ?_ ?_ ?_ ?_
    · intro c1 e1 b1 n1 m1 S4 f4 e4 k4 R4 g4 l4
      have hst := stop (by rw [e1]; exact n1)
      have hT4 : ztyp S4 (gN S) = 100 := (k4.T (Or.inl (by omega))).trans htR
      have hL4 : zlen S4 (gN S) = 16 := (k4.Len (Or.inl (by omega))).trans hlR
      have hA4 : gA S4 (gN S) = gA S1 (gN S) := k4.A (Or.inl (by omega)) (by simp)
      have hN4 : gN S4 = gN S + 1 := by omega
      generalize hT : sP (sI (sI (sI (sP (sNew S4 17 0 (zslots 17)) 178 (gN S4) (some 0)) 144 (gN S4) (Int32.ofNat p)) 175 (gN S4) (Int32.ofNat v)) 176 (gN S4) (Int32.ofNat got)) 177 (gN S4) (some (gN S)) = T
      have kT : zKE (gN S4) [] [] S4 T := by
        rw [← hT]
        exact ((((((zKE_new ⟨Nat.le_refl _, by omega⟩).tr (zKE_sP (Or.inr (Or.inr ⟨Nat.le_refl _, by omega⟩)))).tr (zKE_sI (Or.inr (Or.inr ⟨Nat.le_refl _, by omega⟩)))).tr (zKE_sI (Or.inr (Or.inr ⟨Nat.le_refl _, by omega⟩)))).tr (zKE_sI (Or.inr (Or.inr ⟨Nat.le_refl _, by omega⟩)))).tr (zKE_sP (Or.inr (Or.inr ⟨Nat.le_refl _, by omega⟩))))
      have fT : zFin true T := by
        rw [← hT]
        exact zFin_sP (zFin_sP (zFin_new f4) rfl) rfl
      have gT1 : gN T = gN S4 + 1 := by rw [← hT]; rfl
      have gT2 : gZ T = gZ S4 + 21 := by rw [← hT]; rfl
      have tT : ztyp T (gN S4) = 17 := by rw [← hT]; exact ztyp_new_at (by omega)
      have i1 : gI T 144 (gN S4) = Int32.ofNat p := by rw [← hT]; exact (gI_sI_nf (by decide)).trans ((gI_sI_nf (by decide)).trans gI_sI_at)
      have i2 : gI T 175 (gN S4) = Int32.ofNat v := by rw [← hT]; exact (gI_sI_nf (by decide)).trans gI_sI_at
      have i3 : gI T 176 (gN S4) = Int32.ofNat got := by rw [← hT]; exact gI_sI_at
      have i4 : gI T 156 (gN S4) = 0 := by rw [← hT]; exact (gI_sI_nf (by decide)).trans ((gI_sI_nf (by decide)).trans ((gI_sI_nf (by decide)).trans gI_new_at))
      have i5 : gI T 146 (gN S4) = 0 := by rw [← hT]; exact (gI_sI_nf (by decide)).trans ((gI_sI_nf (by decide)).trans ((gI_sI_nf (by decide)).trans gI_new_at))
      have p1 : gP T 177 (gN S4) = some (gN S) := by rw [← hT]; exact gP_sP_at
      have p2 : gP T 178 (gN S4) = some 0 := by
        rw [← hT]
        show gP (sP (sNew S4 17 0 (zslots 17)) 178 (gN S4) (some 0)) 178 (gN S4) = _
        exact gP_sP_at
      refine jaU (S := T) fT (by omega) r (gN S4) tT ?_
      refine x_judgeR (S := T) (tp := tp) (sz := sz) (r := r) (at0 := at1 + 1) (nd := nd) (a := gN S4) (k := 18) (v := v) (p := p) (g := gN S4 + 1) (lo := gN S) (ks := ks) (js := []) (cs := []) fT (by omega) (by omega) (by omega) (by omega) (by omega) gT1 (xOwn_U (R := gN S) tT i2 (by rw [hkl]; exact i3) ⟨hv0, by omega, by omega⟩ p2 hks ⟨Nat.le_refl _, by omega⟩ p1 ((kT.T (Or.inl (by omega))).trans hT4) (by rw [(kT.Len (Or.inl (by omega))).trans hL4]; omega) (fun i hi => ?_)) rfl (by omega) (by omega) i1 i4 i5 (R4.ke kT (by omega) (by decide)) (Nat.zero_le _) (fun S5 f5 e5 j5 t5 R5 g5 => ?_) (fun S5 q5 f5 e5 k5 x5 g5 => ?_)
      · rw [kT.A (Or.inl (by omega)) (by simp), hA4]
        exact hrow i (by omega)
      · show zEv (d - 1) 253 4 _ [] S5 _
        refine zEv.wk (by repeat' (first | exact trivial | exact Or.inl rfl | exact Or.inr rfl | refine ⟨?_, ?_⟩)) (ja4 (S := S5) f5 (gN S4) ?_)
        show zEv d 262 113 _ [.ref (gN S4)] S5 post
        refine zEv.wk (by repeat' (first | exact trivial | exact Or.inl rfl | exact Or.inr rfl | refine ⟨?_, ?_⟩)) (mu113 (S := S5) f5 (gN S4) ?_)
        have k5 : zKE (gN S4) [] [] S4 S5 := kT.tr (xJd.ke j5 ⟨Nat.le_refl _, by omega⟩)
        refine h _ _ (xEnd.good (S' := S5) f5 ((ex k4).tr (zKE.w k5 (by omega) (fun _ h => h) (fun _ h => by cases h))) t5 R5 (by omega) (hst.trans ?_))
        unfold muK
        rw [if_neg (by omega)]
        exact (pb_ok e4).trans ((pb_ok e5).trans rfl)
      · have : pJ (tN 18 v ks p []) = .ok (tN 18 v ks p []) := by
          have hty : ty (tN 18 v ks p []) = some (0, 444, 0) := (ty_of (x := tN 18 v ks p []) (by rw [tN_Cs]; rfl)).trans (tyN_18 v)
          unfold pJ
          rw [hty]
        rw [this] at e5
        cases e5
    · intro c1 e1 b1 n1 m1 S5 q5 f5 e5 k5 x5 g5
      refine h _ _ (xEnd.err (S' := S5) f5 (ex k5) x5 (by omega) ((stop (by rw [e1]; exact n1)).trans ?_))
      unfold muK
      rw [if_neg (by omega)]
      exact pb_er e5
    · intro c1 e1 b1 n1 m1 S5 f5 k5 x5 g5
      refine h _ _ (xEnd.err (S' := S5) f5 (ex k5) x5 (by omega) ((stop (by rw [e1]; exact n1)).trans ?_))
      unfold muK
      rw [if_pos (by omega)]
    · intro c1 e1 b1 n1 m1 S5 q5 f5 e5 k5 x5 g5
      have e44 : pSee tp sz at1 = 44 := e1.trans n1
      exact h _ _ (xEnd.err (S' := S5) f5 (ex k5) x5 (by omega) (pb_er (pI_e2 (Or.inr e44) m1 (if_pos e44) (pb_er e5))))
    · intro c1 e1 b1 n1 m1 S5 f5 k5 x5 g5
      exact h _ _ (xEnd.err (S' := S5) f5 (ex k5) x5 (by omega) (pb_er (pI_most (Or.inr (e1.trans n1)) m1)))
    · intro c1 e1 b1 n1 m1 S5 v5 f5 e5 k5 R5 g5 l5 c5
      have e44 : pSee tp sz at1 = 44 := e1.trans n1
      have kA : zKE (gN S) [] [] S5 (sA S5 (gN S) got (Int32.ofNat v5)) := zKE_sA (Or.inr ⟨Nat.le_refl _, by omega⟩)
      refine ih (got + 1) (sA S5 (gN S) got (Int32.ofNat v5)) (at1 + 2) (ks ++ [v5]) (by omega) (by omega) (by rw [List.length_append, hkl]; rfl) (fun k hk => ?_) f5 (R5.ke kA hrN (by decide)) ((ex k5).tr (zKE.w kA (Nat.le_refl _) (fun _ h => h) (fun _ h => by cases h))) ((k5.T (Or.inl (by omega))).trans htR) ((k5.Len (Or.inl (by omega))).trans hlR) (fun i hi => ?_) (by show gN S5 = _; omega) (by show gZ S5 ≤ _; omega) (fun e => absurd e (by omega)) (by omega) (fun o S' hh => h o S' ?_)
      · rcases List.mem_append.mp hk with e | e
        · exact hks k e
        · rw [List.mem_singleton.mp e]; omega
      · by_cases e : i = got
        · subst e
          rw [gA_sA_at, ← hkl, getD_pre]
        · rw [gA_sA_nj e, k5.A (Or.inl (by omega)) (by simp), hrow i (by omega), getD_app2 (by omega)]
      · have eq : (pItems tp sz (pKey tp sz) 16 (n + 1) got at1 nd >>= fun w => muK tp sz v p (ks ++ w.1) w.2.1 w.2.2) = (pItems tp sz (pKey tp sz) 16 n (got + 1) (at1 + 2) nd >>= fun w => muK tp sz v p (ks ++ [v5] ++ w.1) w.2.1 w.2.2) := by
          have ek : pKey tp sz (at1 + 1) nd = .ok (v5, at1 + 2, nd) := pb_ok e5
          cases hi : pItems tp sz (pKey tp sz) 16 n (got + 1) (at1 + 2) nd with
          | error z => rw [pI_e3 (Or.inr e44) m1 (if_pos e44) ek hi]; rfl
          | ok w =>
            obtain ⟨l, w⟩ := w
            rw [pI_ok (Or.inr e44) m1 (if_pos e44) ek hi]
            show muK tp sz v p (ks ++ v5 :: l) w.1 w.2 = muK tp sz v p (ks ++ [v5] ++ l) w.1 w.2
            simp
        rw [eq]
        exact hh
theorem x_multi {S : zS} (hF : zFin true S) (hd : 5 ≤ d) {r at0 nd p deep : Nat} {rec : Nat → Nat → Nat → pE (zNd × Nat × Nat)} (hR : xR tp sz S r at0 nd) (hN2 : gN S < 1700000) (hp : p ≤ 300)
    (h : ∀ o S', xEnd tp sz r S at0 (pW tp sz rec 18 p deep at0 nd) o S' → post (o, S')) : zCall d 262 [.ref r, .int (Int32.ofNat p)] S post := by
  have h8 := hR.2.2.2.1
  have h9 := hR.2.2.2.2.1
  have hLB : zLB = 4294967296 := rfl
  have eU : pW tp sz rec 18 p deep at0 nd = (do
    let a0 ← pWant tp sz 40 at0
    let q ← pNum tp sz a0
    let w ← pItems tp sz (pKey tp sz) 16 17 0 q.2 nd
    muK tp sz q.1 p w.1 w.2.1 w.2.2) := rfl
  have k0 : zKE (gN S) [] xFs S (sNew S 100 16 16) := zKE_new ⟨Nat.le_refl _, by omega⟩
  refine mu0 hF (by omega) p hR h8.1 h8.2 h9.1 h9.2 (by omega) hp ?_ ?_ ?_ ?_
  · intro S1 f1 e1 k1 R1 g1 l1 S3 v3 at3 f3 e3 k3 R3 g3 l3 c3 d3 c5 e5 b5 n5
    have g1 : gN S + 1 ≤ gN S1 ∧ gN S1 ≤ gN S + 1 + 0 ∧ gZ S1 ≤ gZ S + 16 + 0 := g1
    have kk : zKE (gN S + 1) [] xFs (sNew S 100 16 16) S3 := zKE.tr k1 (zKE.w k3 (by show gN S + 1 ≤ gN S1; omega) (fun _ h => h) (fun _ h => h))
    refine x_loopU (d := d) (post := post) (S := S) (r := r) (at00 := at0) (nd := nd) (p := p) (v := v3) hd hN2 (by omega) h9.2 hp c3.1 c3.2 17 0 S3 at3 [] rfl (by omega) rfl (fun _ h => by cases h) f3 R3 (k0.tr (zKE.w kk (by omega) (fun _ h => h) (fun _ h => h))) ((kk.T (Or.inl (Nat.lt_succ_self _))).trans (ztyp_new_at (by omega))) ((kk.Len (Or.inl (Nat.lt_succ_self _))).trans (zlen_new_at (by omega))) (fun i hi => absurd hi (Nat.not_lt_zero _)) (by omega) (by omega) (fun _ => e5.trans n5) (by omega) (fun o S' hh => h o S' ?_)
    have := eU.trans ((pb_ok e1).trans (pb_ok e3))
    rw [this]
    exact hh
  · intro S1 f1 e1 k1 R1 g1 l1 S3 v3 at3 f3 e3 k3 R3 g3 l3 c3 d3 c5 e5 b5 n5 S7 f7 k7 x7 g7
    have g1 : gN S + 1 ≤ gN S1 ∧ gN S1 ≤ gN S + 1 + 0 ∧ gZ S1 ≤ gZ S + 16 + 0 := g1
    refine h _ _ (xEnd.err (S' := S7) f7 (((k0.tr (zKE.w k1 (Nat.le_succ _) (fun _ h => h) (fun _ h => h))).tr (zKE.w k3 (by omega) (fun _ h => h) (fun _ h => h))).tr (zKE.w k7 (by omega) (fun _ h => h) (fun _ h => h))) x7 (by omega) (eU.trans ((pb_ok e1).trans ((pb_ok e3).trans ?_))))
    have n5' : ¬ pSee tp sz at3 = 44 := by rw [e5]; exact n5
    have : pItems tp sz (pKey tp sz) 16 17 0 at3 nd = .error (1, at3) := pI_e1 (Or.inl rfl) (by omega) (if_neg n5')
    exact pb_er this
  · intro S1 f1 e1 k1 R1 g1 l1 S4 q4 z4 f4 e4 k4 x4 g4
    have g1 : gN S + 1 ≤ gN S1 ∧ gN S1 ≤ gN S + 1 + 0 ∧ gZ S1 ≤ gZ S + 16 + 0 := g1
    exact h _ _ (xEnd.err (S' := S4) f4 ((k0.tr (zKE.w k1 (Nat.le_succ _) (fun _ h => h) (fun _ h => h))).tr (zKE.w k4 (by omega) (fun _ h => h) (fun _ h => h))) x4 (by omega) (eU.trans ((pb_ok e1).trans (pb_er e4))))
  · intro S2 q2 f2 e2 k2 x2 g2
    have g2 : gN S + 1 ≤ gN S2 ∧ gN S2 ≤ gN S + 1 + 1 ∧ gZ S2 ≤ gZ S + 16 + 3 := g2
    exact h _ _ (xEnd.err (S' := S2) f2 (k0.tr (zKE.w k2 (Nat.le_succ _) (fun _ h => h) (fun _ h => h))) x2 (by omega) (eU.trans (pb_er e2)))
end X17

