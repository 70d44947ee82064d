/-! ===== the run of a method ===== -/
section ZF
variable {p : Program} {l : Launch} {e0 : Env} {R : Room} {s : State} {m : MethodId} {args : Array Value} {below : List Frame} {meth : Method} {c : Code} {H H0 : Heap} {locs : List Loc} {cells slots mc ms : Nat} {Q : State → Prop} {ls : Array Slot} {b pc : Nat} {oa : Nat → Nat} {D : va_G} {dA : Nat → ClassId} {st0 rest : List Value} {y : Outcome × zS} {A9 : Array Value}
theorem zcont (hr : vx_Run p l e0 R s m args below meth c H locs cells slots mc ms (F0 m pc ls st0) rest (zQc b oa D dA H0 y A9) (zXC b oa D dA H0 y) (fun q => b ≤ q)) (hS : va_S (fun q => b ≤ q) s.heap H locs)
    (kx : ∀ (i : Nat) (ce : Cell) (H1 : Heap) (locs1 : List Loc), y.1 = .threw i → zHp b (zad b oa) D dA H0 y.2 H1 → va_S (fun q => b ≤ q) s.heap H1 locs1 → H1[zad b oa i]? = some ce → ce.vm = .none → s.vm.findClass "SpendHouse$Fault" = some ce.cls → vx_W p l e0 R s m args below meth c H1 locs1 (cells + mc) (slots + ms) Q (F0 m pc ls rest) (zad b oa i))
    (kk : ∀ (v : Option Value) (H1 : Heap) (locs1 : List Loc), y.1 = .returned v → zHp b (zad b oa) D dA H0 y.2 H1 → va_S (fun q => b ≤ q) s.heap H1 locs1 → W p l e0 R s m args below meth c H1 locs1 (cells + mc) (slots + ms) Q (F0 m (pc + 3) ls ((v.map (zcv (zad b oa))).toList ++ rest))) : W p l e0 R s m args below meth c H locs cells slots Q (F0 m pc ls st0) := by
  intro T hT X
  rcases hr T hT X with ⟨v, st₀, t, T', L, h0, X', hL, e1, e2, ⟨⟨w, hw, hv⟩, hHp, hF⟩, st⟩ | ⟨q, st₀, t, T', L, E, ce, h0, X', hL, e1, e2, ⟨i, hi, hq, hE, hHp, hF⟩, hce, hcv, hcl, st⟩
  · cases hv
    obtain ⟨k1, k2, k3⟩ := vx_keep h0 e1 hS (fun _ _ h => h) (fun _ h => h) hL hF
    obtain ⟨t2, a1, b1⟩ := kk w T'.heap (locs ++ L) hw (by rw [e1]; exact hHp) k3 T' rfl X'
    exact ⟨t2, st t2 a1, b1⟩
  · obtain ⟨k1, k2, k3⟩ := vx_keep h0 e1 hS (fun _ _ h => h) (fun _ h => h) hL hF
    subst hq
    subst hE
    obtain ⟨t2, a1, b1⟩ := kx i ce T'.heap (locs ++ L) hi (by rw [e1]; exact hHp) k3 (by rw [e1]; exact hce) hcv hcl T' rfl X'
    exact ⟨t2, st.trans a1, b1⟩
end ZF
/-- what is thrown here: caught, or handed on -/
theorem zthrow {p : Program} {l : Launch} {e0 : Env} {R : Room} {s : State} {m : MethodId} {args : Array Value} {below : List Frame} {meth : Method} {c : Code} {H H0 : Heap} {locs : List Loc} {cells slots mc ms : Nat} {ls : Array Slot} {b pc me i : Nat} {oa : Nat → Nat} {D : va_G} {dA : Nat → ClassId} {x : Outcome × zS} {rest : List Value} {ce : Cell} {o : Option Nat}
    (hF : zFix p me s m args meth c) (h44 : me = 444 → ∀ i, x.1 ≠ .threw i) (hKx : zKx s) (hh : zhnd me pc = some o) (hcell : H[zad b oa i]? = some ce) (hv : ce.vm = .none) (hcl : s.vm.findClass "SpendHouse$Fault" = some ce.cls) (hS : va_S (fun q => b ≤ q) s.heap H locs)
    (k1 : ∀ h, o = some h → W p l e0 R s m args below meth c H locs cells slots (vx_MQ below (zQc b oa D dA H0 x) (zXC b oa D dA H0 x) args s mc ms (fun q => b ≤ q)) (F0 m h ls [.ref (zad b oa i)]))
    (k2 : o = none → x.1 = .threw i ∧ zHp b (zad b oa) D dA H0 x.2 H ∧ cells ≤ mc ∧ slots ≤ ms) :
    vx_W p l e0 R s m args below meth c H locs cells slots (vx_MQ below (zQc b oa D dA H0 x) (zXC b oa D dA H0 x) args s mc ms (fun q => b ≤ q)) (F0 m pc ls rest) (zad b oa i) := by
  obtain ⟨hx, hb, hml, hown, hts, hnm, hlk, hrt, ht1, ht2⟩ := hF
  unfold zhnd at hh
  by_cases h7 : me = zmeR
  · rw [if_pos h7] at hh
    by_cases hp : 10 ≤ pc ∧ pc < 122
    · rw [if_pos hp] at hh
      cases hh
      have h7' : me = 7 := h7
      subst h7'
      refine vx_catch (name := "SpendHouse$Fault") (own := zcn (zoc 7)) hown [] { startPc := 10, endPc := 122, handlerPc := 130, catchType := 170 } ((tableOf zhh).tail) (by rw [ht2 rfl]; rfl) (fun z hz => nomatch hz) ?_ (by decide) (hts _ q586) (va_tabs rfl rfl (hKx _ q622 rfl)) hcell hv hcl (k1 _ rfl)
      simp [covers]
      omega
    · rw [if_neg hp] at hh; cases hh
  · rw [if_neg h7] at hh
    cases hh
    obtain ⟨g1, g2, g3, g4⟩ := k2 rfl
    have h4 : me ≠ 444 := fun h => h44 h i g1
    refine vx_out (E := "SpendHouse$Fault") (fun z hz => absurd (ht1 h7 h4 z hz) id) hlk hcell hv hcl (fun t ht hal => ⟨i, g1, rfl, rfl, by rw [ht]; exact g2, hS.F ht⟩) hS.2.2 g3 g4
theorem zFault_at {b : Nat} {oa : Nat → Nat} {D : va_G} {dA : Nat → ClassId} {H0 H : Heap} {S : zS} {s : State} (hK : va_K D zcls (ztys dA) s) (hH : zHp b (zad b oa) D dA H0 S H) {i : Nat} (ht : ztyp S i = 8) (hi : i < gN S) : ∃ ce : Cell, H[zad b oa i]? = some ce ∧ ce.vm = .none ∧ s.vm.findClass "SpendHouse$Fault" = some ce.cls := by
  have hat := zcell_of hH hi
  rw [zE1_o ht (by omega)] at hat
  obtain ⟨r', hr, cell, q1, q2, q3, -⟩ := hat
  have er : r' = (RX8, TX8, 2) := Option.some.inj (hr.symm.trans rfl)
  subst er
  obtain ⟨-, hfc, -⟩ := hK.1 8 _ hr
  exact ⟨cell, by rw [zad_lt (Nat.lt_trans hi hH.2.1)]; exact q1, q3, by rw [q2]; exact hfc⟩
set_option maxHeartbeats 2000000 in
theorem zsnd_all {l : Launch} (hl0 : l.stackTraces = false) {b : Nat} {oa : Nat → Nat} {D : va_G} {dA : Nat → ClassId} {H0 : Heap} : ∀ n, zSnd l b oa D dA H0 n := by
  intro n
  induction n with
  | zero => intro d me pc L st S x h; simp [zrun] at h
  | succ n ih =>
    intro d me pc L st S x h p e0 s m args below meth c H locs ls nE sE hF h44 hC hI hL hst hH hS hl hn hz
    have hend := zrun_inv _ _ _ _ _ _ _ _ h hI hL hst
    have hF0 := hF
    obtain ⟨hx, hb, hml, hown, hts, hnm, hlk, hrt, ht1, ht2⟩ := hF
    rw [zrun] at h
    cases hlk9 : zlk (ztab me) pc with
    | none => simp only [hlk9] at h; cases h
    | some e =>
      obtain ⟨rfl, hd, hk, hke⟩ := zrowE hlk9
      have hme := ztab_lt hlk9
      have hM := zchkM_ok me hme
      simp only [zchkM, Bool.and_eq_true, decide_eq_true_eq] at hM
      obtain ⟨⟨hrtB, hmax⟩, hMe⟩ := hM
      have hMe := List.all_eq_true.mp hMe e (zlk_mem _ hlk9).1
      simp only [Bool.and_eq_true] at hMe
      obtain ⟨hretB, hcalB⟩ := hMe
      have hke := zchkE_mono hke hnm
      have ho : zoc me < 32 := by
        have : ∀ t, t < 445 → zoc t < 32 := by decide +kernel
        exact this me hme
      simp only [hlk9] at h
      have hgS := hend.2.1.2.1
      have hzS := hend.2.1.2.2
      cases hc : zcop e L st S with
      | some q =>
        obtain ⟨cnd, pc', L', st', S'⟩ := q
        have step : (∀ c, cnd = some c → c) → zrun n d me pc' L' st' S' = some x → W p l e0 (zRm d (gN x.2 - nE) (gZ x.2 - sE)) s m args below meth c H locs (gN S - nE) (gZ S - sE) (vx_MQ below (zQc b oa D dA H0 x) (zXC b oa D dA H0 x) args s (gN x.2 - nE) (gZ x.2 - sE) (fun q => b ≤ q)) (F0 m e.1 ls (st.map (zcv (zad b oa)))) := by
          intro hcc hr
          obtain ⟨g1, g2, g3, g4⟩ := zcop_inv hk hke hc hcc hI hL hst
          have he := zrun_inv _ _ _ _ _ _ _ _ hr g1 g3 g4
          have a1 := he.2.1.2.1
          have a2 := he.2.1.2.2
          have a3 := g2.2.1
          have a4 := g2.2.2
          refine zcop_snd hx hl0 hb hd hk hke ho hown hts hC hI hL hst hH hS hml hl (by show 4 ≤ d + 4; omega) (by show 60 ≤ 40 * d + 100; omega) hc hcc hn hz (by show gN S' ≤ nE + (gN x.2 - nE); omega) (by show gZ S' ≤ sE + (gZ x.2 - sE); omega) (fun ls' H' locs' k1 k2 k3 => ?_)
          exact ih d me pc' L' st' S' x hr p e0 s m args below meth c H' locs' ls' nE sE hF0 h44 (hC.old g2.1) g1 g3 g4 k2 k3 k1 (Nat.le_trans hn a3) (Nat.le_trans hz a4)
        cases cnd with
        | none => simp only [hc] at h; exact step (fun c hc => by cases hc) h
        | some cd =>
          simp only [hc] at h
          by_cases hcc : cd
          · rw [if_pos hcc] at h; exact step (fun c hc => by cases hc; exact hcc) h
          · rw [if_neg hcc] at h; cases h
      | none =>
        simp only [hc] at h
        cases hbp : zbop e st with
        | some q =>
          have hs9 := hst.sub (zbop_sub hbp)
          refine zbop_snd hx hb hd hk hbp (fun hcc => ?_) (fun hcc => ?_)
          · obtain ⟨cd, st'⟩ := q
            simp only [hbp] at h
            rw [if_pos hcc] at h
            exact ih d me _ L st' S x h p e0 s m args below meth c H locs ls nE sE hF0 h44 hC hI hL hs9 hH hS hl hn hz
          · obtain ⟨cd, st'⟩ := q
            simp only [hbp] at h
            rw [if_neg hcc] at h
            exact ih d me _ L st' S x h p e0 s m args below meth c H locs ls nE sE hF0 h44 hC hI hL hs9 hH hS hl hn hz
        | none =>
          simp only [hbp] at h
          cases hzp : znop e st with
          | some q =>
            have hs9 := hst.sub (znop_sub hzp)
            refine znop_snd hx hb hd hk hzp ?_
            obtain ⟨bl, st'⟩ := q
            simp only [hzp] at h
            exact ih d me _ L st' S x h p e0 s m args below meth c H locs ls nE sE hF0 h44 hC hI hL hs9 hH hS hl hn hz
          | none =>
            simp only [hzp] at h
            cases hsp : zsop e st with
            | some q =>
              have hs9 := hst.sub (zsop_sub hsp)
              refine zsop_snd hx hb hd hk hsp ?_
              obtain ⟨kv, st'⟩ := q
              simp only [hsp] at h
              exact ih d me _ L st' S x h p e0 s m args below meth c H locs ls nE sE hF0 h44 hC hI hL hs9 hH hS hl hn hz
            | none =>
              simp only [hsp] at h
              cases hr : zret e st with
              | some v =>
                simp only [hr] at h
                have fin : x = (.returned v, S) ∧ ∀ c, zrg (zrk me) v = some c → c := by
                  cases hg : zrg (zrk me) v with
                  | none => simp only [hg] at h; cases h; exact ⟨rfl, fun c hc => by cases hc⟩
                  | some cd =>
                    simp only [hg] at h
                    by_cases hcc : cd
                    · rw [if_pos hcc] at h; cases h; exact ⟨rfl, fun c hc => by cases hc; exact hcc⟩
                    · rw [if_neg hcc] at h; cases h
                obtain ⟨rfl, hg⟩ := fin
                exact vx_ret (zret_snd hx hb hd hk hr hretB hrt hrtB hg hlk (fun t ht hW => ⟨⟨v, rfl, rfl⟩, by rw [ht]; exact hH, hS.F ht⟩) hS.2.2)
              | none =>
                simp only [hr] at h
                cases ht : zthr e st with
                | some q =>
                  simp only [ht] at h
                  by_cases h8 : ztyp S q = 8 ∧ q < gN S
                  · rw [if_pos h8] at h
                    obtain ⟨ce, f1, f2, f3⟩ := zFault_at (H0 := H0) hC.2.1 hH h8.1 h8.2
                    have hform : ∃ r, st = .ref q :: r ∧ e.2.1 = .athrow := by
                      unfold zthr at ht
                      split at ht
                      · rename_i hi; cases ht; exact ⟨_, rfl, hi⟩
                      · cases ht
                    obtain ⟨r, rfl, hi⟩ := hform
                    have hn1 : e.2.2.1 = 1 := by
                      unfold zck at hk
                      rw [hi] at hk
                      exact beq_iff_eq.mp hk
                    have hd' : decode (zcd me) e.1 = .ok (.athrow, 1) := by rw [hd, hi, hn1]
                    refine vx_athrow hx hb hd' ?_
                    cases hh : zhnd me e.1 with
                    | none => simp only [hh] at h; cases h
                    | some o =>
                      refine zthrow hF0 h44 hC.1 hh f1 f2 f3 hS (fun h9 ho9 => ?_) (fun ho9 => ?_)
                      · subst ho9
                        simp only [hh] at h
                        exact ih d me h9 L [.ref q] S x h p e0 s m args below meth c H locs ls nE sE hF0 h44 hC hI hL (zvs.cons (Or.inl h8.2) (fun v hv => by cases hv)) hH hS hl hn hz
                      · subst ho9
                        simp only [hh] at h
                        cases h
                        exact ⟨rfl, hH, Nat.le_refl _, Nat.le_refl _⟩
                  · rw [if_neg h8] at h; cases h
                | none =>
                  simp only [ht] at h
                  cases hcl : zcall e st with
                  | none => simp only [hcl] at h; cases h
                  | some q =>
                    obtain ⟨as, st'⟩ := q
                    obtain ⟨n9, ht9, hs8⟩ := zcall_take hcl
                    obtain ⟨ha9, hr9⟩ := ztake_sub _ _ _ _ _ ht9
                    have has : zvs S as := hst.sub (fun v hv => (ha9 v hv).resolve_left (by simp))
                    have hst' : zvs S st' := hst.sub hr9
                    cases d with
                    | zero => simp only [hcl] at h; cases h
                    | succ d1 =>
                      simp only [hcl] at h
                      cases hg : ztgt e as S with
                      | none => simp only [hg] at h; cases h
                      | some me' =>
                        simp only [hg] at h
                        cases hsm : decide (zsum as ≤ zmaxL me') with
                        | false => simp only [hsm] at h; cases h
                        | true =>
                        simp only [hsm] at h
                        have hsm := of_decide_eq_true hsm
                        cases hq : zrun n d1 me' 0 (zpad as (zmaxL me')) [] S with
                        | none => simp only [hq] at h; cases h
                        | some y =>
                          have hE := zrun_inv _ _ _ _ _ _ _ _ hq hI (has.pad _) (fun v hv => by cases hv)
                          obtain ⟨idx, op, C, hNM, -, hi, hn3, hmem, hrec, hlen, hrev⟩ := zcall_site hk hcalB hcl hg (zrun_lt hq)
                          have hMet := zmet (D := D) (dA := dA) (H0 := H0) (oa := oa) (b := b) ih hNM hq hI has hsm
                          have hsite := zSL_ok (zoc me) ho _ hmem
                          have hmax' : zmaxL me' ≤ 21 := by
                            have hM' := zchkM_ok me' (zrun_lt hq)
                            simp only [zchkM, Bool.and_eq_true, decide_eq_true_eq] at hM'
                            exact hM'.1.2
                          have hd' : decode (zcd me) e.1 = .ok (zsIns op idx, 3) := by rw [hd, hi, hn3]
                          have b1 := hE.2.1.2.1
                          have b2 := hE.2.1.2.2
                          -- the rest of the run, from the callee's end
                          have hye : gN y.2 ≤ gN x.2 ∧ gZ y.2 ≤ gZ x.2 := by
                            obtain ⟨o9, S'⟩ := y
                            simp only [hq] at h
                            cases o9 with
                            | returned v =>
                              simp only at h
                              have := zrun_inv _ _ _ _ _ _ _ _ h hE.1 (hL.mono hE.2.1.2.1) (zvs.app (fun w hw => hE.2.2.1 w (by rw [hw])) (hst'.mono hE.2.1.2.1))
                              exact this.2.1.2
                            | threw a =>
                              simp only at h
                              cases hh : zhnd me e.1 with
                              | none => simp only [hh] at h; cases h
                              | some o =>
                                cases o with
                                | none => simp only [hh] at h; cases h; exact ⟨Nat.le_refl _, Nat.le_refl _⟩
                                | some hd2 =>
                                  simp only [hh] at h
                                  have := zrun_inv _ _ _ _ _ _ _ _ h hE.1 (hL.mono hE.2.1.2.1) (zvs.cons (Or.inl (hE.2.2.2 a rfl)) (fun v hv => by cases hv))
                                  exact this.2.1.2
                          have hcat := zsum_cat (ad := zad b oa) st'
                          have hrun := hsite p l e0 (zRm (d1 + 1) (gN x.2 - nE) (gZ x.2 - sE)) s m args below meth c H locs (gN S - nE) (gZ S - sE) (zcd me) (zmaxL me) (gN y.2 - gN S) (gZ y.2 - gZ S) (zRm d1 (gN y.2 - gN S) (gZ y.2 - gZ S)) (zPc b oa D dA H0 as S) (zQc b oa D dA H0 y) (zXC b oa D dA H0 y) (fun q => b ≤ q)
                            (as.map (zcv (zad b oa))) (st'.map (zcv (zad b oa))) (F0 m e.1 ls (st.map (zcv (zad b oa)))) ⟨hx, hb, hml, hown, hts⟩ hC.1 hMet rfl rfl ⟨by show d1 + 4 + 1 ≤ d1 + 1 + 4; omega, by show 8 + (zmaxL me' + 11) + (40 * d1 + 100) ≤ 40 * (d1 + 1) + 100; omega⟩ zPc_blind
                            (fun U hU hW => ⟨rfl, hC.go hS hU hW, by rw [hU]; exact hH⟩)
                            (fun hk0 => by
                              obtain ⟨a, as', rfl, hty⟩ := hrec hk0
                              refine ⟨zad b oa a, as'.map (zcv (zad b oa)), rfl, fun hk1 => ?_⟩
                              obtain ⟨t1, t2⟩ := hty hk1
                              exact zrecv hC.2.1 hI.2.1 hC.2.2.2.2.2.2.1 hH (has _ List.mem_cons_self) t1 t2)
                            (by rw [List.length_map]; exact hlen) rfl hl.1 (by show st.map _ = _; rw [← hrev]; simp) (by show 2 * 0 + _ ≤ 8; omega) hd' ⟨by show gN S - nE + (gN y.2 - gN S) ≤ gN x.2 - nE; omega, by show gZ S - sE + (gZ y.2 - gZ S) ≤ gZ x.2 - sE; omega⟩
                          have eN : gN S - nE + (gN y.2 - gN S) = gN y.2 - nE := by omega
                          have eZ : gZ S - sE + (gZ y.2 - gZ S) = gZ y.2 - sE := by omega
                          refine zcont hrun hS (fun i ce H1 locs1 hy1 hH1 hS1 hce hcv hcl9 => ?_) (fun v H1 locs1 hy1 hH1 hS1 => ?_)
                          · rw [eN, eZ]
                            obtain ⟨o9, S'⟩ := y
                            simp only at hy1
                            subst hy1
                            simp only [hq] at h
                            cases hh : zhnd me e.1 with
                            | none => simp only [hh] at h; cases h
                            | some o =>
                              refine zthrow hF0 h44 hC.1 hh hce hcv hcl9 hS1 (fun h9 ho9 => ?_) (fun ho9 => ?_)
                              · subst ho9
                                simp only [hh] at h
                                exact ih (d1 + 1) me h9 L [.ref i] S' x h p e0 s m args below meth c H1 locs1 ls nE sE hF0 h44 (hC.old hE.2.1.1) hE.1 (hL.mono hE.2.1.2.1) (zvs.cons (Or.inl (hE.2.2.2 i rfl)) (fun v hv => by cases hv)) hH1 hS1 hl (Nat.le_trans hn b1) (Nat.le_trans hz b2)
                              · subst ho9
                                simp only [hh] at h
                                cases h
                                exact ⟨rfl, hH1, Nat.le_refl _, Nat.le_refl _⟩
                          · rw [eN, eZ]
                            obtain ⟨o9, S'⟩ := y
                            simp only at hy1
                            subst hy1
                            simp only [hq] at h
                            have := ih (d1 + 1) me (e.1 + 3) L (v.toList ++ st') S' x h p e0 s m args below meth c H1 locs1 ls nE sE hF0 h44 (hC.old hE.2.1.1) hE.1 (hL.mono hE.2.1.2.1) (zvs.app (fun w hw => hE.2.2.1 w (by rw [hw])) (hst'.mono hE.2.1.2.1)) hH1 hS1 hl (Nat.le_trans hn b1) (Nat.le_trans hz b2)
                            have ev : (v.toList ++ st').map (zcv (zad b oa)) = (v.map (zcv (zad b oa))).toList ++ st'.map (zcv (zad b oa)) := by cases v <;> simp
                            rw [ev] at this
                            exact this
