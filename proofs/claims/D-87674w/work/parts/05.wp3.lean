theorem zgl_cop {T : Bool} {e : zE} {L st : List Value} {S : zS} {c : Option Prop} {k : Bool} {v : Option Nat} {r : List Value} (h : zgl T e st S = some (c, k, v, r)) (hF : zFin T S) : zcop e L st S = some (c, e.1 + e.2.2.1, L, zrf v :: r, S) ∧ (k = true → c = none) := by
  obtain ⟨pc, i, n, w, a0, l, vt⟩ := e
  unfold zgl at h
  split at h
  · rename_i x1 ix a r0 hi
    simp only at hi h
    subst hi
    have hz0 : zcop (pc, Instr.getfield ix, n, w, a0, l, vt) L (Value.ref a :: r0) S = zfld (pc, Instr.getfield ix, n, w, a0, l, vt) (pc + n) L (Value.ref a :: r0) S := rfl
    rw [hz0]
    unfold zfld
    simp only
    split at h
    · rename_i hk
      split at h
      · rename_i i0 q hz
        split at h
        · rename_i ho hb hT
          cases h
          simp only [ho, hk]
          have ha : a = i0 := Nat.eq_of_beq_eq_true hb
          subst ha
          have := (hF _ (zfin_in hz) hT).1
          simp only at this
          rw [this]
          exact ⟨rfl, fun _ => by first | trivial | rfl⟩
        · cases h
      · split at h
        · rename_i ho
          cases h
          simp only [ho, hk]
          exact ⟨rfl, fun h => by cases h⟩
        · cases h
        · rename_i ho
          cases h
          simp only [ho, hk]
          exact ⟨rfl, fun h => by cases h⟩
    · cases h
  · rename_i x1 i0 a r0 hi
    simp only at hi h
    subst hi
    cases h
    exact ⟨rfl, fun h => by cases h⟩
  · cases h
theorem zswp_pick {W : Nat → Prop} {k : Int32} : ∀ (l : List (Int32 × Nat)) (df : Nat), zswp W k l df → W (zpick l k df) := by
  intro l
  induction l with
  | nil => exact fun df h => h
  | cons q l ih =>
    obtain ⟨c, t⟩ := q
    intro df h
    unfold zpick
    by_cases hk : k = c
    · rw [if_pos hk]; exact h.1 hk
    · rw [if_neg hk]; exact ih df (h.2 hk)
theorem zEv.step {d me pc : Nat} {L st : List Value} {S : zS} {post : Outcome × zS → Prop} {e : zE} (hl : zlk (ztab me) pc = some e) {pc' : Nat} {L' st' : List Value} {S' : zS} (hc : zcop e L st S = some (none, pc', L', st', S')) (h : zEv d me pc' L' st' S' post) : zEv d me pc L st S post := by
  obtain ⟨n, x, h1, h2⟩ := h
  refine ⟨n + 1, x, ?_, h2⟩
  rw [zrun]
  simp only [hl, hc]
  exact h1
theorem zEv.stepC {d me pc : Nat} {L st : List Value} {S : zS} {post : Outcome × zS → Prop} {e : zE} (hl : zlk (ztab me) pc = some e) {c : Prop} {pc' : Nat} {L' st' : List Value} {S' : zS} (hc : zcop e L st S = some (some c, pc', L', st', S')) (hcc : c) (h : zEv d me pc' L' st' S' post) : zEv d me pc L st S post := by
  obtain ⟨n, x, h1, h2⟩ := h
  refine ⟨n + 1, x, ?_, h2⟩
  rw [zrun]
  simp only [hl, hc]
  rw [if_pos hcc]
  exact h1
theorem zwp_ok {T : Bool} {tb : List (Nat × List zE)} {cut : List Nat} {me d : Nat} {post : Outcome × zS → Prop} (ht : ztab me = tb) : ∀ (n pc : Nat) (L st : List Value) (S : zS), zFin T S → zwp T tb cut me d post n pc L st S → zEv d me pc L st S post := by
  intro n
  induction n with
  | zero => exact fun pc L st S _ h => h
  | succ n ih =>
    intro pc L st S hF h
    rw [zwp] at h
    split at h
    · exact h
    · split at h
      · exact h.elim
      · rename_i e hl
        rw [← ht] at hl
        split at h
        · rename_i c v r hg
          obtain ⟨h1, h2⟩ := zgl_cop (L := L) hg hF
          rw [h2 rfl] at h1
          exact zEv.step hl h1 (ih _ _ _ _ hF h)
        · rename_i v r hg
          obtain ⟨q, rfl, h⟩ := h
          exact zEv.step hl (zgl_cop hg hF).1 (ih _ _ _ _ hF h)
        · rename_i c v r hg
          obtain ⟨hc, q, rfl, h⟩ := h
          exact zEv.stepC hl (zgl_cop hg hF).1 hc (ih _ _ _ _ hF h)
        · split at h
          · rename_i pc' L' st' S' hc
            exact zEv.step hl hc (ih _ _ _ _ (zcop_fin hc hF).1 h)
          · rename_i c pc' L' st' S' hc
            exact zEv.stepC hl hc h.1 (ih _ _ _ _ (zcop_fin hc hF).1 h.2)
          · rename_i hc
            split at h
            · rename_i c st' hb
              by_cases hcc : c
              · obtain ⟨n, x, h1, h2⟩ := ih _ _ _ _ hF (h.1 hcc)
                refine ⟨n + 1, x, ?_, h2⟩
                rw [zrun]
                simp only [hl, hc, hb]
                rw [if_pos hcc]
                exact h1
              · obtain ⟨n, x, h1, h2⟩ := ih _ _ _ _ hF (h.2 hcc)
                refine ⟨n + 1, x, ?_, h2⟩
                rw [zrun]
                simp only [hl, hc, hb]
                rw [if_neg hcc]
                exact h1
            · rename_i hb
              split at h
              · rename_i st' hz
                obtain ⟨n, x, h1, h2⟩ := ih _ _ _ _ hF h
                refine ⟨n + 1, x, ?_, h2⟩
                rw [zrun]
                simp only [hl, hc, hb, hz]
                exact h1
              · rename_i st' hz
                obtain ⟨n, x, h1, h2⟩ := ih _ _ _ _ hF h
                refine ⟨n + 1, x, ?_, h2⟩
                rw [zrun]
                simp only [hl, hc, hb, hz]
                exact h1
              · rename_i hz
                split at h
                · rename_i k st' hs
                  obtain ⟨n, x, h1, h2⟩ := ih _ _ _ _ hF (zswp_pick (W := fun pc' => zwp T tb cut me d post n pc' L st' S) _ _ h)
                  refine ⟨n + 1, x, ?_, h2⟩
                  rw [zrun]
                  simp only [hl, hc, hb, hz, hs]
                  exact h1
                · rename_i hs
                  split at h
                  · rename_i v hr
                    split at h
                    · rename_i hrg
                      refine ⟨1, _, ?_, h⟩
                      rw [zrun]
                      simp only [hl, hc, hb, hz, hs, hr, hrg]
                    · rename_i c9 hrg
                      refine ⟨1, _, ?_, h.2⟩
                      rw [zrun]
                      simp only [hl, hc, hb, hz, hs, hr, hrg]
                      rw [if_pos h.1]
                  · rename_i hr
                    split at h
                    · rename_i q hth
                      obtain ⟨h8, h⟩ := h
                      split at h
                      · rename_i h0 hh
                        obtain ⟨n, x, h1, h2⟩ := ih _ _ _ _ hF h
                        refine ⟨n + 1, x, ?_, h2⟩
                        rw [zrun]
                        simp only [hl, hc, hb, hz, hs, hr, hth]
                        rw [if_pos h8]
                        simp only [hh]
                        exact h1
                      · rename_i hh
                        refine ⟨1, _, ?_, h⟩
                        rw [zrun]
                        simp only [hl, hc, hb, hz, hs, hr, hth]
                        rw [if_pos h8]
                        simp only [hh]
                      · exact h.elim
                    · rename_i hth
                      split at h
                      · rename_i as st' hk
                        obtain ⟨me', hg, ⟨hd, hsm⟩, n1, ⟨o, S'⟩, h1, h2⟩ := h
                        obtain ⟨d1, rfl⟩ : ∃ d1, d = d1 + 1 := ⟨d - 1, by omega⟩
                        have hF' := zrun_fin _ _ _ _ _ _ _ _ h1 hF
                        have h1' : zrun n1 d1 me' 0 (zpad as (zmaxL me')) [] S = some (o, S') := h1
                        cases o with
                        | returned v =>
                          obtain ⟨n2, x, h3, h4⟩ := ih _ _ _ _ hF' h2
                          refine ⟨max n1 n2 + 1, x, ?_, h4⟩
                          rw [zrun]
                          simp only [hl, hc, hb, hz, hs, hr, hth, hk, hg, decide_eq_true hsm]
                          rw [zrun_mono _ _ _ _ _ _ _ _ h1' (max n1 n2) d1 (Nat.le_max_left _ _) (Nat.le_refl _)]
                          simp only
                          exact zrun_mono _ _ _ _ _ _ _ _ h3 _ _ (Nat.le_max_right _ _) (Nat.le_refl _)
                        | threw q =>
                          simp only at h2
                          split at h2
                          · rename_i h0 hh
                            obtain ⟨n2, x, h3, h4⟩ := ih _ _ _ _ hF' h2
                            refine ⟨max n1 n2 + 1, x, ?_, h4⟩
                            rw [zrun]
                            simp only [hl, hc, hb, hz, hs, hr, hth, hk, hg, decide_eq_true hsm]
                            rw [zrun_mono _ _ _ _ _ _ _ _ h1' (max n1 n2) d1 (Nat.le_max_left _ _) (Nat.le_refl _)]
                            simp only [hh]
                            exact zrun_mono _ _ _ _ _ _ _ _ h3 _ _ (Nat.le_max_right _ _) (Nat.le_refl _)
                          · rename_i hh
                            refine ⟨n1 + 1, _, ?_, h2⟩
                            rw [zrun]
                            simp only [hl, hc, hb, hz, hs, hr, hth, hk, hg, decide_eq_true hsm]
                            rw [h1']
                            simp only [hh]
                          · exact h2.elim
                      · exact h.elim
/-- a method by the symbolic runner -/
theorem zcall_wp {T : Bool} {me d : Nat} {as : List Value} {S : zS} {post : Outcome × zS → Prop} (tb : List (Nat × List zE)) (cut : List Nat) (n : Nat) (L : List Value) (hF : zFin T S) (ht : ztab me = tb) (hL : zpad as (zmaxL me) = L) (h : zwp T tb cut me d post n 0 L [] S) : zCall d me as S post := by
  unfold zCall
  rw [hL]
  exact zwp_ok ht n 0 L [] S hF h
/-- from a place on -/
theorem zev_wp {T : Bool} {me d pc : Nat} {L st : List Value} {S : zS} {post : Outcome × zS → Prop} (tb : List (Nat × List zE)) (cut : List Nat) (n : Nat) (hF : zFin T S) (ht : ztab me = tb) (h : zwp T tb cut me d post n pc L st S) : zEv d me pc L st S post := zwp_ok ht n pc L st S hF h
/-- one step, then the runner (from a place that is itself a cut) -/
theorem zCall.mono {d me : Nat} {as : List Value} {S : zS} {p q : Outcome × zS → Prop} (h : zCall d me as S p) (hq : ∀ x, p x → q x) : zCall d me as S q := zEv.mono h hq
