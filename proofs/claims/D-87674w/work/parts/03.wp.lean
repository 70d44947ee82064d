/-! ===== evaluation ===== -/
def zEv (d me pc : Nat) (L st : List Value) (S : zS) (post : Outcome × zS → Prop) : Prop := ∃ n x, zrun n d me pc L st S = some x ∧ post x
def zCall (d me : Nat) (as : List Value) (S : zS) (post : Outcome × zS → Prop) : Prop := zEv d me 0 (zpad as (zmaxL me)) [] S post
theorem zrun_mono : ∀ (n d me pc : Nat) (L st : List Value) (S : zS) (x : Outcome × zS), zrun n d me pc L st S = some x → ∀ n' d', n ≤ n' → d ≤ d' → zrun n' d' me pc L st S = some x := by
  intro n
  induction n with
  | zero => intro d me pc L st S x h; simp [zrun] at h
  | succ n ih =>
    intro d me pc L st S x h n' d' hn hd
    obtain ⟨m, rfl⟩ : ∃ m, n' = m + 1 := ⟨n' - 1, by omega⟩
    have hm : n ≤ m := by omega
    rw [zrun] at h ⊢
    cases hl : zlk (ztab me) pc with
    | none => simp only [hl] at h; cases h
    | some e =>
      simp only [hl] at h ⊢
      cases hc : zcop e L st S with
      | some q =>
        obtain ⟨c, pc', L', st', S'⟩ := q
        cases c with
        | none => simp only [hc] at h ⊢; exact ih _ _ _ _ _ _ _ h _ _ hm hd
        | some c =>
          simp only [hc] at h ⊢
          by_cases hcc : c
          · rw [if_pos hcc] at h ⊢; exact ih _ _ _ _ _ _ _ h _ _ hm hd
          · rw [if_neg hcc] at h; cases h
      | none =>
        simp only [hc] at h ⊢
        cases hb : zbop e st with
        | some q =>
          obtain ⟨c, st'⟩ := q
          simp only [hb] at h ⊢
          by_cases hcc : c
          · rw [if_pos hcc] at h ⊢; exact ih _ _ _ _ _ _ _ h _ _ hm hd
          · rw [if_neg hcc] at h ⊢; exact ih _ _ _ _ _ _ _ h _ _ hm hd
        | none =>
          simp only [hb] at h ⊢
          cases hz : znop e st with
          | some q => obtain ⟨b, st'⟩ := q; simp only [hz] at h ⊢; exact ih _ _ _ _ _ _ _ h _ _ hm hd
          | none =>
            simp only [hz] at h ⊢
            cases hs : zsop e st with
            | some q => obtain ⟨k, st'⟩ := q; simp only [hs] at h ⊢; exact ih _ _ _ _ _ _ _ h _ _ hm hd
            | none =>
              simp only [hs] at h ⊢
              cases hr : zret e st with
              | some v =>
                simp only [hr] at h ⊢
                cases hg : zrg (zrk me) v with
                | none => simp only [hg] at h ⊢; exact h
                | some c => simp only [hg] at h ⊢; exact h
              | none =>
                simp only [hr] at h ⊢
                cases ht : zthr e st with
                | some q =>
                  simp only [ht] at h ⊢
                  by_cases h8 : ztyp S q = 8 ∧ q < gN S
                  · rw [if_pos h8] at h ⊢
                    cases hh : zhnd me pc with
                    | none => simp only [hh] at h; cases h
                    | some o =>
                      cases o with
                      | none => simp only [hh] at h ⊢; exact h
                      | some hd2 => simp only [hh] at h ⊢; exact ih _ _ _ _ _ _ _ h _ _ hm hd
                  · rw [if_neg h8] at h; cases h
                | none =>
                  simp only [ht] at h ⊢
                  cases hk : zcall e st with
                  | none => simp only [hk] at h; cases h
                  | some q =>
                    obtain ⟨as, st'⟩ := q
                    cases d with
                    | zero => simp only [hk] at h; cases h
                    | succ d1 =>
                      obtain ⟨d2, rfl⟩ : ∃ d2, d' = d2 + 1 := ⟨d' - 1, by omega⟩
                      simp only [hk] at h ⊢
                      cases hg : ztgt e as S with
                      | none => simp only [hg] at h; cases h
                      | some me' =>
                        simp only [hg] at h ⊢
                        cases hsm : decide (zsum as ≤ zmaxL me') with
                        | false => simp only [hsm] at h; cases h
                        | true =>
                        simp only [hsm] at h ⊢
                        cases hq : zrun n d1 me' 0 (zpad as (zmaxL me')) [] S with
                        | none => simp only [hq] at h; cases h
                        | some y =>
                          obtain ⟨o, S'⟩ := y
                          rw [ih _ _ _ _ _ _ _ hq m d2 hm (by omega)]
                          simp only [hq] at h
                          cases o with
                          | returned v => simp only at h ⊢; exact ih _ _ _ _ _ _ _ h _ _ hm hd
                          | threw a =>
                            simp only at h ⊢
                            cases hh : zhnd me pc with
                            | none => simp only [hh] at h; cases h
                            | some o =>
                              cases o with
                              | none => simp only [hh] at h ⊢; exact h
                              | some hd2 => simp only [hh] at h ⊢; exact ih _ _ _ _ _ _ _ h _ _ hm hd
theorem zEv.mono {d me pc : Nat} {L st : List Value} {S : zS} {p q : Outcome × zS → Prop} (h : zEv d me pc L st S p) (hq : ∀ x, p x → q x) : zEv d me pc L st S q := by
  obtain ⟨n, x, h1, h2⟩ := h
  exact ⟨n, x, h1, hq x h2⟩
theorem zEv.deep {d d' me pc : Nat} {L st : List Value} {S : zS} {p : Outcome × zS → Prop} (h : zEv d me pc L st S p) (hd : d ≤ d') : zEv d' me pc L st S p := by
  obtain ⟨n, x, h1, h2⟩ := h
  exact ⟨n, x, zrun_mono _ _ _ _ _ _ _ _ h1 _ _ (Nat.le_refl _) hd, h2⟩
/-! ===== the final references of the classes of one object ===== -/
def zFin (T : Bool) (S : zS) : Prop := ∀ q ∈ zfinL, (T || Nat.beq q.2.1 1) = true → gP S q.1 q.2.1 = some q.2.2 ∧ q.2.1 < gN S
theorem zFin.of {T : Bool} {S : zS} {S' : zS} (h : zFin T S) (hP : ∀ f a, a < gN S → gP S' f a = gP S f a) (hN : gN S ≤ gN S') : zFin T S' := fun q hq hT => ⟨by rw [hP _ _ (h q hq hT).2]; exact (h q hq hT).1, Nat.lt_of_lt_of_le (h q hq hT).2 hN⟩
theorem zFin.put {T : Bool} {S : zS} (h : zFin T S) {f a : Nat} {v : Option Nat} (hv : ∀ i r, zfin f = some (i, r) → a = i ∧ v = some r) (hf : zfin f = none → ∀ q ∈ zfinL, q.1 = f → False) : zFin T (sP S f a v) := by
  intro q hq hT
  obtain ⟨h1, h2⟩ := h q hq hT
  refine ⟨?_, h2⟩
  show zu S.2.1 f a v q.1 q.2.1 = _
  unfold zu
  by_cases e1 : q.1 = f
  · rw [if_pos e1]
    by_cases e2 : q.2.1 = a
    · rw [if_pos e2]
      cases hz : zfin f with
      | none => exact (hf hz q hq e1).elim
      | some p =>
        have e3 := zfinL_in q hq
        rw [e1, hz] at e3
        have e4 := hv p.1 p.2 hz
        rw [e4.2]
        cases e3
        rfl
    · rw [if_neg e2]; exact h1
  · rw [if_neg e1]; exact h1
