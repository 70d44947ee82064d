/-! ===== what a step does to the state ===== -/
theorem zld_S {e : zE} {nx : Nat} {L st : List Value} {S : zS} {q} (h : zld e nx L st S = some q) : q.2.2.2.2 = S := by
  unfold zld at h
  repeat' split at h
  all_goals first | (cases h; done) | (have h2 := Option.some.inj h; rw [← h2])
theorem zstr_S {e : zE} {nx : Nat} {L st : List Value} {S : zS} {q} (h : zstr e nx L st S = some q) : q.2.2.2.2 = S := by
  unfold zstr at h
  repeat' split at h
  all_goals first | (cases h; done) | (have h2 := Option.some.inj h; rw [← h2])
theorem zint_S {e : zE} {nx : Nat} {L st : List Value} {S : zS} {q} (h : zint e nx L st S = some q) : q.2.2.2.2 = S := by
  unfold zint at h
  repeat' split at h
  all_goals first | (cases h; done) | (have h2 := Option.some.inj h; rw [← h2])
theorem zlng_S {e : zE} {nx : Nat} {L st : List Value} {S : zS} {q} (h : zlng e nx L st S = some q) : q.2.2.2.2 = S := by
  unfold zlng at h
  repeat' split at h
  all_goals first | (cases h; done) | (have h2 := Option.some.inj h; rw [← h2])
theorem zstk_S {e : zE} {nx : Nat} {L st : List Value} {S : zS} {q} (h : zstk e nx L st S = some q) : q.2.2.2.2 = S := by
  unfold zstk at h
  repeat' split at h
  all_goals first | (cases h; done) | (have h2 := Option.some.inj h; rw [← h2])
theorem zacm_S {e : zE} {nx : Nat} {L st : List Value} {S : zS} {q} (h : zacm e nx L st S = some q) : q.2.2.2.2 = S := by
  unfold zacm at h
  repeat' split at h
  all_goals first | (cases h; done) | (have h2 := Option.some.inj h; rw [← h2])
/-- cells are only added; a reference field of an old cell stays -/
def zKeep (S S' : zS) : Prop := (∀ f a, a < gN S → gP S' f a = gP S f a) ∧ gN S ≤ gN S'
theorem zKeep.rf (S : zS) : zKeep S S := ⟨fun _ _ _ => rfl, Nat.le_refl _⟩
theorem zKeep.sNew (S : zS) (ty len sl : Nat) : zKeep S (sNew S ty len sl) := ⟨fun f a h => by show (if a = gN S then none else S.2.1 f a) = _; rw [if_neg (Nat.ne_of_lt h)]; rfl, Nat.le_succ _⟩
theorem zKeep.trans {S S' S'' : zS} (h : zKeep S S') (h' : zKeep S' S'') : zKeep S S'' := ⟨fun f a ha => (h'.1 f a (Nat.lt_of_lt_of_le ha h.2)).trans (h.1 f a ha), Nat.le_trans h.2 h'.2⟩
theorem zKeep.zmrow (o k : Nat) : ∀ (n i : Nat) (S : zS), zKeep S (zmrow o k n i S) := by
  intro n
  induction n with
  | zero => exact fun i S => zKeep.rf S
  | succ n ih => exact fun i S => ((zKeep.sNew S 101 k k).trans ⟨fun _ _ _ => rfl, Nat.le_refl _⟩).trans (ih (i + 1) (sQ (_root_.Jvm.Pilot.@@N@@.sNew S 101 k k) o i (some (gN S))))
theorem zarr_S {e : zE} {nx : Nat} {L st : List Value} {S : zS} {q} (h : zarr e nx L st S = some q) : zKeep S q.2.2.2.2 := by
  unfold zarr at h
  repeat' split at h
  all_goals first | (cases h; done) | (have h2 := Option.some.inj h; rw [← h2]; first | exact zKeep.rf S | exact ⟨fun _ _ _ => rfl, Nat.le_refl _⟩ | exact zKeep.sNew S _ _ _)
theorem zmul_S {e : zE} {nx : Nat} {L st : List Value} {S : zS} {q} (h : zmul e nx L st S = some q) : zKeep S q.2.2.2.2 := by
  unfold zmul at h
  repeat' split at h
  all_goals first | (cases h; done) | (have h2 := Option.some.inj h; rw [← h2]; exact (zKeep.sNew S _ _ _).trans (zKeep.zmrow _ _ _ _ _))
theorem zfld_S {e : zE} {nx : Nat} {L st : List Value} {S : zS} {q} (h : zfld e nx L st S = some q) : zKeep S q.2.2.2.2 ∨ ∃ f a v, q.2.2.2.2 = sP S f a v ∧ (∀ i r, zfin f = some (i, r) → a = i ∧ v = some r) := by
  unfold zfld at h
  repeat' split at h
  all_goals first
    | (cases h; done)
    | (have h2 := Option.some.inj h; rw [← h2]; first | exact Or.inl (zKeep.rf S) | exact Or.inl ⟨fun _ _ _ => rfl, Nat.le_refl _⟩ | exact Or.inl (zKeep.sNew S _ _ _) | exact Or.inr ⟨_, _, _, rfl, fun i r hz => by simp_all⟩)
theorem zcln_S {e : zE} {nx : Nat} {L st : List Value} {S : zS} {q} (h : zcln e nx L st S = some q) : zKeep S q.2.2.2.2 := by
  unfold zcln at h
  repeat' split at h
  all_goals first | (cases h; done) | (have h2 := Option.some.inj h; rw [← h2]; exact (zKeep.sNew S _ _ _).trans ⟨fun _ _ _ => rfl, Nat.le_refl _⟩)
theorem zcop_S {e : zE} {L st : List Value} {S : zS} {q} (h : zcop e L st S = some q) : zKeep S q.2.2.2.2 ∨ ∃ f a v, q.2.2.2.2 = sP S f a v ∧ (∀ i r, zfin f = some (i, r) → a = i ∧ v = some r) := by
  unfold zcop at h
  split at h
  all_goals first
    | (cases h; done)
    | exact Or.inl (by rw [zld_S h]; exact zKeep.rf S)
    | exact Or.inl (by rw [zstr_S h]; exact zKeep.rf S)
    | exact Or.inl (by rw [zint_S h]; exact zKeep.rf S)
    | exact Or.inl (by rw [zlng_S h]; exact zKeep.rf S)
    | exact Or.inl (by rw [zstk_S h]; exact zKeep.rf S)
    | exact Or.inl (zarr_S h)
    | exact zfld_S h
    | exact Or.inl (zmul_S h)
    | exact Or.inl (by rw [zacm_S h]; exact zKeep.rf S)
    | exact Or.inl (zcln_S h)
theorem zfin_no {f : Nat} (h : zfin f = none) : ∀ q ∈ zfinL, q.1 = f → False := fun q hq e => by
  have h1 := zfinL_in q hq
  rw [e, h] at h1
  cases h1
theorem zcop_fin {T : Bool} {e : zE} {L st : List Value} {S : zS} {q} (h : zcop e L st S = some q) (hF : zFin T S) : zFin T q.2.2.2.2 ∧ gN S ≤ gN q.2.2.2.2 := by
  rcases zcop_S h with h1 | ⟨f, a, v, h1, h2⟩
  · exact ⟨hF.of h1.1 h1.2, h1.2⟩
  · rw [h1]; exact ⟨hF.put h2 zfin_no, Nat.le_refl _⟩
theorem zrun_fin {T : Bool} : ∀ (n d me pc : Nat) (L st : List Value) (S : zS) (x : Outcome × zS), zrun n d me pc L st S = some x → zFin T S → zFin T x.2 := by
  intro n
  induction n with
  | zero => intro d me pc L st S x h; simp [zrun] at h
  | succ n ih =>
    intro d me pc L st S x h hF
    rw [zrun] at h
    cases hl : zlk (ztab me) pc with
    | none => simp only [hl] at h; cases h
    | some e =>
      simp only [hl] at h
      cases hc : zcop e L st S with
      | some q =>
        have hF' := (zcop_fin hc hF).1
        obtain ⟨c, pc', L', st', S'⟩ := q
        cases c with
        | none => simp only [hc] at h; exact ih _ _ _ _ _ _ _ h hF'
        | some c =>
          simp only [hc] at h
          by_cases hcc : c
          · rw [if_pos hcc] at h; exact ih _ _ _ _ _ _ _ h hF'
          · rw [if_neg hcc] at h; cases h
      | none =>
        simp only [hc] at h
        cases hb : zbop e st with
        | some q =>
          obtain ⟨c, st'⟩ := q
          simp only [hb] at h
          by_cases hcc : c
          · rw [if_pos hcc] at h; exact ih _ _ _ _ _ _ _ h hF
          · rw [if_neg hcc] at h; exact ih _ _ _ _ _ _ _ h hF
        | none =>
          simp only [hb] at h
          cases hz : znop e st with
          | some q => obtain ⟨b, st'⟩ := q; simp only [hz] at h; exact ih _ _ _ _ _ _ _ h hF
          | none =>
            simp only [hz] at h
            cases hs : zsop e st with
            | some q => obtain ⟨k, st'⟩ := q; simp only [hs] at h; exact ih _ _ _ _ _ _ _ h hF
            | none =>
              simp only [hs] at h
              cases hr : zret e st with
              | some v =>
                simp only [hr] at h
                cases hg : zrg (zrk me) v with
                | none => simp only [hg] at h; cases h; exact hF
                | some c =>
                  simp only [hg] at h
                  by_cases hcc : c
                  · rw [if_pos hcc] at h; cases h; exact hF
                  · rw [if_neg hcc] at h; cases h
              | none =>
                simp only [hr] at h
                cases ht : zthr e st with
                | some q =>
                  simp only [ht] at h
                  by_cases h8 : ztyp S q = 8 ∧ q < gN S
                  · rw [if_pos h8] at h
                    cases hh : zhnd me pc with
                    | none => simp only [hh] at h; cases h
                    | some o =>
                      cases o with
                      | none => simp only [hh] at h; cases h; exact hF
                      | some hd2 => simp only [hh] at h; exact ih _ _ _ _ _ _ _ h hF
                  · rw [if_neg h8] at h; cases h
                | none =>
                  simp only [ht] at h
                  cases hk : zcall e st with
                  | none => simp only [hk] at h; cases h
                  | some q =>
                    obtain ⟨as, st'⟩ := q
                    cases d with
                    | zero => simp only [hk] at h; cases h
                    | succ d1 =>
                      simp only [hk] at h
                      cases hg : ztgt e as S with
                      | none => simp only [hg] at h; cases h
                      | some me' =>
                        simp only [hg] at h
                        cases hsm : decide (zsum as ≤ zmaxL me') with
                        | false => simp only [hsm] at h; cases h
                        | true =>
                        simp only [hsm] at h
                        cases hq : zrun n d1 me' 0 (zpad as (zmaxL me')) [] S with
                        | none => simp only [hq] at h; cases h
                        | some y =>
                          have hF' := ih _ _ _ _ _ _ _ hq hF
                          obtain ⟨o, S'⟩ := y
                          simp only [hq] at h
                          cases o with
                          | returned v => simp only at h; exact ih _ _ _ _ _ _ _ h hF'
                          | threw a =>
                            simp only at h
                            cases hh : zhnd me pc with
                            | none => simp only [hh] at h; cases h
                            | some o =>
                              cases o with
                              | none => simp only [hh] at h; cases h; exact hF'
                              | some hd2 => simp only [hh] at h; exact ih _ _ _ _ _ _ _ h hF'
/-! ===== the symbolic runner ===== -/
/-- a load of a reference: condition, is it known by the tables, the value, the stack behind -/
def zgl (T : Bool) (e : zE) (st : List Value) (S : zS) : Option (Option Prop × Bool × Option Nat × List Value) := match e.2.1, st with
  | .getfield _, .ref a :: r => match zfk e.2.2.2.2.1 with
    | 4 => match zfin e.2.2.2.2.1 with
      | some (i, q) => match zown e.2.2.2.2.2.2 a, Nat.beq a i, (T || Nat.beq i 1) with
        | some true, true, true => some (none, true, some q, r)
        | _, _, _ => none
      | none => match zown e.2.2.2.2.2.2 a with
        | some true => some (none, false, gP S e.2.2.2.2.1 a, r)
        | some false => none
        | none => some (some (zhas (ztyp S a) e.2.2.2.2.1 = true), false, gP S e.2.2.2.2.1 a, r)
    | _ => none
  | .aaload, .int i :: .ref a :: r => some (some ((110 ≤ ztyp S a ∧ ztyp S a ≤ 114) ∧ vp_in i (zlen S a)), false, gQ S a i.toNatClampNeg, r)
  | _, _ => none
def zswp (W : Nat → Prop) (k : Int32) : List (Int32 × Nat) → Nat → Prop
  | [], df => W df
  | (c, t) :: l, df => (k = c → W t) ∧ (¬ k = c → zswp W k l df)
def zwp (T : Bool) (tb : List (Nat × List zE)) (cut : List Nat) (me d : Nat) (post : Outcome × zS → Prop) : Nat → Nat → List Value → List Value → zS → Prop
  | 0, pc, L, st, S => zEv d me pc L st S post
  | n + 1, pc, L, st, S => match cut.contains pc with
    | true => zEv d me pc L st S post
    | false => match zlk tb pc with
      | none => False
      | some e => match zgl T e st S with
        | some (_, true, v, r) => zwp T tb cut me d post n (e.1 + e.2.2.1) L (zrf v :: r) S
        | some (none, false, v, r) => ∃ q, v = q ∧ zwp T tb cut me d post n (e.1 + e.2.2.1) L (zrf q :: r) S
        | some (some c, false, v, r) => c ∧ ∃ q, v = q ∧ zwp T tb cut me d post n (e.1 + e.2.2.1) L (zrf q :: r) S
        | none => match zcop e L st S with
          | some (none, pc', L', st', S') => zwp T tb cut me d post n pc' L' st' S'
          | some (some c, pc', L', st', S') => c ∧ zwp T tb cut me d post n pc' L' st' S'
          | none => match zbop e st with
            | some (c, st') => (c → zwp T tb cut me d post n e.2.2.2.2.1 L st' S) ∧ (¬ c → zwp T tb cut me d post n (pc + e.2.2.1) L st' S)
            | none => match znop e st with
              | some (true, st') => zwp T tb cut me d post n e.2.2.2.2.1 L st' S
              | some (false, st') => zwp T tb cut me d post n (pc + e.2.2.1) L st' S
              | none => match zsop e st with
                | some (k, st') => zswp (fun pc' => zwp T tb cut me d post n pc' L st' S) k e.2.2.2.2.2.1 e.2.2.2.2.1
                | none => match zret e st with
                  | some v => match zrg (zrk me) v with
                    | none => post (.returned v, S)
                    | some c => c ∧ post (.returned v, S)
                  | none => match zthr e st with
                    | some q => (ztyp S q = 8 ∧ q < gN S) ∧ (match zhnd me pc with
                      | some (some h) => zwp T tb cut me d post n h L [.ref q] S
                      | some none => post (.threw q, S)
                      | none => False)
                    | none => match zcall e st with
                      | some (as, st') => ∃ me', ztgt e as S = some me' ∧ (1 ≤ d ∧ zsum as ≤ zmaxL me') ∧ zCall (d - 1) me' as S (fun x => match x with
                        | (.returned v, S') => zwp T tb cut me d post n (pc + 3) L (v.toList ++ st') S'
                        | (.threw q, S') => match zhnd me pc with
                          | some (some h) => zwp T tb cut me d post n h L [.ref q] S'
                          | some none => post (.threw q, S')
                          | none => False)
                      | none => False
