/-! ===== a run keeps what is to be kept ===== -/
theorem ztab_lt {me pc : Nat} {e : zE} (h : zlk (ztab me) pc = some e) : me < 445 := by
  by_cases hm : me < 445
  · exact hm
  · unfold ztab at h
    rw [if_neg hm] at h
    cases h
theorem zrowE {me pc : Nat} {e : zE} (h : zlk (ztab me) pc = some e) : e.1 = pc ∧ decode (zcd me) pc = .ok (e.2.1, e.2.2.1) ∧ zck (zoc me) (zmaxL me) e = true ∧ zchkE (zoc me) (zy me).name e = true := by
  have hm := ztab_lt h
  obtain ⟨h1, h2, h3⟩ := zrow (zchk_ok me hm) h
  exact ⟨h1, h2, h3, List.all_eq_true.mp (zchkP_ok me hm) e (zlk_mem _ h).1⟩
theorem zbop_sub {e : zE} {st : List Value} {q} (h : zbop e st = some q) : ∀ v ∈ q.2, v ∈ st := by
  unfold zbop at h
  split at h
  all_goals first
    | (cases h; done)
    | (cases h; intro v hv; exact List.mem_cons_of_mem _ hv)
    | (cases h; intro v hv; exact List.mem_cons_of_mem _ (List.mem_cons_of_mem _ hv))
theorem znop_sub {e : zE} {st : List Value} {q} (h : znop e st = some q) : ∀ v ∈ q.2, v ∈ st := by
  unfold znop at h
  split at h
  all_goals first
    | (cases h; done)
    | (cases h; intro v hv; exact List.mem_cons_of_mem _ hv)
theorem zsop_sub {e : zE} {st : List Value} {q} (h : zsop e st = some q) : ∀ v ∈ q.2, v ∈ st := by
  unfold zsop at h
  split at h
  all_goals first
    | (cases h; done)
    | (cases h; intro v hv; exact List.mem_cons_of_mem _ hv)
theorem zret_sub {e : zE} {st : List Value} {v : Value} (h : zret e st = some (some v)) : v ∈ st := by
  unfold zret at h
  split at h
  all_goals first
    | (cases h; done)
    | (cases h; exact List.mem_cons_self)
theorem ztake_sub : ∀ (n : Nat) (acc st as r : List Value), ztake n acc st = some (as, r) → (∀ v ∈ as, v ∈ acc ∨ v ∈ st) ∧ (∀ v ∈ r, v ∈ st) := by
  intro n
  induction n with
  | zero => intro acc st as r h; cases h; exact ⟨fun v hv => Or.inl hv, fun v hv => hv⟩
  | succ n ih =>
    intro acc st as r h
    cases st with
    | nil => cases h
    | cons w t =>
      obtain ⟨h1, h2⟩ := ih _ _ _ _ h
      refine ⟨fun v hv => ?_, fun v hv => List.mem_cons_of_mem _ (h2 v hv)⟩
      rcases h1 v hv with h3 | h3
      · rcases List.mem_cons.mp h3 with rfl | h3
        · exact Or.inr List.mem_cons_self
        · exact Or.inl h3
      · exact Or.inr (List.mem_cons_of_mem _ h3)
theorem zcall_take {e : zE} {st as r : List Value} (h : zcall e st = some (as, r)) : ∃ n, ztake n [] st = some (as, r) ∧ zsum r ≤ 8 := by
  unfold zcall at h
  split at h
  · split at h
    · rename_i ht
      split at h
      · rename_i hs
        cases h
        exact ⟨_, ht, of_decide_eq_true hs⟩
      · cases h
    · cases h
  · split at h
    · rename_i ht
      split at h
      · rename_i hs
        cases h
        exact ⟨_, ht, of_decide_eq_true hs⟩
      · cases h
    · cases h
  · split at h
    · rename_i ht
      split at h
      · rename_i hs
        cases h
        exact ⟨_, ht, of_decide_eq_true hs⟩
      · cases h
    · cases h
  · cases h
theorem zrep_mem {n : Nat} {v : Value} (h : v ∈ zrep n) : v = .retAddr 0 := by
  induction n with
  | zero => cases h
  | succ n ih =>
    rcases List.mem_cons.mp h with h | h
    · exact h
    · exact ih h
theorem zpad_mem {v : Value} : ∀ (as : List Value) (n : Nat), v ∈ zpad as n → v ∈ as ∨ v = .retAddr 0 := by
  intro as
  induction as with
  | nil => intro n h; exact Or.inr (zrep_mem h)
  | cons w t ih =>
    intro n h
    have gen : ∀ k, v ∈ w :: zpad t k → v ∈ w :: t ∨ v = .retAddr 0 := by
      intro k h
      rcases List.mem_cons.mp h with h | h
      · exact Or.inl (by rw [h]; exact List.mem_cons_self)
      · exact (ih _ h).imp (List.mem_cons_of_mem _) id
    cases w with
    | long x =>
      have h : v ∈ .long x :: .retAddr 0 :: zpad t (n - 2) := h
      rcases List.mem_cons.mp h with h | h
      · exact Or.inl (by rw [h]; exact List.mem_cons_self)
      · rcases List.mem_cons.mp h with h | h
        · exact Or.inr h
        · exact (ih _ h).imp (List.mem_cons_of_mem _) id
    | double x =>
      have h : v ∈ .double x :: .retAddr 0 :: zpad t (n - 2) := h
      rcases List.mem_cons.mp h with h | h
      · exact Or.inl (by rw [h]; exact List.mem_cons_self)
      · rcases List.mem_cons.mp h with h | h
        · exact Or.inr h
        · exact (ih _ h).imp (List.mem_cons_of_mem _) id
    | _ => exact gen (n - 1) h
theorem zvs.pad {S : zS} {as : List Value} (h : zvs S as) (n : Nat) : zvs S (zpad as n) := fun v hv => by
  rcases zpad_mem as n hv with h1 | rfl
  · exact h v h1
  · exact trivial
theorem zvs.sub {S : zS} {l l' : List Value} (h : zvs S l) (hs : ∀ v ∈ l', v ∈ l) : zvs S l' := fun v hv => h v (hs v hv)
theorem zvs.app {S : zS} {v : Option Value} {l : List Value} (h : ∀ w, v = some w → zvv S w) (hl : zvs S l) : zvs S (v.toList ++ l) := by
  cases v with
  | none => exact hl
  | some w => exact hl.cons (h w rfl)
def zEnd (S : zS) (x : Outcome × zS) : Prop := zInv x.2 ∧ zStep S x.2 ∧ (∀ v, x.1 = .returned (some v) → zvv x.2 v) ∧ (∀ i, x.1 = .threw i → i < gN x.2)
theorem zEnd.of {S S' : zS} {x : Outcome × zS} (h : zStep S S') (h' : zEnd S' x) : zEnd S x := ⟨h'.1, h.trans h'.2.1, h'.2.2⟩
theorem zrun_inv : ∀ (n d me pc : Nat) (L st : List Value) (S : zS) (x : Outcome × zS), zrun n d me pc L st S = some x → zInv S → zvs S L → zvs S st → zEnd S x := by
  intro n
  induction n with
  | zero => intro d me pc L st S x h; simp [zrun] at h
  | succ n ih =>
    intro d me pc L st S x h hI hL hst
    rw [zrun] at h
    cases hl : zlk (ztab me) pc with
    | none => simp only [hl] at h; cases h
    | some e =>
      obtain ⟨-, -, hk, hke⟩ := zrowE hl
      simp only [hl] at h
      cases hc : zcop e L st S with
      | some q =>
        obtain ⟨c, pc', L', st', S'⟩ := q
        cases c with
        | none =>
          simp only [hc] at h
          obtain ⟨g1, g2, g3, g4⟩ := zcop_inv hk hke hc (fun c hc => by cases hc) hI hL hst
          exact zEnd.of g2 (ih _ _ _ _ _ _ _ h g1 g3 g4)
        | some c =>
          simp only [hc] at h
          by_cases hcc : c
          · rw [if_pos hcc] at h
            obtain ⟨g1, g2, g3, g4⟩ := zcop_inv hk hke hc (fun c hc => by cases hc; exact hcc) hI hL hst
            exact zEnd.of g2 (ih _ _ _ _ _ _ _ h g1 g3 g4)
          · rw [if_neg hcc] at h; cases h
      | none =>
        simp only [hc] at h
        cases hb : zbop e st with
        | some q =>
          have hs9 := hst.sub (zbop_sub hb)
          obtain ⟨c, st'⟩ := q
          simp only [hb] at h
          by_cases hcc : c
          · rw [if_pos hcc] at h; exact ih _ _ _ _ _ _ _ h hI hL hs9
          · rw [if_neg hcc] at h; exact ih _ _ _ _ _ _ _ h hI hL hs9
        | none =>
          simp only [hb] at h
          cases hz : znop e st with
          | some q =>
            have hs9 := hst.sub (znop_sub hz)
            obtain ⟨b, st'⟩ := q
            simp only [hz] at h
            exact ih _ _ _ _ _ _ _ h hI hL hs9
          | none =>
            simp only [hz] at h
            cases hs : zsop e st with
            | some q =>
              have hs9 := hst.sub (zsop_sub hs)
              obtain ⟨k, st'⟩ := q
              simp only [hs] at h
              exact ih _ _ _ _ _ _ _ h hI hL hs9
            | none =>
              simp only [hs] at h
              cases hr : zret e st with
              | some v =>
                simp only [hr] at h
                have fin : x = (.returned v, S) := by
                  cases hg : zrg (zrk me) v with
                  | none => simp only [hg] at h; cases h; rfl
                  | some c =>
                    simp only [hg] at h
                    by_cases hcc : c
                    · rw [if_pos hcc] at h; cases h; rfl
                    · rw [if_neg hcc] at h; cases h
                subst fin
                exact ⟨hI, zStep.rf S, fun w hw => (by cases hw; exact hst _ (zret_sub hr)), fun i hi => (by cases hi)⟩
              | none =>
                simp only [hr] at h
                cases ht : zthr e st with
                | some q =>
                  simp only [ht] at h
                  by_cases h8 : ztyp S q = 8 ∧ q < gN S
                  · rw [if_pos h8] at h
                    cases hh : zhnd me pc with
                    | none => simp only [hh] at h; cases h
                    | some o =>
                      cases o with
                      | none => simp only [hh] at h; cases h; exact ⟨hI, zStep.rf S, fun w hw => (by cases hw), fun i hi => (by cases hi; exact h8.2)⟩
                      | some hd2 => simp only [hh] at h; exact ih _ _ _ _ _ _ _ h hI hL (zvs.cons (Or.inl h8.2) (fun v hv => by cases hv))
                  · rw [if_neg h8] at h; cases h
                | none =>
                  simp only [ht] at h
                  cases hk : zcall e st with
                  | none => simp only [hk] at h; cases h
                  | some q =>
                    obtain ⟨as, st'⟩ := q
                    obtain ⟨n9, ht9, -⟩ := zcall_take hk
                    obtain ⟨ha9, hr9⟩ := ztake_sub _ _ _ _ _ ht9
                    have has : zvs S as := hst.sub (fun v hv => (ha9 v hv).resolve_left (by simp))
                    have hst' : zvs S st' := hst.sub hr9
                    cases d with
                    | zero => simp only [hk] at h; cases h
                    | succ d1 =>
                      simp only [hk] at h
                      cases hg : ztgt e as S with
                      | none => simp only [hg] at h; cases h
                      | some me' =>
                        simp only [hg] at h
                        cases hsm : decide (zsum as ≤ zmaxL me') with
                        | false => simp only [hsm] at h; cases h
                        | true =>
                        simp only [hsm] at h
                        cases hq : zrun n d1 me' 0 (zpad as (zmaxL me')) [] S with
                        | none => simp only [hq] at h; cases h
                        | some y =>
                          have hE := ih _ _ _ _ _ _ _ hq hI (has.pad _) (fun v hv => by cases hv)
                          obtain ⟨o, S'⟩ := y
                          simp only [hq] at h
                          cases o with
                          | returned v =>
                            simp only at h
                            exact zEnd.of hE.2.1 (ih _ _ _ _ _ _ _ h hE.1 (hL.mono hE.2.1.2.1) (zvs.app (fun w hw => hE.2.2.1 w (by rw [hw])) (hst'.mono hE.2.1.2.1)))
                          | threw a =>
                            simp only at h
                            cases hh : zhnd me pc with
                            | none => simp only [hh] at h; cases h
                            | some o =>
                              cases o with
                              | none => simp only [hh] at h; cases h; exact hE
                              | some hd2 => simp only [hh] at h; exact zEnd.of hE.2.1 (ih _ _ _ _ _ _ _ h hE.1 (hL.mono hE.2.1.2.1) (zvs.cons (Or.inl (hE.2.2.2 a rfl)) (fun v hv => by cases hv)))
