/-! ===== locals of which less is known ===== -/
def zWk : List Value → List Value → Prop
  | [], [] => True
  | a :: l, b :: l' => (a = b ∨ a = .retAddr 0) ∧ zWk l l'
  | _, _ => False
theorem zWk.rf : ∀ L, zWk L L
  | [] => trivial
  | _ :: l => ⟨Or.inl rfl, zWk.rf l⟩
theorem zWk.at : ∀ {L L' : List Value} {i : Nat} {v d : Value}, zWk L L' → L.getD i d = v → v ≠ d → v ≠ .retAddr 0 → ∀ d', L'.getD i d' = v
  | [], [], i, v, d, _, h, hd, _, _ => by simp at h; exact absurd h.symm hd
  | a :: l, b :: l', 0, v, d, hw, h, hd, hr, d' => by
    simp only [List.getD_cons_zero] at h ⊢
    rcases hw.1 with e | e
    · rw [← e]; exact h
    · exact absurd (h.symm.trans e) hr
  | a :: l, b :: l', i + 1, v, d, hw, h, hd, hr, d' => by
    simp only [List.getD_cons_succ] at h ⊢
    exact zWk.at hw.2 h hd hr d'
theorem zWk.set : ∀ {L L' : List Value} (i : Nat) (v : Value), zWk L L' → zWk (L.set i v) (L'.set i v)
  | [], [], _, _, _ => trivial
  | _ :: _, _ :: _, 0, _, h => ⟨Or.inl rfl, h.2⟩
  | _ :: _, _ :: _, i + 1, v, h => ⟨h.1, zWk.set i v h.2⟩
theorem zWk.setr : ∀ {L L' : List Value} (i : Nat), zWk L L' → (∀ v, L[i]? = some v → v = .retAddr 0) → zWk L (L'.set i (.retAddr 0))
  | [], [], _, _, _ => trivial
  | _ :: _, _ :: _, 0, h, he => ⟨Or.inl (he _ rfl), h.2⟩
  | _ :: _, _ :: _, i + 1, h, he => ⟨h.1, zWk.setr i h.2 (fun v hv => he v hv)⟩
theorem zWk.get : ∀ {L L' : List Value} (j : Nat) (d : Value), zWk L L' → L.getD j d = L'.getD j d ∨ L[j]? = some (.retAddr 0)
  | [], [], _, _, _ => Or.inl rfl
  | _ :: _, _ :: _, 0, _, h => by
    rcases h.1 with e | e
    · exact Or.inl e
    · exact Or.inr (by rw [e]; rfl)
  | _ :: _, _ :: _, j + 1, d, h => zWk.get j d h.2
theorem zWk.cl {L L' : List Value} (h : zWk L L') (i : Nat) : zWk (zcl L i) (zcl L' i) := by
  cases i with
  | zero => exact h
  | succ j =>
    rcases zWk.get j .null h with e | e
    · unfold zcl
      simp only
      rw [← e]
      split
      · exact h.set _ _
      · exact h.set _ _
      · exact h
    · have e2 : L.getD j .null = .retAddr 0 := by rw [List.getD_eq_getElem?_getD, e]; rfl
      unfold zcl
      simp only
      rw [e2]
      simp only
      have hr : ∀ v, L[j]? = some v → v = .retAddr 0 := fun v hv => by rw [e] at hv; cases hv; rfl
      split
      · exact h.setr j hr
      · exact h.setr j hr
      · exact h
theorem zWk.st1 {L L' : List Value} (h : zWk L L') (i : Nat) (v : Value) : zWk (zst1 L i v) (zst1 L' i v) := (h.cl i).set i v
theorem zWk.st2 {L L' : List Value} (h : zWk L L') (i : Nat) (v : Value) : zWk (zst2 L i v) (zst2 L' i v) := ((h.cl i).set i v).set (i + 1) _
def zWkR (q q' : Option Prop × Nat × List Value × List Value × zS) : Prop := q'.1 = q.1 ∧ q'.2.1 = q.2.1 ∧ zWk q.2.2.1 q'.2.2.1 ∧ q'.2.2.2 = q.2.2.2
theorem zWk_same {f : List Value → zR} {L L' : List Value} {q} (h : f L = some q) (hL : zWk L L') (hf : ∀ L, f L = (f []).map (fun q => (q.1, q.2.1, L, q.2.2.2))) : ∃ q', f L' = some q' ∧ zWkR q q' := by
  rw [hf L] at h
  rw [hf L']
  cases e : f [] with
  | none => rw [e] at h; cases h
  | some r =>
    rw [e] at h
    cases h
    exact ⟨_, rfl, rfl, rfl, hL, rfl⟩
theorem zld_wk {e : zE} {nx : Nat} {L L' st : List Value} {S : zS} {q} (h : zld e nx L st S = some q) (hL : zWk L L') : ∃ q', zld e nx L' st S = some q' ∧ zWkR q q' := by
  unfold zld at h ⊢
  split at h
  all_goals first
    | (cases h; done)
    | (split at h
       all_goals first
         | (cases h; done)
         | (rename_i v hv
            have h2 := Option.some.inj h
            subst h2
            rw [hL.at hv (by simp) (by simp)]
            exact ⟨_, rfl, rfl, rfl, hL, rfl⟩)
         | (rename_i hv
            have h2 := Option.some.inj h
            subst h2
            rw [hL.at hv (by simp) (by simp)]
            exact ⟨_, rfl, rfl, rfl, hL, rfl⟩))
theorem zstr_wk {e : zE} {nx : Nat} {L L' st : List Value} {S : zS} {q} (h : zstr e nx L st S = some q) (hL : zWk L L') : ∃ q', zstr e nx L' st S = some q' ∧ zWkR q q' := by
  unfold zstr at h ⊢
  split at h
  all_goals first
    | (cases h; done)
    | (have h2 := Option.some.inj h; subst h2; exact ⟨_, rfl, rfl, rfl, hL.st1 _ _, rfl⟩)
    | (have h2 := Option.some.inj h; subst h2; exact ⟨_, rfl, rfl, rfl, hL.st2 _ _, rfl⟩)
theorem zint_wk {e : zE} {nx : Nat} {L L' st : List Value} {S : zS} {q} (h : zint e nx L st S = some q) (hL : zWk L L') : ∃ q', zint e nx L' st S = some q' ∧ zWkR q q' := by
  unfold zint at h ⊢
  split at h
  all_goals first
    | (cases h; done)
    | (have h2 := Option.some.inj h; subst h2; exact ⟨_, rfl, rfl, rfl, hL, rfl⟩)
    | (split at h
       · rename_i x c hx hc
         have h2 := Option.some.inj h
         subst h2
         simp only [hL.at hx (by simp) (by simp), hc]
         exact ⟨_, rfl, rfl, rfl, hL.st1 _ _, rfl⟩
       · cases h)
theorem zlng_L0 {e : zE} {nx : Nat} {st : List Value} {S : zS} (L : List Value) : zlng e nx L st S = (zlng e nx [] st S).map (fun q => (q.1, q.2.1, L, q.2.2.2)) := by
  obtain ⟨pc, i, n, v, a, sw, vt⟩ := e
  unfold zlng
  simp only
  (repeat' split) <;> first | rfl | simp_all
theorem zstk_L0 {e : zE} {nx : Nat} {st : List Value} {S : zS} (L : List Value) : zstk e nx L st S = (zstk e nx [] st S).map (fun q => (q.1, q.2.1, L, q.2.2.2)) := by
  obtain ⟨pc, i, n, v, a, sw, vt⟩ := e
  unfold zstk
  simp only
  (repeat' split) <;> first | rfl | simp_all
theorem zarr_L0 {e : zE} {nx : Nat} {st : List Value} {S : zS} (L : List Value) : zarr e nx L st S = (zarr e nx [] st S).map (fun q => (q.1, q.2.1, L, q.2.2.2)) := by
  obtain ⟨pc, i, n, v, a, sw, vt⟩ := e
  unfold zarr
  simp only
  (repeat' split) <;> first | rfl | simp_all
theorem zfld_L0 {e : zE} {nx : Nat} {st : List Value} {S : zS} (L : List Value) : zfld e nx L st S = (zfld e nx [] st S).map (fun q => (q.1, q.2.1, L, q.2.2.2)) := by
  obtain ⟨pc, i, n, v, a, sw, vt⟩ := e
  unfold zfld
  simp only
  (repeat' split) <;> first | rfl | simp_all
theorem zmul_L0 {e : zE} {nx : Nat} {st : List Value} {S : zS} (L : List Value) : zmul e nx L st S = (zmul e nx [] st S).map (fun q => (q.1, q.2.1, L, q.2.2.2)) := by
  unfold zmul
  split <;> rfl
theorem zacm_L0 {e : zE} {nx : Nat} {st : List Value} {S : zS} (L : List Value) : zacm e nx L st S = (zacm e nx [] st S).map (fun q => (q.1, q.2.1, L, q.2.2.2)) := by
  unfold zacm
  split <;> rfl
theorem zcln_L0 {e : zE} {nx : Nat} {st : List Value} {S : zS} (L : List Value) : zcln e nx L st S = (zcln e nx [] st S).map (fun q => (q.1, q.2.1, L, q.2.2.2)) := by
  obtain ⟨pc, i, n, v, a, sw, vt⟩ := e
  unfold zcln
  simp only
  (repeat' split) <;> first | rfl | simp_all
theorem zcln_none {e : zE} {nx : Nat} {L L' st : List Value} {S : zS} (h : zcln e nx L st S = none) : zcln e nx L' st S = none := by
  rw [zcln_L0] at h ⊢
  cases hz : zcln e nx [] st S with
  | none => rfl
  | some q => rw [hz] at h; cases h
theorem zcop_wk {e : zE} {L L' st : List Value} {S : zS} {q} (h : zcop e L st S = some q) (hL : zWk L L') : ∃ q', zcop e L' st S = some q' ∧ zWkR q q' := by
  unfold zcop at h ⊢
  split at h
  all_goals first
    | (cases h; done)
    | with_reducible exact zld_wk h hL
    | with_reducible exact zstr_wk h hL
    | with_reducible exact zint_wk h hL
    | with_reducible exact zWk_same (f := fun L => zlng _ _ L _ _) h hL (fun L => zlng_L0 L)
    | with_reducible exact zWk_same (f := fun L => zstk _ _ L _ _) h hL (fun L => zstk_L0 L)
    | with_reducible exact zWk_same (f := fun L => zarr _ _ L _ _) h hL (fun L => zarr_L0 L)
    | with_reducible exact zWk_same (f := fun L => zfld _ _ L _ _) h hL (fun L => zfld_L0 L)
    | with_reducible exact zWk_same (f := fun L => zmul _ _ L _ _) h hL (fun L => zmul_L0 L)
    | with_reducible exact zWk_same (f := fun L => zacm _ _ L _ _) h hL (fun L => zacm_L0 L)
    | with_reducible exact zWk_same (f := fun L => zcln _ _ L _ _) h hL (fun L => zcln_L0 L)
theorem zfld_none {e : zE} {nx : Nat} {L L' st : List Value} {S : zS} (h : zfld e nx L st S = none) : zfld e nx L' st S = none := by
  rw [zfld_L0] at h ⊢
  cases hz : zfld e nx [] st S with
  | none => rfl
  | some q => rw [hz] at h; cases h
theorem zcop_wk0 {e : zE} {L L' st : List Value} {S : zS} (h : zcop e L st S = none) : zcop e L' st S = none ∨ (zbop e st = none ∧ znop e st = none ∧ zsop e st = none ∧ zret e st = none ∧ zthr e st = none ∧ zcall e st = none) := by
  obtain ⟨pc, i, n, v, a, sw, vt⟩ := e
  cases i
  all_goals first
    | exact Or.inr ⟨rfl, rfl, rfl, rfl, rfl, rfl⟩
    | exact Or.inl rfl
    | exact Or.inl (zfld_none (e := (pc, .invokespecial _, n, v, a, sw, vt)) (nx := pc + n) (L := L) (L' := L') h)
    | exact Or.inl (zfld_none (e := (pc, .invokestatic _, n, v, a, sw, vt)) (nx := pc + n) (L := L) (L' := L') h)
    | exact Or.inl (zcln_none (e := (pc, .invokevirtual _, n, v, a, sw, vt)) (nx := pc + n) (L := L) (L' := L') h)
/-- where less is known of the locals it runs, it runs where more is known -/
theorem zrun_wk : ∀ (n d me pc : Nat) (L L' st : List Value) (S : zS) (x : Outcome × zS), zrun n d me pc L st S = some x → zWk L L' → zrun n d me pc L' st S = some x := by
  intro n
  induction n with
  | zero => intro d me pc L L' st S x h; simp [zrun] at h
  | succ n ih =>
    intro d me pc L L' st S x h hL
    rw [zrun] at h ⊢
    cases hl : zlk (ztab me) pc with
    | none => simp only [hl] at h; cases h
    | some e =>
      simp only [hl] at h ⊢
      cases hc : zcop e L st S with
      | some q =>
        obtain ⟨q', hq, w1, w2, w3, w4⟩ := zcop_wk hc hL
        obtain ⟨c, pc', L1, st', S'⟩ := q
        obtain ⟨c', pc'', L1', st'', S''⟩ := q'
        simp only at w1 w2 w3
        subst w1; subst w2
        cases w4
        cases c' with
        | none => simp only [hc] at h; simp only [hq]; exact ih _ _ _ _ _ _ _ _ h w3
        | some c =>
          simp only [hc] at h
          simp only [hq]
          by_cases hcc : c
          · rw [if_pos hcc] at h ⊢; exact ih _ _ _ _ _ _ _ _ h w3
          · rw [if_neg hcc] at h; cases h
      | none =>
        rcases zcop_wk0 (L' := L') hc with hc' | ⟨z1, z2, z3, z4, z5, z6⟩
        · simp only [hc] at h
          simp only [hc']
          cases hb : zbop e st with
          | some q =>
            obtain ⟨c, st'⟩ := q
            simp only [hb] at h ⊢
            by_cases hcc : c
            · rw [if_pos hcc] at h ⊢; exact ih _ _ _ _ _ _ _ _ h hL
            · rw [if_neg hcc] at h ⊢; exact ih _ _ _ _ _ _ _ _ h hL
          | none =>
            simp only [hb] at h ⊢
            cases hz : znop e st with
            | some q => obtain ⟨b, st'⟩ := q; simp only [hz] at h ⊢; exact ih _ _ _ _ _ _ _ _ h hL
            | none =>
              simp only [hz] at h ⊢
              cases hs : zsop e st with
              | some q => obtain ⟨k, st'⟩ := q; simp only [hs] at h ⊢; exact ih _ _ _ _ _ _ _ _ h hL
              | none =>
                simp only [hs] at h ⊢
                cases hr : zret e st with
                | some v => simp only [hr] at h ⊢; exact h
                | none =>
                  simp only [hr] at h ⊢
                  cases ht : zthr e st with
                  | some q =>
                    simp only [ht] at h ⊢
                    by_cases h8 : ztyp S q = 8 ∧ q < gN S
                    · rw [if_pos h8] at h ⊢
                      cases hh : zhnd me pc with
                      | none => simp only [hh] at h; cases h
                      | some o =>
                        cases o with
                        | none => simp only [hh] at h ⊢; exact h
                        | some hd2 => simp only [hh] at h ⊢; exact ih _ _ _ _ _ _ _ _ h hL
                    · rw [if_neg h8] at h; cases h
                  | none =>
                    simp only [ht] at h ⊢
                    cases hk : zcall e st with
                    | none => simp only [hk] at h; cases h
                    | some q =>
                      obtain ⟨as, st'⟩ := q
                      cases d with
                      | zero => simp only [hk] at h; cases h
                      | succ d1 =>
                        simp only [hk] at h ⊢
                        cases hg : ztgt e as S with
                        | none => simp only [hg] at h; cases h
                        | some me' =>
                          simp only [hg] at h ⊢
                          cases hsm : decide (zsum as ≤ zmaxL me') with
                          | false => simp only [hsm] at h; cases h
                          | true =>
                          simp only [hsm] at h ⊢
                          cases hq : zrun n d1 me' 0 (zpad as (zmaxL me')) [] S with
                          | none => simp only [hq] at h; cases h
                          | some y =>
                            obtain ⟨o, S'⟩ := y
                            simp only [hq] at h ⊢
                            cases o with
                            | returned v => simp only at h ⊢; exact ih _ _ _ _ _ _ _ _ h hL
                            | threw a =>
                              simp only at h ⊢
                              cases hh : zhnd me pc with
                              | none => simp only [hh] at h; cases h
                              | some o =>
                                cases o with
                                | none => simp only [hh] at h ⊢; exact h
                                | some hd2 => simp only [hh] at h ⊢; exact ih _ _ _ _ _ _ _ _ h hL
        · simp only [hc, z1, z2, z3, z4, z5, z6] at h
          cases h
theorem zEv.wk {d me pc : Nat} {L L' st : List Value} {S : zS} {p : Outcome × zS → Prop} (hL : zWk L L') (h : zEv d me pc L st S p) : zEv d me pc L' st S p := by
  obtain ⟨n, x, h1, h2⟩ := h
  exact ⟨n, x, zrun_wk _ _ _ _ _ _ _ _ _ h1 hL, h2⟩
