/-! ===== a step keeps what is to be kept ===== -/
theorem zKL_ref : ∀ o, o < 32 → (zKL o).all (fun q => match q.2 with | .ref i => decide (zLB ≤ i) | _ => true) = true := by decide +kernel
theorem zst_ref : ∀ j, j < 4 → (match (zst j).2.2.2 with | .ref i => decide (zLB ≤ i) | _ => true) = true := by decide +kernel
theorem zstk_inv {e : zE} {nx nL o : Nat} {L st : List Value} {S : zS} {q} (hk : zck o nL e = true) (h : zstk e nx L st S = some q) (hI : zInv S) (hL : zvs S L) (hst : zvs S st) : zGood S q := by
  obtain ⟨pc, i, n, v, a, sw, vt⟩ := e
  have kon : ∀ idx, o < 32 → (idx, v) ∈ zKL o → zvv S v := by
    intro idx ho hm
    have := List.all_eq_true.mp (zKL_ref o ho) _ hm
    cases v with
    | ref i => exact Or.inr (of_decide_eq_true this)
    | _ => exact trivial
  unfold zstk at h
  simp only at h
  split at h
  · have h2 := Option.some.inj h; subst h2; exact ⟨hI, zStep.rf S, hL, hst.cons trivial⟩
  · simp only [zck, Bool.and_eq_true, beq_iff_eq, decide_eq_true_eq] at hk; obtain ⟨-, rfl⟩ := hk; have h2 := Option.some.inj h; subst h2; exact ⟨hI, zStep.rf S, hL, hst.cons trivial⟩
  · simp only [zck, Bool.and_eq_true, beq_iff_eq, decide_eq_true_eq] at hk; obtain ⟨-, rfl⟩ := hk; have h2 := Option.some.inj h; subst h2; exact ⟨hI, zStep.rf S, hL, hst.cons trivial⟩
  · simp only [zck, Bool.and_eq_true, beq_iff_eq, decide_eq_true_eq] at hk; obtain ⟨-, rfl⟩ := hk; have h2 := Option.some.inj h; subst h2; exact ⟨hI, zStep.rf S, hL, hst.cons trivial⟩
  · simp only [zck, Bool.and_eq_true, beq_iff_eq, decide_eq_true_eq] at hk; obtain ⟨-, rfl⟩ := hk; have h2 := Option.some.inj h; subst h2; exact ⟨hI, zStep.rf S, hL, hst.cons trivial⟩
  · simp only [zck, Bool.and_eq_true, beq_iff_eq, decide_eq_true_eq] at hk; have h2 := Option.some.inj h; subst h2; exact ⟨hI, zStep.rf S, hL, hst.cons (kon _ hk.1.1.2 hk.1.2)⟩
  · simp only [zck, Bool.and_eq_true, beq_iff_eq, decide_eq_true_eq] at hk; have h2 := Option.some.inj h; subst h2; exact ⟨hI, zStep.rf S, hL, hst.cons (kon _ hk.1.1.2 hk.1.2)⟩
  · simp only [zck, Bool.and_eq_true, beq_iff_eq, decide_eq_true_eq] at hk; have h2 := Option.some.inj h; subst h2; exact ⟨hI, zStep.rf S, hL, hst.cons (kon _ hk.1.1.2 hk.1.2)⟩
  · simp only [zck, Bool.and_eq_true, beq_iff_eq, decide_eq_true_eq, List.contains_iff_mem] at hk
    obtain ⟨⟨⟨-, ho⟩, hm⟩, rfl⟩ := hk
    have h2 := Option.some.inj h; subst h2
    refine ⟨hI, zStep.rf S, hL, hst.cons ?_⟩
    have := zst_ref a (zGL_lt o ho _ hm)
    show zvv S (zst a).2.2.2
    cases hv : (zst a).2.2.2 with
    | ref i => rw [hv] at this; exact Or.inr (of_decide_eq_true this)
    | _ => exact trivial
  · have h2 := Option.some.inj h; subst h2; exact ⟨hI, zStep.rf S, hL, hst⟩
  · split at h
    · have h2 := Option.some.inj h; subst h2; exact ⟨hI, zStep.rf S, hL, hst.cons hst.hd⟩
    · cases h
  · split at h
    · have h2 := Option.some.inj h; subst h2; exact ⟨hI, zStep.rf S, hL, hst.tl⟩
    · cases h
  · split at h
    · have h2 := Option.some.inj h; subst h2; exact ⟨hI, zStep.rf S, hL, hst.cons hst.hd |>.tl |>.tl |>.tl |>.cons hst.hd |>.cons hst.tl.hd |>.cons hst.hd⟩
    · cases h
  · split at h
    · have h2 := Option.some.inj h; subst h2; exact ⟨hI, zStep.rf S, hL, (hst.cons hst.tl.hd).cons hst.hd⟩
    · cases h
  · cases h
theorem zInv.new {S : zS} (h : zInv S) {a : Nat} (hv : zvr S a) (ht : ztyp S a ≠ 120 ∧ ztyp S a ≠ 121 ∧ ztyp S a ≠ 22 ∧ ztyp S a ≠ 99) : a < zLB := by
  rcases hv with hv | hv
  · exact Nat.lt_trans hv h.2.2.2.2
  · rcases h.2.2.2.1 a hv with h1 | h1 | h1 | h1
    · exact absurd h1 ht.1
    · exact absurd h1 ht.2.1
    · exact absurd h1 ht.2.2.1
    · exact absurd h1 ht.2.2.2
theorem zarr_inv {e : zE} {nx nL o : Nat} {L st : List Value} {S : zS} {q} (hk : zck o nL e = true) (h : zarr e nx L st S = some q) (hc : ∀ c, q.1 = some c → c) (hI : zInv S) (hL : zvs S L) (hst : zvs S st) : zGood S q := by
  obtain ⟨pc, i, n, v, a9, sw, vt⟩ := e
  unfold zarr at h
  simp only at h
  split at h
  · have h2 := Option.some.inj h; subst h2; exact ⟨hI, zStep.rf S, hL, hst.tl.cons trivial⟩
  · have h2 := Option.some.inj h; subst h2; exact ⟨hI, zStep.rf S, hL, hst.tl.tl.cons trivial⟩
  · have h2 := Option.some.inj h; subst h2; exact ⟨hI, zStep.rf S, hL, hst.tl.tl.cons trivial⟩
  · have h2 := Option.some.inj h; subst h2; exact ⟨hI, zStep.rf S, hL, hst.tl.tl.cons trivial⟩
  · have h2 := Option.some.inj h; subst h2; exact ⟨hI, zStep.rf S, hL, hst.tl.tl.cons (zvv_rf fun i hi => hI.1.2 _ _ i hi)⟩
  · rename_i x j a r
    have h2 := Option.some.inj h; subst h2
    obtain ⟨ht, -⟩ := hc _ rfl
    have g := hI.sA (a := a) (j := j.toNatClampNeg) (x := x) (hI.new hst.tl.tl.hd (by omega)) (fun h => by omega)
    exact ⟨g.1, g.2, hL.mono g.2.2.1, hst.tl.tl.tl.mono g.2.2.1⟩
  · rename_i x j a r
    have h2 := Option.some.inj h; subst h2
    obtain ⟨ht, -⟩ := hc _ rfl
    have g := hI.sA (a := a) (j := j.toNatClampNeg) (x := x) (hI.new hst.tl.tl.hd (by omega)) (fun h => by
      rcases ht with ⟨g1, g2⟩ | ⟨g1, g2⟩
      · exact g2
      · omega)
    exact ⟨g.1, g.2, hL.mono g.2.2.1, hst.tl.tl.tl.mono g.2.2.1⟩
  · rename_i x j a r
    have h2 := Option.some.inj h; subst h2
    obtain ⟨ht, -⟩ := hc _ rfl
    have g := hI.sL (a := a) (j := j.toNatClampNeg) (x := x) (hI.new hst.tl.tl.hd (by omega))
    exact ⟨g.1, g.2, hL.mono g.2.2.1, hst.tl.tl.tl.mono g.2.2.1⟩
  · rename_i v0 j a r
    have h2 := Option.some.inj h; subst h2
    obtain ⟨⟨hp, hvl⟩, -⟩ := hc _ rfl
    simp only [zput, Bool.or_eq_true, Bool.and_eq_true, beq_iff_eq] at hp
    have g := hI.sQ (j := j.toNatClampNeg) (x := some v0) (hI.new (a := a) hst.tl.tl.hd (by omega)) (fun i hi => by cases hi; exact Or.inl hvl)
    exact ⟨g.1, g.2, hL.mono g.2.2.1, hst.tl.tl.tl.mono g.2.2.1⟩
  · rename_i at0 n0 r
    simp only [zck, Bool.and_eq_true, beq_iff_eq, decide_eq_true_eq] at hk
    have h2 := Option.some.inj h; subst h2
    obtain ⟨-, hnew⟩ := hc _ rfl
    have g := hI.sNew (t := a9) (n := n0.toNatClampNeg) (sl := n0.toNatClampNeg) (by simp only [zok, Bool.or_eq_true, Bool.and_eq_true, decide_eq_true_eq]; omega) hnew.2
    exact ⟨g.1, g.2, hL.mono g.2.2.1, (hst.tl.mono g.2.2.1).cons (Or.inl (Nat.lt_succ_self _))⟩
  · rename_i idx n0 r
    simp only [zck, Bool.and_eq_true, beq_iff_eq, decide_eq_true_eq] at hk
    have h2 := Option.some.inj h; subst h2
    obtain ⟨-, hnew⟩ := hc _ rfl
    have g := hI.sNew (t := a9) (n := n0.toNatClampNeg) (sl := n0.toNatClampNeg) (by simp only [zok, Bool.or_eq_true, Bool.and_eq_true, decide_eq_true_eq]; omega) hnew.2
    exact ⟨g.1, g.2, hL.mono g.2.2.1, (hst.tl.mono g.2.2.1).cons (Or.inl (Nat.lt_succ_self _))⟩
  · cases h
theorem zmul_inv {e : zE} {nx : Nat} {L st : List Value} {S : zS} {q} (h : zmul e nx L st S = some q) (hc : ∀ c, q.1 = some c → c) (hI : zInv S) (hL : zvs S L) (hst : zvs S st) : zGood S q := by
  unfold zmul at h
  split at h
  · rename_i k n r
    have h2 := Option.some.inj h; subst h2
    have hcc := hc _ rfl
    have hN : gN S < 100 ∧ n.toNatClampNeg < 100 := by
      rcases hcc with ⟨rfl, rfl, h⟩ | ⟨rfl, rfl, h⟩
      · exact ⟨by omega, by decide⟩
      · exact ⟨by omega, by decide⟩
    have g1 := hI.sNew (t := 110) (n := n.toNatClampNeg) (sl := n.toNatClampNeg) rfl (by omega)
    have g2 := zInv.zmrow (o := gN S) (k := k.toNatClampNeg) hI.2.2.2.2 n.toNatClampNeg 0 _ g1.1 (by show gN S + 1 + _ < _; omega)
    have g3 := g1.2.trans g2.2
    refine ⟨g2.1, g3, hL.mono g3.2.1, (hst.tl.tl.mono g3.2.1).cons (Or.inl (Nat.lt_of_lt_of_le (Nat.lt_succ_self _) g2.2.2.1))⟩
  · cases h
theorem zacm_inv {e : zE} {nx : Nat} {L st : List Value} {S : zS} {q} (h : zacm e nx L st S = some q) (hI : zInv S) (hL : zvs S L) (hst : zvs S st) : zGood S q := by
  unfold zacm at h
  split at h
  · have h2 := Option.some.inj h; subst h2
    exact ⟨hI, zStep.rf S, hL, hst.tl.tl⟩
  · cases h
theorem zfld_inv {e : zE} {nx nL o : Nat} {L st : List Value} {S : zS} {nm : String} {q} (hk : zck o nL e = true) (hke : zchkE o nm e = true) (h : zfld e nx L st S = some q) (hc : ∀ c, q.1 = some c → c) (hI : zInv S) (hL : zvs S L) (hst : zvs S st) : zGood S q := by
  obtain ⟨pc, i, n, v, F, sw, vt⟩ := e
  have gv : ∀ a, zvv S (match zfk F with | 4 => zrf (gP S F a) | _ => .int (gI S F a)) := by
    intro a
    split
    · exact zvv_rf fun i hi => hI.1.1 _ _ i hi
    · exact trivial
  have hid : ∀ a q0 t0, i = .putfield a → ∀ id, vt = (id, q0) :: t0 → id < zLB := by
    intro a q0 t0 hi id hv
    subst hi
    subst hv
    simp only [zchkE, Bool.and_eq_true, decide_eq_true_eq] at hke
    have := zD0_LB
    have := hke.2.1
    omega
  have hlt : ∀ a, a < gN S → a < zLB := fun a h => Nat.lt_trans h hI.2.2.2.2
  have pI : ∀ (c : Option Prop) (f a : Nat) (x : Int32) (r : List Value), a < zLB → zvs S r → zGood S (c, nx, L, r, sI S f a x) := fun c f a x r ha hr => by
    have g := hI.sI (f := f) (x := x) ha
    exact ⟨g.1, g.2, hL.mono g.2.2.1, hr.mono g.2.2.1⟩
  have pP : ∀ (c : Option Prop) (f a : Nat) (x : Option Nat) (r : List Value), a < zLB → (∀ i, x = some i → zvr S i) → zvs S r → zGood S (c, nx, L, r, sP S f a x) := fun c f a x r ha hx hr => by
    have g := hI.sP (f := f) (x := x) ha hx
    exact ⟨g.1, g.2, hL.mono g.2.2.1, hr.mono g.2.2.1⟩
  unfold zfld at h
  simp only at h
  split at h
  · split at h
    · have h2 := Option.some.inj h; subst h2; exact ⟨hI, zStep.rf S, hL, hst.tl.cons (gv _)⟩
    · cases h
    · split at h
      · have h2 := Option.some.inj h; subst h2; exact ⟨hI, zStep.rf S, hL, hst.tl.cons trivial⟩
      · have h2 := Option.some.inj h; subst h2; exact ⟨hI, zStep.rf S, hL, hst.tl.cons trivial⟩
      · have h2 := Option.some.inj h; subst h2; exact ⟨hI, zStep.rf S, hL, hst.tl.cons (gv _)⟩
  · split at h
    · rename_i hw
      obtain ⟨q0, t0, hvt⟩ := zown_t hw
      have ha := hid _ _ _ rfl _ hvt
      split at h
      · have h2 := Option.some.inj h; subst h2; exact pI _ _ _ _ _ ha hst.tl.tl
      · have h2 := Option.some.inj h; subst h2; exact pI _ _ _ _ _ ha hst.tl.tl
      · cases h
    · cases h
    · split at h
      · have h2 := Option.some.inj h; subst h2; exact pI _ _ _ _ _ (hlt _ (hc _ rfl).2) hst.tl.tl
      · have h2 := Option.some.inj h; subst h2; exact pI _ _ _ _ _ (hlt _ (hc _ rfl).1.2) hst.tl.tl
      · have h2 := Option.some.inj h; subst h2; exact pI _ _ _ _ _ (hlt _ (hc _ rfl).1.2) hst.tl.tl
      · have h2 := Option.some.inj h; subst h2; exact pI _ _ _ _ _ (hlt _ (hc _ rfl).1.2) hst.tl.tl
      · have h2 := Option.some.inj h; subst h2; exact pI _ _ _ _ _ (hlt _ (hc _ rfl).2) hst.tl.tl
      · have h2 := Option.some.inj h; subst h2; exact pI _ _ _ _ _ (hlt _ (hc _ rfl).1.2) hst.tl.tl
      · have h2 := Option.some.inj h; subst h2; exact pI _ _ _ _ _ (hlt _ (hc _ rfl).1.2) hst.tl.tl
      · cases h
  · have hv := hst.hd
    split at h
    · rename_i hfn
      split at h
      · rename_i b1 b2
        have e1 := Nat.eq_of_beq_eq_true b1
        have hz := zfin_has _ (zfin_in hfn)
        have h2 := Option.some.inj h; subst h2
        refine pP _ _ _ _ _ (by rw [e1]; exact Nat.lt_trans hz.2 zD0_LB) (fun i hi => by cases hi; exact hv) hst.tl.tl
      · cases h
    · split at h
      · rename_i hw
        obtain ⟨q0, t0, hvt⟩ := zown_t hw
        have ha := hid _ _ _ rfl _ hvt
        have h2 := Option.some.inj h; subst h2
        exact pP _ _ _ _ _ ha (fun i hi => by cases hi; exact hv) hst.tl.tl
      · cases h
      · have h2 := Option.some.inj h; subst h2
        exact pP _ _ _ _ _ (hlt _ (hc _ rfl).2) (fun i hi => by cases hi; exact hv) hst.tl.tl
    · have h2 := Option.some.inj h; subst h2; exact ⟨hI, zStep.rf S, hL, hst.tl.tl⟩
    · cases h
  · split at h
    · split at h
      · rename_i hw
        obtain ⟨q0, t0, hvt⟩ := zown_t hw
        have ha := hid _ _ _ rfl _ hvt
        have h2 := Option.some.inj h; subst h2
        exact pP _ _ _ _ _ ha (fun i hi => by cases hi) hst.tl.tl
      · cases h
      · have h2 := Option.some.inj h; subst h2
        exact pP _ _ _ _ _ (hlt _ (hc _ rfl).2) (fun i hi => by cases hi) hst.tl.tl
    · cases h
  · simp only [zck, Bool.and_eq_true, beq_iff_eq, decide_eq_true_eq, bne_iff_ne] at hk
    have h2 := Option.some.inj h; subst h2
    have g := hI.sNew (t := F) (n := 0) (sl := zslots F) (by simp only [zok, Bool.or_eq_true, Bool.and_eq_true, decide_eq_true_eq, bne_iff_ne]; omega) (hc _ rfl).2
    exact ⟨g.1, g.2, hL.mono g.2.2.1, (hst.mono g.2.2.1).cons (Or.inl (Nat.lt_succ_self _))⟩
  · split at h
    · have h2 := Option.some.inj h; subst h2; exact ⟨hI, zStep.rf S, hL, hst⟩
    · have h2 := Option.some.inj h; subst h2; exact ⟨hI, zStep.rf S, hL, hst⟩
  · have h2 := Option.some.inj h; subst h2; exact ⟨hI, zStep.rf S, hL, hst.tl.cons trivial⟩
  · split at h
    · split at h
      · have h2 := Option.some.inj h; subst h2; exact ⟨hI, zStep.rf S, hL, hst.tl⟩
      · cases h
    · split at h
      · have h2 := Option.some.inj h; subst h2
        obtain ⟨ht, ha, -⟩ := hc _ rfl
        have g := hI.sT (hlt _ ha) ht
        exact ⟨g.1, g.2, hL.mono g.2.2.1, hst.tl.mono g.2.2.1⟩
      · cases h
    · cases h
  · split at h
    · split at h
      · have h2 := Option.some.inj h; subst h2
        obtain ⟨⟨ht, ht2, -⟩, -⟩ := hc _ rfl
        have g := fun sp dp n => hI.cp (sp := sp) (dp := dp) (n := n) (hI.new hst.tl.tl.hd (by omega)) ht
        exact ⟨(g _ _ _).1, (g _ _ _).2, hL.mono (g _ _ _).2.2.1, hst.tl.tl.tl.tl.tl.mono (g _ _ _).2.2.1⟩
      · cases h
    · split at h
      · have h2 := Option.some.inj h; subst h2; exact ⟨hI, zStep.rf S, hL, hst.tl.tl.cons trivial⟩
      · cases h
    · split at h
      · have h2 := Option.some.inj h; subst h2; exact ⟨hI, zStep.rf S, hL, hst.tl.tl.cons trivial⟩
      · cases h
    · split at h
      · have h2 := Option.some.inj h; subst h2; exact ⟨hI, zStep.rf S, hL, hst.tl.cons trivial⟩
      · cases h
    · cases h
  · cases h
theorem zcln_inv {e : zE} {nx : Nat} {L st : List Value} {S : zS} {q} (h : zcln e nx L st S = some q) (hc : ∀ c, q.1 = some c → c) (hI : zInv S) (hL : zvs S L) (hst : zvs S st) : zGood S q := by
  unfold zcln at h
  split at h
  · rename_i a r hvt
    split at h
    · have h2 := Option.some.inj h; subst h2
      obtain ⟨ht, hnw⟩ := hc _ rfl
      have g := hI.sNew (t := 101) (n := zlen S a) (sl := zlen S a) (by decide) hnw.2
      have hv := hst.hd
      have hne : a ≠ gN S := by
        rcases hv with h1 | h1
        · exact Nat.ne_of_lt h1
        · have := hI.2.2.2.2
          intro e
          rw [e] at h1
          exact absurd h1 (Nat.not_le_of_lt this)
      have ht2 : ztyp (sNew S 101 (zlen S a) (zlen S a)) a = 101 := ((zSame.sNew hne).typ).1.trans ht
      have g2 := g.1.cp (s := a) (d := gN S) (sp := 0) (dp := 0) (n := zlen S a) hI.2.2.2.2 (Or.inl ht2)
      have g3 := g.2.trans g2.2
      exact ⟨g2.1, g3, hL.mono g3.2.1, (hst.tl.mono g3.2.1).cons (Or.inl (Nat.lt_succ_self _))⟩
    · cases h
  · cases h
theorem zcop_inv {e : zE} {nL o : Nat} {L st : List Value} {S : zS} {nm : String} {q} (hk : zck o nL e = true) (hke : zchkE o nm e = true) (h : zcop e L st S = some q) (hc : ∀ c, q.1 = some c → c) (hI : zInv S) (hL : zvs S L) (hst : zvs S st) : zGood S q := by
  unfold zcop at h
  split at h
  all_goals first
    | (cases h; done)
    | exact zld_inv h hI hL hst
    | exact zstr_inv h hI hL hst
    | exact zint_inv h hI hL hst
    | exact zlng_inv h hI hL hst
    | exact zstk_inv hk h hI hL hst
    | exact zarr_inv hk h hc hI hL hst
    | exact zfld_inv hk hke h hc hI hL hst
    | exact zmul_inv h hc hI hL hst
    | exact zacm_inv h hI hL hst
    | exact zcln_inv h hc hI hL hst
