/-! ===== what stays true of the abstract state ===== -/
def zLT (S : zS) : Prop := ∀ i, zLB ≤ i → ztyp S i = 120 ∨ ztyp S i = 121 ∨ ztyp S i = 22 ∨ ztyp S i = 99
def zInv (S : zS) : Prop := zVal S ∧ zTy S ∧ zBy S ∧ zLT S ∧ gN S < zLB
def zvs (S : zS) (L : List Value) : Prop := ∀ v ∈ L, zvv S v
def zStep (S S' : zS) : Prop := zOld S S' ∧ gN S ≤ gN S' ∧ gZ S ≤ gZ S'
theorem zStep.rf (S : zS) : zStep S S := ⟨zOld.rf S, Nat.le_refl _, Nat.le_refl _⟩
theorem zStep.trans {S S' S'' : zS} (h : zStep S S') (h' : zStep S' S'') : zStep S S'' := ⟨h.1.trans h'.1, Nat.le_trans h.2.1 h'.2.1, Nat.le_trans h.2.2 h'.2.2⟩
theorem zvr.mono {S S' : zS} (h : gN S ≤ gN S') {i : Nat} (hv : zvr S i) : zvr S' i := hv.imp (fun h2 => Nat.lt_of_lt_of_le h2 h) id
theorem zvv.mono {S S' : zS} (h : gN S ≤ gN S') {v : Value} (hv : zvv S v) : zvv S' v := by
  cases v with
  | ref i => exact zvr.mono h hv
  | _ => exact trivial
theorem zvs.mono {S S' : zS} (h : gN S ≤ gN S') {L : List Value} (hv : zvs S L) : zvs S' L := fun v hm => (hv v hm).mono h
theorem zvs.cons {S : zS} {v : Value} {L : List Value} (h : zvv S v) (hL : zvs S L) : zvs S (v :: L) := fun w hw => by
  rcases List.mem_cons.mp hw with rfl | hw
  · exact h
  · exact hL w hw
theorem zvs.hd {S : zS} {v : Value} {L : List Value} (h : zvs S (v :: L)) : zvv S v := h v List.mem_cons_self
theorem zvs.tl {S : zS} {v : Value} {L : List Value} (h : zvs S (v :: L)) : zvs S L := fun w hw => h w (List.mem_cons_of_mem _ hw)
theorem zvv_rf {S : zS} {r : Option Nat} (h : ∀ i, r = some i → zvr S i) : zvv S (zrf r) := by
  cases r with
  | none => exact trivial
  | some i => exact h i rfl
theorem zOld.of {S S' : zS} (h : ∀ k, zLB ≤ k → zSame S S' k) : zOld S S' := fun i hi => ⟨(h i hi).1, fun f => ⟨(h i hi).2.1 f, (h i hi).2.2.1 f⟩, (h i hi).2.2.2.1⟩
theorem zInv.sI {S : zS} {f a : Nat} {x : Int32} (h : zInv S) (ha : a < zLB) : zInv (sI S f a x) ∧ zStep S (sI S f a x) := ⟨⟨h.1, h.2.1, h.2.2.1, h.2.2.2.1, h.2.2.2.2⟩, zOld.of fun k hk => zSame.sI (by omega), Nat.le_refl _, Nat.le_refl _⟩
theorem zInv.sP {S : zS} {f a : Nat} {x : Option Nat} (h : zInv S) (ha : a < zLB) (hx : ∀ i, x = some i → zvr S i) : zInv (sP S f a x) ∧ zStep S (sP S f a x) := by
  refine ⟨⟨⟨fun g c i hi => ?_, h.1.2⟩, h.2.1, h.2.2.1, h.2.2.2.1, h.2.2.2.2⟩, zOld.of fun k hk => zSame.sP (by omega), Nat.le_refl _, Nat.le_refl _⟩
  have hi : zu S.2.1 f a x g c = some i := hi
  unfold zu at hi
  split at hi
  · split at hi
    · exact hx i hi
    · exact h.1.1 g c i hi
  · exact h.1.1 g c i hi
theorem zInv.sA {S : zS} {a j : Nat} {x : Int32} (h : zInv S) (ha : a < zLB) (hx : (ztyp S a = 101 ∨ ztyp S a = 121) → x.toInt8.toInt32 = x) : zInv (sA S a j x) ∧ zStep S (sA S a j x) := by
  refine ⟨⟨h.1, h.2.1, fun c i ht => ?_, h.2.2.2.1, h.2.2.2.2⟩, zOld.of fun k hk => zSame.sA (by omega), Nat.le_refl _, Nat.le_refl _⟩
  have ht : ztyp S c = 101 ∨ ztyp S c = 121 := ht
  have e : gA (_root_.Jvm.Pilot.@@N@@.sA S a j x) c i = if c = a then (if i = j then x else gA S c i) else gA S c i := rfl
  rw [e]
  by_cases h1 : c = a
  · rw [if_pos h1]
    by_cases h2 : i = j
    · rw [if_pos h2]; exact hx (h1 ▸ ht)
    · rw [if_neg h2]; exact h.2.2.1 c i ht
  · rw [if_neg h1]; exact h.2.2.1 c i ht
theorem zInv.sL {S : zS} {a j : Nat} {x : Int64} (h : zInv S) (ha : a < zLB) : zInv (sL S a j x) ∧ zStep S (sL S a j x) := ⟨⟨h.1, h.2.1, h.2.2.1, h.2.2.2.1, h.2.2.2.2⟩, zOld.of fun k hk => zSame.sL (by omega), Nat.le_refl _, Nat.le_refl _⟩
theorem zInv.sQ {S : zS} {a j : Nat} {x : Option Nat} (h : zInv S) (ha : a < zLB) (hx : ∀ i, x = some i → zvr S i) : zInv (sQ S a j x) ∧ zStep S (sQ S a j x) := by
  refine ⟨⟨⟨h.1.1, fun g c i hi => ?_⟩, h.2.1, h.2.2.1, h.2.2.2.1, h.2.2.2.2⟩, zOld.of fun k hk => zSame.sQ (by omega), Nat.le_refl _, Nat.le_refl _⟩
  have hi : zu S.2.2.2.2.1 a j x g c = some i := hi
  unfold zu at hi
  split at hi
  · split at hi
    · exact hx i hi
    · exact h.1.2 g c i hi
  · exact h.1.2 g c i hi
theorem ztyp_sT {S : zS} {a : Nat} (ht : ztyp S a = 8) (c : Nat) : ztyp (sT S a 8 1) c = ztyp S c := by
  unfold ztyp at ht ⊢
  by_cases h : c < zD0
  · rw [if_pos h, if_pos h]
  · rw [if_neg h, if_neg h]
    have e : gT (sT S a 8 1) c = if c = a then (8, 1) else gT S c := rfl
    rw [e]
    by_cases h2 : c = a
    · subst h2
      rw [if_neg h] at ht
      rw [if_pos rfl, ht]
    · rw [if_neg h2]
theorem zInv.sT {S : zS} {a : Nat} (h : zInv S) (ha : a < zLB) (ht : ztyp S a = 8) : zInv (sT S a 8 1) ∧ zStep S (sT S a 8 1) := by
  have e := ztyp_sT ht
  refine ⟨⟨h.1, fun c hc => ?_, fun c j hc => ?_, fun c hc => ?_, h.2.2.2.2⟩, fun i hi => ⟨if_neg (by omega), fun f => ⟨rfl, rfl⟩, fun j => rfl⟩, Nat.le_refl _, Nat.le_refl _⟩
  · rw [e]; exact h.2.1 c hc
  · rw [e] at hc; exact h.2.2.1 c j hc
  · rw [e]; exact h.2.2.2.1 c hc
theorem zsty_ok : ∀ a, a < zD0 → zok (zsty a).1 = true := by decide +kernel
theorem zInv.sNew {S : zS} {t n sl : Nat} (h : zInv S) (hok : zok t = true) (hl : gN S < 2000000) : zInv (sNew S t n sl) ∧ zStep S (sNew S t n sl) := by
  have hLB : gN S + 1 < zLB := by unfold zLB; omega
  have hty : ∀ a, a ≠ gN S → ztyp (_root_.Jvm.Pilot.@@N@@.sNew S t n sl) a = ztyp S a := fun a ha => (zSame.sNew ha).typ.1
  refine ⟨⟨⟨fun g c i hi => ?_, fun g c i hi => ?_⟩, fun a ha => ?_, fun a j ht => ?_, fun i hi => ?_, hLB⟩, zOld.of fun k hk => zSame.sNew (by omega), Nat.le_succ _, Nat.le_add_right _ _⟩
  · have hi : (if c = gN S then none else S.2.1 g c) = some i := hi
    split at hi
    · cases hi
    · exact zvr.mono (Nat.le_succ _) (h.1.1 g c i hi)
  · have hi : (if g = gN S then none else S.2.2.2.2.1 g c) = some i := hi
    split at hi
    · cases hi
    · exact zvr.mono (Nat.le_succ _) (h.1.2 g c i hi)
  · have ha : a < gN S + 1 := ha
    by_cases e : a = gN S
    · subst e
      unfold ztyp
      by_cases hd : gN S < zD0
      · rw [if_pos hd]; exact zsty_ok _ hd
      · rw [if_neg hd]
        have e2 : gT (_root_.Jvm.Pilot.@@N@@.sNew S t n sl) (gN S) = (t, n) := if_pos rfl
        rw [e2]; exact hok
    · rw [hty a e]; exact h.2.1 a (by omega)
  · have e : gA (_root_.Jvm.Pilot.@@N@@.sNew S t n sl) a j = if a = gN S then 0 else gA S a j := rfl
    rw [e]
    by_cases h1 : a = gN S
    · rw [if_pos h1]; decide
    · rw [if_neg h1]; rw [hty a h1] at ht; exact h.2.2.1 a j ht
  · rw [hty i (by omega)]; exact h.2.2.2.1 i hi
theorem zInv.cp {S : zS} {s d sp dp n : Nat} (h : zInv S) (hd : d < zLB) (hs : ztyp S s = 101 ∨ ztyp S s = 121) : zInv (zcopy S s d sp dp n) ∧ zStep S (zcopy S s d sp dp n) := by
  refine ⟨⟨h.1, h.2.1, fun a j ht => ?_, h.2.2.2.1, h.2.2.2.2⟩, zOld.of fun k hk => zSame.cp (by omega), Nat.le_refl _, Nat.le_refl _⟩
  have ht : ztyp S a = 101 ∨ ztyp S a = 121 := ht
  have e : gA (zcopy S s d sp dp n) a j = if a = d then va_cpy (gA S s) (gA S d) sp dp n j else gA S a j := rfl
  rw [e]
  by_cases h1 : a = d
  · rw [if_pos h1]
    unfold va_cpy
    split
    · exact h.2.2.1 s _ hs
    · exact h.2.2.1 d j (h1 ▸ ht)
  · rw [if_neg h1]; exact h.2.2.1 a j ht
theorem zInv.zmrow {o k : Nat} (ho : o < zLB) : ∀ (n i : Nat) (S : zS), zInv S → gN S + n < 2000000 → zInv (zmrow o k n i S) ∧ zStep S (zmrow o k n i S) := by
  intro n
  induction n with
  | zero => exact fun i S h _ => ⟨h, zStep.rf S⟩
  | succ n ih =>
    intro i S h hl
    have h1 := h.sNew (t := 101) (n := k) (sl := k) rfl (by omega)
    have h2 := h1.1.sQ (a := o) (j := i) (x := some (gN S)) ho (fun i hi => by cases hi; exact Or.inl (Nat.lt_succ_self _))
    have h3 := ih (i + 1) _ h2.1 (by show gN S + 1 + n < 2000000; omega)
    exact ⟨h3.1, (h1.2.trans h2.2).trans h3.2⟩
/-- locals -/
theorem zcl_mem {L : List Value} {i : Nat} {w : Value} (h : w ∈ zcl L i) : w ∈ L ∨ w = .retAddr 0 := by
  unfold zcl at h
  split at h
  · exact Or.inl h
  · split at h
    · exact (List.mem_or_eq_of_mem_set h)
    · exact (List.mem_or_eq_of_mem_set h)
    · exact Or.inl h
theorem zst1_v {S : zS} {L : List Value} {i : Nat} {v : Value} (hL : zvs S L) (hv : zvv S v) : zvs S (zst1 L i v) := by
  intro w hw
  unfold zst1 at hw
  rcases List.mem_or_eq_of_mem_set hw with h | rfl
  · rcases zcl_mem h with h | rfl
    · exact hL w h
    · exact trivial
  · exact hv
theorem zst2_v {S : zS} {L : List Value} {i : Nat} {v : Value} (hL : zvs S L) (hv : zvv S v) : zvs S (zst2 L i v) := by
  intro w hw
  unfold zst2 at hw
  rcases List.mem_or_eq_of_mem_set hw with h | rfl
  · rcases List.mem_or_eq_of_mem_set h with h | rfl
    · rcases zcl_mem h with h | rfl
      · exact hL w h
      · exact trivial
    · exact hv
  · exact trivial
theorem zgetD_mem {L : List Value} {i : Nat} {d v : Value} (h : L.getD i d = v) (hd : d ≠ v) : v ∈ L := by
  rw [List.getD_eq_getElem?_getD] at h
  cases e : L[i]? with
  | none => rw [e] at h; exact absurd h hd
  | some w => rw [e] at h; simp at h; rw [← h]; exact List.mem_of_getElem? e
/-- what a step keeps -/
def zGood (S : zS) (q : Option Prop × Nat × List Value × List Value × zS) : Prop := zInv q.2.2.2.2 ∧ zStep S q.2.2.2.2 ∧ zvs q.2.2.2.2 q.2.2.1 ∧ zvs q.2.2.2.2 q.2.2.2.1
theorem zld_inv {e : zE} {nx : Nat} {L st : List Value} {S : zS} {q} (h : zld e nx L st S = some q) (hI : zInv S) (hL : zvs S L) (hst : zvs S st) : zGood S q := by
  unfold zld at h
  split at h
  all_goals first
    | (cases h; done)
    | (split at h
       all_goals first
         | (cases h; done)
         | (rename_i x hx; have h2 := Option.some.inj h; subst h2; exact ⟨hI, zStep.rf S, hL, hst.cons trivial⟩)
         | (rename_i x hx; have h2 := Option.some.inj h; subst h2; exact ⟨hI, zStep.rf S, hL, hst.cons (hL _ (zgetD_mem hx (by simp)))⟩)
         | (have h2 := Option.some.inj h; subst h2; exact ⟨hI, zStep.rf S, hL, hst.cons trivial⟩))
theorem zstr_inv {e : zE} {nx : Nat} {L st : List Value} {S : zS} {q} (h : zstr e nx L st S = some q) (hI : zInv S) (hL : zvs S L) (hst : zvs S st) : zGood S q := by
  unfold zstr at h
  split at h
  all_goals first
    | (cases h; done)
    | (have h2 := Option.some.inj h; subst h2; exact ⟨hI, zStep.rf S, zst1_v hL hst.hd, hst.tl⟩)
    | (have h2 := Option.some.inj h; subst h2; exact ⟨hI, zStep.rf S, zst2_v hL hst.hd, hst.tl⟩)
theorem zint_inv {e : zE} {nx : Nat} {L st : List Value} {S : zS} {q} (h : zint e nx L st S = some q) (hI : zInv S) (hL : zvs S L) (hst : zvs S st) : zGood S q := by
  unfold zint at h
  split at h
  all_goals first
    | (cases h; done)
    | (have h2 := Option.some.inj h; subst h2; first | exact ⟨hI, zStep.rf S, hL, hst.tl.tl.cons trivial⟩ | exact ⟨hI, zStep.rf S, hL, hst.tl.cons trivial⟩)
    | (split at h
       · have h2 := Option.some.inj h; subst h2; exact ⟨hI, zStep.rf S, zst1_v hL trivial, hst⟩
       · cases h)
theorem zlng_inv {e : zE} {nx : Nat} {L st : List Value} {S : zS} {q} (h : zlng e nx L st S = some q) (hI : zInv S) (hL : zvs S L) (hst : zvs S st) : zGood S q := by
  unfold zlng at h
  split at h
  all_goals first
    | (cases h; done)
    | (have h2 := Option.some.inj h; subst h2; first | exact ⟨hI, zStep.rf S, hL, hst.tl.tl.cons trivial⟩ | exact ⟨hI, zStep.rf S, hL, hst.tl.cons trivial⟩)
