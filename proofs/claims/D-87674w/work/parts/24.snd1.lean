/-! ===== the abstract state against the heap ===== -/
def zLB : Nat := 4294967296
/-- the address of a number: new cells lie behind one another from b on; the others are old -/
def zad (b : Nat) (oa : Nat → Nat) (i : Nat) : Nat := if i < zLB then b + i else oa i
def zcv (ad : Nat → Nat) (v : Value) : Value := match v with
  | .ref i => .ref (ad i)
  | .retAddr _ => va_rf (match ad 4294968298 with | 0 => none | n + 1 => some n)
  | v => v
def zfv (ad : Nat → Nat) (S : zS) (k f : Nat) : Value := match zfk f with
  | 4 => va_rf ((gP S f k).map ad)
  | _ => .int (gI S f k)
def zE1 (dA : Nat → ClassId) (ad : Nat → Nat) (S : zS) (k : Nat) : va_E :=
  if ztyp S k < 100 then .inr (ztyp S k, (zfl (ztyp S k)).map (zfv ad S k))
  else if ztyp S k = 103 then .inl (dA (ztyp S k), zlen S k, .inr (.inl (gL S k)))
  else if ztyp S k < 110 then .inl (dA (ztyp S k), zlen S k, .inl (gA S k))
  else .inl (dA (ztyp S k), zlen S k, .inr (.inr (.inr (.inr (fun j => (gQ S k j).map ad)))))
/-- an exception's object that no constructor has seen -/
def zFr (D : va_G) (H : Heap) (a : Nat) : Prop := ∃ cell : Cell, H[a]? = some cell ∧ cell.monitor.owner = none ∧ cell.monitor.count = 0 ∧ cell.slots[D.2 8 2]? = some .null
def zHp (b : Nat) (ad : Nat → Nat) (D : va_G) (dA : Nat → ClassId) (H0 : Heap) (S : zS) (H : Heap) : Prop :=
  H.size = b + gN S ∧ gN S < zLB ∧ (∀ k, k < gN S → va_at D zcls (b + k, zE1 dA ad S k) H) ∧ (∀ q, q < b → H[q]? = H0[q]?) ∧ (∀ k, k < gN S → ztyp S k < 24 → ∀ cell : Cell, H[b + k]? = some cell → cell.slots.size = zslots (ztyp S k)) ∧ ∀ k, k < gN S → ztyp S k = 8 → zlen S k = 0 → zFr D H (b + k)
theorem zHp.upd {b : Nat} {ad : Nat → Nat} {D : va_G} {dA : Nat → ClassId} {H0 H H1 : Heap} {S S' : zS} (h : zHp b ad D dA H0 S H) {k : Nat} (hN : gN S' = gN S) (hT : gT S' = gT S) (ho : ∀ j, j < gN S → j ≠ k → zE1 dA ad S' j = zE1 dA ad S j) (he : va_at D zcls (b + k, zE1 dA ad S' k) H1) (hz : ztyp S k < 24 → ∃ c0 c1 : Cell, H[b + k]? = some c0 ∧ H1[b + k]? = some c1 ∧ c1.slots.size = c0.slots.size) (hf : ztyp S k = 8 → zlen S k ≠ 0) (hs : H1.size = H.size) (hq : ∀ q, q ≠ b + k → H1[q]? = H[q]?) : zHp b ad D dA H0 S' H1 := by
  obtain ⟨h1, h2, h3, h4, h5, h6⟩ := h
  have hty : ∀ j, ztyp S' j = ztyp S j := fun j => by unfold ztyp; rw [hT]
  have hle : ∀ j, zlen S' j = zlen S j := fun j => by unfold zlen; rw [hT]
  refine ⟨by rw [hs, hN, h1], by rw [hN]; exact h2, fun j hj => ?_, fun q hq2 => by rw [hq q (by omega)]; exact h4 q hq2, fun j hj ht cell hc => ?_, fun j hj ht hl => ?_⟩
  · rw [hN] at hj
    by_cases e : j = k
    · rw [e]; exact he
    · rw [ho j hj e]
      exact (h3 j hj).kept (hq _ (by simp only; omega))
  · rw [hN] at hj
    rw [hty j] at ht ⊢
    by_cases e : j = k
    · rw [e] at ht hc hj ⊢
      obtain ⟨c0, c1, g0, g1, g2⟩ := hz ht
      cases hc.symm.trans g1
      rw [g2]
      exact h5 k hj ht c0 g0
    · rw [hq _ (by omega)] at hc
      exact h5 j hj ht cell hc
  · rw [hN] at hj
    rw [hty j] at ht
    rw [hle j] at hl
    by_cases e : j = k
    · rw [e] at ht hl
      exact absurd hl (hf ht)
    · obtain ⟨cell, g1, g2⟩ := h6 j hj ht hl
      exact ⟨cell, by rw [hq _ (by omega)]; exact g1, g2⟩
theorem zHp.push {b : Nat} {ad : Nat → Nat} {D : va_G} {dA : Nat → ClassId} {H0 H H1 : Heap} {S S' : zS} (h : zHp b ad D dA H0 S H) (hN : gN S' = gN S + 1) (hl : gN S + 1 < zLB) (hty : ∀ j, j < gN S → ztyp S' j = ztyp S j ∧ zlen S' j = zlen S j) (ho : ∀ j, j < gN S → zE1 dA ad S' j = zE1 dA ad S j) (he : va_at D zcls (b + gN S, zE1 dA ad S' (gN S)) H1) (hz : ztyp S' (gN S) < 24 → ∀ cell : Cell, H1[b + gN S]? = some cell → cell.slots.size = zslots (ztyp S' (gN S))) (hf : ztyp S' (gN S) = 8 → zlen S' (gN S) = 0 → zFr D H1 (b + gN S)) (hs : H1.size = H.size + 1) (hq : ∀ q, q < H.size → H1[q]? = H[q]?) : zHp b ad D dA H0 S' H1 := by
  obtain ⟨h1, h2, h3, h4, h5, h6⟩ := h
  refine ⟨by rw [hs, hN, h1]; omega, by rw [hN]; exact hl, fun j hj => ?_, fun q hq2 => by rw [hq q (by omega)]; exact h4 q hq2, fun j hj ht cell hc => ?_, fun j hj ht hl0 => ?_⟩
  · rw [hN] at hj
    by_cases e : j = gN S
    · rw [e]; exact he
    · rw [ho j (by omega)]
      exact (h3 j (by omega)).kept (hq _ (by simp only; omega))
  · rw [hN] at hj
    by_cases e : j = gN S
    · rw [e] at ht hc ⊢
      exact hz ht cell hc
    · rw [(hty j (by omega)).1] at ht ⊢
      rw [hq _ (by omega)] at hc
      exact h5 j (by omega) ht cell hc
  · rw [hN] at hj
    by_cases e : j = gN S
    · rw [e] at ht hl0 ⊢
      exact hf ht hl0
    · rw [(hty j (by omega)).1] at ht
      rw [(hty j (by omega)).2] at hl0
      obtain ⟨cell, g1, g2⟩ := h6 j (by omega) ht hl0
      exact ⟨cell, by rw [hq _ (by omega)]; exact g1, g2⟩
/-- references that stand for something -/
def zvr (S : zS) (i : Nat) : Prop := i < gN S ∨ zLB ≤ i
def zvv (S : zS) (v : Value) : Prop := match v with
  | .ref i => zvr S i
  | _ => True
def zVal (S : zS) : Prop := (∀ f a i, gP S f a = some i → zvr S i) ∧ (∀ a j i, gQ S a j = some i → zvr S i)
/-- what lies at old numbers stays -/
def zOld (S S' : zS) : Prop := ∀ i, zLB ≤ i → gT S' i = gT S i ∧ (∀ f, gI S' f i = gI S f i ∧ gP S' f i = gP S f i) ∧ (∀ j, gA S' i j = gA S i j)
theorem zOld.rf (S : zS) : zOld S S := fun _ _ => ⟨rfl, fun _ => ⟨rfl, rfl⟩, fun _ => rfl⟩
theorem zOld.trans {S S' S'' : zS} (h : zOld S S') (h' : zOld S' S'') : zOld S S'' := fun i hi => ⟨(h' i hi).1.trans (h i hi).1, fun f => ⟨((h' i hi).2.1 f).1.trans ((h i hi).2.1 f).1, ((h' i hi).2.1 f).2.trans ((h i hi).2.1 f).2⟩, fun j => ((h' i hi).2.2 j).trans ((h i hi).2.2 j)⟩
theorem zD0_LB : zD0 < zLB := by decide
theorem ztyp_old {S S' : zS} (h : zOld S S') {i : Nat} (hi : zLB ≤ i) : ztyp S' i = ztyp S i ∧ zlen S' i = zlen S i := by
  have h0 : ¬ i < zD0 := by have := zD0_LB; omega
  unfold ztyp zlen
  rw [if_neg h0, if_neg h0, if_neg h0, if_neg h0, (h i hi).1]
  exact ⟨rfl, rfl⟩
/-! locals -/
def zlvA (ad : Nat → Nat) : Nat → List Value → List (Nat × Value)
  | _, [] => []
  | i, .retAddr _ :: t => zlvA ad (i + 1) t
  | i, v :: t => (i, zcv ad v) :: zlvA ad (i + 1) t
def zlv (ad : Nat → Nat) (L : List Value) : List (Nat × Value) := zlvA ad 0 L
theorem zlvA_mem {ad : Nat → Nat} {q : Nat × Value} : ∀ (L : List Value) (i : Nat), q ∈ zlvA ad i L ↔ ∃ j v, L[j]? = some v ∧ (∀ r, v ≠ .retAddr r) ∧ q = (i + j, zcv ad v) := by
  intro L
  induction L with
  | nil => intro i; simp [zlvA]
  | cons w t ih =>
    intro i
    have key : (∃ j v, (w :: t)[j]? = some v ∧ (∀ r, v ≠ .retAddr r) ∧ q = (i + j, zcv ad v)) ↔ ((∀ r, w ≠ .retAddr r) ∧ q = (i, zcv ad w)) ∨ ∃ j v, t[j]? = some v ∧ (∀ r, v ≠ .retAddr r) ∧ q = (i + 1 + j, zcv ad v) := by
      constructor
      · rintro ⟨j, v, h1, h2, h3⟩
        match j, h1 with
        | 0, h1 => cases h1; exact Or.inl ⟨h2, h3⟩
        | j + 1, h1 => exact Or.inr ⟨j, v, h1, h2, by rw [h3]; congr 1; omega⟩
      · rintro (⟨h2, h3⟩ | ⟨j, v, h1, h2, h3⟩)
        · exact ⟨0, w, rfl, h2, h3⟩
        · exact ⟨j + 1, v, h1, h2, by rw [h3]; congr 1; omega⟩
    rw [key]
    cases w with
    | retAddr r => simp only [zlvA]; rw [ih]; constructor
                   · exact fun h => Or.inr h
                   · rintro (⟨h, -⟩ | h)
                     · exact absurd rfl (h r)
                     · exact h
    | _ => simp only [zlvA, List.mem_cons]; rw [ih]; constructor
           · rintro (h | h)
             · exact Or.inl ⟨fun r => by simp, h⟩
             · exact Or.inr h
           · rintro (⟨-, h⟩ | h)
             · exact Or.inl h
             · exact Or.inr h
theorem zlv_mem {ad : Nat → Nat} {L : List Value} {q : Nat × Value} : q ∈ zlv ad L ↔ ∃ v, L[q.1]? = some v ∧ (∀ r, v ≠ .retAddr r) ∧ q.2 = zcv ad v := by
  unfold zlv
  rw [zlvA_mem]
  constructor
  · rintro ⟨j, v, h1, h2, h3⟩
    rw [h3]
    simp only [Nat.zero_add]
    exact ⟨v, h1, h2, rfl⟩
  · rintro ⟨v, h1, h2, h3⟩
    exact ⟨q.1, v, h1, h2, by rw [Nat.zero_add, ← h3]⟩
theorem zlv_at {ad : Nat → Nat} {L : List Value} {ls : Array Slot} {nL i : Nat} {v d : Value} (hl : lv_has ls nL (zlv ad L)) (h : L.getD i d = v) (hd : d ≠ v) (hr : ∀ r, v ≠ .retAddr r) : ls[i]? = some (.val (zcv ad v)) := by
  refine hl.2.2 (i, zcv ad v) (zlv_mem.mpr ⟨v, ?_, hr, rfl⟩)
  rw [List.getD_eq_getElem?_getD] at h
  cases e : L[i]? with
  | none => rw [e] at h; exact absurd h hd
  | some w => rw [e] at h; simp at h; rw [← h]
theorem zcv_cat {ad : Nat → Nat} (v : Value) : (zcv ad v).category = v.category := by
  cases v with
  | retAddr r => unfold zcv; simp only; split <;> rfl
  | _ => rfl
theorem zlv_less {ls : Array Slot} {nL : Nat} {l l' : List (Nat × Value)} (h : lv_has ls nL l) (hs : ∀ q ∈ l', q ∈ l) : lv_has ls nL l' := ⟨h.1, h.2.1, fun q hq => h.2.2 q (hs q hq)⟩
theorem zcl_at {L : List Value} {i j : Nat} {v : Value} (h : (zcl L i)[j]? = some v) (hr : ∀ r, v ≠ .retAddr r) : L[j]? = some v ∧ (j + 1 = i → ¬ v.category = 2) := by
  unfold zcl at h
  split at h
  · exact ⟨h, fun e => by omega⟩
  · rename_i i0 k
    have base : L.getD k .null = v ∨ j ≠ k ∨ L[j]? = none → True := fun _ => trivial
    split at h
    · rename_i x hx
      by_cases e : j = k
      · subst e
        by_cases hlt : j < L.length
        · rw [List.getElem?_set_self hlt] at h; cases h; exact absurd rfl (hr 0)
        · rw [List.getElem?_eq_none (by simp; omega)] at h; cases h
      · rw [List.getElem?_set_ne (Ne.symm e)] at h
        exact ⟨h, fun q => by omega⟩
    · rename_i x hx
      by_cases e : j = k
      · subst e
        by_cases hlt : j < L.length
        · rw [List.getElem?_set_self hlt] at h; cases h; exact absurd rfl (hr 0)
        · rw [List.getElem?_eq_none (by simp; omega)] at h; cases h
      · rw [List.getElem?_set_ne (Ne.symm e)] at h
        exact ⟨h, fun q => by omega⟩
    · rename_i n1 n2
      refine ⟨h, fun q => ?_⟩
      have e : j = k := by omega
      subst e
      have hg : L.getD j .null = v := by rw [List.getD_eq_getElem?_getD, h]; rfl
      intro hc
      cases v with
      | long x => exact n1 x hg
      | double x => exact n2 x hg
      | _ => simp [Value.category] at hc
theorem zst1_sub {ad : Nat → Nat} {L : List Value} {i : Nat} {v : Value} : ∀ q ∈ zlv ad (zst1 L i v), q ∈ (i, zcv ad v) :: (zlv ad L).filter (fun q => !(q.1 == i) && !(q.1 + 1 == i && q.2.category == 2)) := by
  intro q hq
  obtain ⟨w, h1, h2, h3⟩ := zlv_mem.mp hq
  unfold zst1 at h1
  by_cases e : q.1 = i
  · rw [e] at h1
    by_cases hlt : i < (zcl L i).length
    · rw [List.getElem?_set_self hlt] at h1
      cases h1
      exact List.mem_cons.mpr (Or.inl (Prod.ext e h3))
    · rw [List.getElem?_eq_none (by simp; omega)] at h1; cases h1
  · rw [List.getElem?_set_ne (Ne.symm e)] at h1
    obtain ⟨h4, h5⟩ := zcl_at h1 h2
    refine List.mem_cons.mpr (Or.inr (List.mem_filter.mpr ⟨zlv_mem.mpr ⟨w, h4, h2, h3⟩, ?_⟩))
    simp only [Bool.and_eq_true, Bool.not_eq_true', beq_eq_false_iff_ne, Bool.and_eq_false_iff]
    refine ⟨e, ?_⟩
    by_cases e2 : q.1 + 1 = i
    · right; rw [h3, zcv_cat]; exact h5 e2
    · left; exact e2
theorem zst2_sub {ad : Nat → Nat} {L : List Value} {i : Nat} {v : Value} : ∀ q ∈ zlv ad (zst2 L i v), q ∈ (i, zcv ad v) :: (zlv ad L).filter (fun q => !(q.1 == i) && (!(q.1 == i + 1) && !(q.1 + 1 == i && q.2.category == 2))) := by
  intro q hq
  obtain ⟨w, h1, h2, h3⟩ := zlv_mem.mp hq
  unfold zst2 at h1
  by_cases e0 : q.1 = i + 1
  · rw [e0] at h1
    by_cases hlt : i + 1 < ((zcl L i).set i v).length
    · rw [List.getElem?_set_self hlt] at h1; cases h1; exact absurd rfl (h2 0)
    · rw [List.getElem?_eq_none (by simp at hlt ⊢; omega)] at h1; cases h1
  · rw [List.getElem?_set_ne (Ne.symm e0)] at h1
    by_cases e : q.1 = i
    · rw [e] at h1
      by_cases hlt : i < (zcl L i).length
      · rw [List.getElem?_set_self hlt] at h1
        cases h1
        exact List.mem_cons.mpr (Or.inl (Prod.ext e h3))
      · rw [List.getElem?_eq_none (by simp; omega)] at h1; cases h1
    · rw [List.getElem?_set_ne (Ne.symm e)] at h1
      obtain ⟨h4, h5⟩ := zcl_at h1 h2
      refine List.mem_cons.mpr (Or.inr (List.mem_filter.mpr ⟨zlv_mem.mpr ⟨w, h4, h2, h3⟩, ?_⟩))
      simp only [Bool.and_eq_true, Bool.not_eq_true', beq_eq_false_iff_ne, Bool.and_eq_false_iff]
      refine ⟨e, e0, ?_⟩
      by_cases e2 : q.1 + 1 = i
      · right; rw [h3, zcv_cat]; exact h5 e2
      · left; exact e2
