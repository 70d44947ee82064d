/-! ===== frames of the abstract state ===== -/
theorem zu_ne1 {α : Type} {m : Nat → Nat → α} {f a g c : Nat} {v : α} (h : g ≠ f) : zu m f a v g c = m g c := by unfold zu; rw [if_neg h]
theorem zu_ne2 {α : Type} {m : Nat → Nat → α} {f a g c : Nat} {v : α} (h : c ≠ a) : zu m f a v g c = m g c := by
  unfold zu
  by_cases e : g = f
  · rw [if_pos e, if_neg h]
  · rw [if_neg e]
theorem zu_eq {α : Type} {m : Nat → Nat → α} {f a : Nat} {v : α} : zu m f a v f a = v := by unfold zu; rw [if_pos rfl, if_pos rfl]
/-- nothing changes at this number -/
def zSame (S S' : zS) (k : Nat) : Prop := gT S' k = gT S k ∧ (∀ f, gI S' f k = gI S f k) ∧ (∀ f, gP S' f k = gP S f k) ∧ (∀ j, gA S' k j = gA S k j) ∧ (∀ j, gL S' k j = gL S k j) ∧ (∀ j, gQ S' k j = gQ S k j)
theorem zSame.rf (S : zS) (k : Nat) : zSame S S k := ⟨rfl, fun _ => rfl, fun _ => rfl, fun _ => rfl, fun _ => rfl, fun _ => rfl⟩
theorem zSame.trans {S S' S'' : zS} {k : Nat} (h : zSame S S' k) (h' : zSame S' S'' k) : zSame S S'' k := ⟨h'.1.trans h.1, fun f => (h'.2.1 f).trans (h.2.1 f), fun f => (h'.2.2.1 f).trans (h.2.2.1 f), fun j => (h'.2.2.2.1 j).trans (h.2.2.2.1 j), fun j => (h'.2.2.2.2.1 j).trans (h.2.2.2.2.1 j), fun j => (h'.2.2.2.2.2 j).trans (h.2.2.2.2.2 j)⟩
theorem zSame.typ {S S' : zS} {k : Nat} (h : zSame S S' k) : ztyp S' k = ztyp S k ∧ zlen S' k = zlen S k := by
  unfold ztyp zlen
  rw [h.1]
  exact ⟨rfl, rfl⟩
theorem zSame.sI {S : zS} {f a k : Nat} {v : Int32} (h : k ≠ a) : zSame S (sI S f a v) k := ⟨rfl, fun _ => zu_ne2 h, fun _ => rfl, fun _ => rfl, fun _ => rfl, fun _ => rfl⟩
theorem zSame.sP {S : zS} {f a k : Nat} {v : Option Nat} (h : k ≠ a) : zSame S (sP S f a v) k := ⟨rfl, fun _ => rfl, fun _ => zu_ne2 h, fun _ => rfl, fun _ => rfl, fun _ => rfl⟩
theorem zSame.sA {S : zS} {a j k : Nat} {v : Int32} (h : k ≠ a) : zSame S (sA S a j v) k := ⟨rfl, fun _ => rfl, fun _ => rfl, fun _ => zu_ne1 h, fun _ => rfl, fun _ => rfl⟩
theorem zSame.sL {S : zS} {a j k : Nat} {v : Int64} (h : k ≠ a) : zSame S (sL S a j v) k := ⟨rfl, fun _ => rfl, fun _ => rfl, fun _ => rfl, fun _ => zu_ne1 h, fun _ => rfl⟩
theorem zSame.sQ {S : zS} {a j k : Nat} {v : Option Nat} (h : k ≠ a) : zSame S (sQ S a j v) k := ⟨rfl, fun _ => rfl, fun _ => rfl, fun _ => rfl, fun _ => rfl, fun _ => zu_ne1 h⟩
theorem zSame.sNew {S : zS} {ty len sl k : Nat} (h : k ≠ gN S) : zSame S (sNew S ty len sl) k := ⟨if_neg h, fun _ => if_neg h, fun _ => if_neg h, fun _ => if_neg h, fun _ => if_neg h, fun _ => if_neg h⟩
theorem zSame.cp {S : zS} {s d sp dp n k : Nat} (h : k ≠ d) : zSame S (zcopy S s d sp dp n) k := ⟨rfl, fun _ => rfl, fun _ => rfl, fun _ => if_neg h, fun _ => rfl, fun _ => rfl⟩
theorem zE1_same {dA : Nat → ClassId} {ad : Nat → Nat} {S S' : zS} {k : Nat} (h : zSame S S' k) : zE1 dA ad S' k = zE1 dA ad S k := by
  obtain ⟨ht, hl⟩ := h.typ
  obtain ⟨-, h1, h2, h3, h4, h5⟩ := h
  have e3 : gA S' k = gA S k := funext h3
  have e4 : gL S' k = gL S k := funext h4
  have e5 : gQ S' k = gQ S k := funext h5
  have e6 : zfv ad S' k = zfv ad S k := funext fun f => by unfold zfv; rw [h1 f, h2 f]
  unfold zE1
  rw [ht, hl, e3, e4, e5, e6]
theorem zE1_i {dA : Nat → ClassId} {ad : Nat → Nat} {S : zS} {k t : Nat} (ht : ztyp S k = t) (h1 : 100 ≤ t) (h2 : t < 103) : zE1 dA ad S k = .inl (dA t, zlen S k, .inl (gA S k)) := by
  unfold zE1
  rw [ht, if_neg (by omega), if_neg (by omega), if_pos (by omega)]
theorem zE1_l {dA : Nat → ClassId} {ad : Nat → Nat} {S : zS} {k : Nat} (ht : ztyp S k = 103) : zE1 dA ad S k = .inl (dA 103, zlen S k, .inr (.inl (gL S k))) := by
  unfold zE1
  rw [ht, if_neg (by omega), if_pos rfl]
theorem zE1_q {dA : Nat → ClassId} {ad : Nat → Nat} {S : zS} {k t : Nat} (ht : ztyp S k = t) (h1 : 110 ≤ t) : zE1 dA ad S k = .inl (dA t, zlen S k, .inr (.inr (.inr (.inr (fun j => (gQ S k j).map ad))))) := by
  unfold zE1
  rw [ht, if_neg (by omega), if_neg (by omega), if_neg (by omega)]
theorem zE1_o {dA : Nat → ClassId} {ad : Nat → Nat} {S : zS} {k t : Nat} (ht : ztyp S k = t) (h1 : t < 100) : zE1 dA ad S k = .inr (t, (zfl t).map (zfv ad S k)) := by
  unfold zE1
  rw [ht, if_pos h1]
/-- which types there are -/
def zok (t : Nat) : Bool := (decide (t < 24) && (t != 10 && t != 12)) || (decide (100 ≤ t) && decide (t ≤ 103)) || (decide (110 ≤ t) && decide (t ≤ 114))
def zTy (S : zS) : Prop := ∀ a, a < gN S → zok (ztyp S a) = true
theorem znew_typ {S : zS} {t n sl : Nat} (h : znew S t n) : ztyp (sNew S t n sl) (gN S) = t ∧ zlen (sNew S t n sl) (gN S) = n := by
  unfold ztyp zlen
  by_cases hl : gN S < zD0
  · rw [if_pos hl, if_pos hl, h.1 hl]; exact ⟨rfl, rfl⟩
  · rw [if_neg hl, if_neg hl]
    have e : gT (sNew S t n sl) (gN S) = (t, n) := if_pos rfl
    rw [e]; exact ⟨rfl, rfl⟩
theorem zad_lt {b i : Nat} {oa : Nat → Nat} (h : i < zLB) : zad b oa i = b + i := if_pos h
/-- what is known of old cells -/
def zLa (s : State) (H0 : Heap) (a : Nat) (ty : FieldType) (n : Nat) (f : Nat → Int32) : Prop := ∃ cell : Cell, H0[a]? = some cell ∧ s.isArrayOf cell ty ∧ cell.vm ≠ .unknown ∧ (n ≤ cell.slots.size ∧ cell.slots.size.toInt32 = Int32.ofNat n) ∧ ∀ j : Nat, j < n → cell.slots[j]? = some (.int (f j))
def zLo (D : va_G) (ad : Nat → Nat) (S : zS) (s : State) (H0 : Heap) (i : Nat) : Prop := ∃ cell : Cell, H0[ad i]? = some cell ∧ cell.vm.isStatics = false ∧ cell.vm ≠ .unknown ∧ s.vm.findClass "java/lang/String" = some cell.cls ∧ cell.slots[D.2 22 0]? = some (zfv ad S i 199) ∧ cell.slots[D.2 22 1]? = some (zfv ad S i 200)
def zLit (b : Nat) (ad : Nat → Nat) (D : va_G) (H0 : Heap) (S : zS) (s : State) : Prop := ∀ i, zLB ≤ i → (ztyp S i = 120 ∧ ad i < b ∧ zLa s H0 (ad i) .int (zlen S i) (gA S i)) ∨ (ztyp S i = 121 ∧ ad i < b ∧ zLa s H0 (ad i) .byte (zlen S i) (gA S i)) ∨ (ztyp S i = 22 ∧ ad i < b ∧ zLo D ad S s H0 i) ∨ ztyp S i = 99
theorem zLit.old {b : Nat} {ad : Nat → Nat} {D : va_G} {H0 : Heap} {S S' : zS} {s : State} (h : zLit b ad D H0 S s) (ho : zOld S S') : zLit b ad D H0 S' s := by
  intro i hi
  obtain ⟨e1, e2⟩ := ztyp_old ho hi
  have e3 : gA S' i = gA S i := funext (ho i hi).2.2
  have e4 : ∀ f, zfv ad S' i f = zfv ad S i f := fun f => by unfold zfv; rw [((ho i hi).2.1 f).1, ((ho i hi).2.1 f).2]
  rw [e1, e2, e3]
  unfold zLo
  rw [e4, e4]
  exact h i hi
theorem zLa.moved {u U : State} {H0 : Heap} {a n : Nat} {ty : FieldType} {f : Nat → Int32} (hvm : u.vm.Alike U.vm) (h : zLa u H0 a ty n f) : zLa U H0 a ty n f := by
  obtain ⟨cell, h1, h2, h3⟩ := h
  exact ⟨cell, h1, State.isArrayOf_alike hvm h2, h3⟩
theorem zLit.moved {b : Nat} {ad : Nat → Nat} {D : va_G} {H0 : Heap} {S : zS} {u U : State} (hvm : u.vm.Alike U.vm) (h : zLit b ad D H0 S u) : zLit b ad D H0 S U := by
  intro i hi
  rcases h i hi with ⟨h1, h2, h3⟩ | ⟨h1, h2, h3⟩ | ⟨h1, h2, cell, h3, h4, h5, h6, h7⟩ | h1
  · exact Or.inl ⟨h1, h2, h3.moved hvm⟩
  · exact Or.inr (Or.inl ⟨h1, h2, h3.moved hvm⟩)
  · exact Or.inr (Or.inr (Or.inl ⟨h1, h2, cell, h3, h4, h5, by rw [hvm.findClass]; exact h6, h7⟩))
  · exact Or.inr (Or.inr (Or.inr h1))
/-- of these types there are no old ones -/
theorem zLit.new {b : Nat} {ad : Nat → Nat} {D : va_G} {H0 : Heap} {S : zS} {s : State} (h : zLit b ad D H0 S s) {a : Nat} (hv : zvr S a) (ht : ztyp S a ≠ 120 ∧ ztyp S a ≠ 121 ∧ ztyp S a ≠ 22 ∧ ztyp S a ≠ 99) : a < gN S := by
  rcases hv with hv | hv
  · exact hv
  · rcases h a hv with h1 | h1 | h1 | h1
    · exact absurd h1.1 ht.1
    · exact absurd h1.1 ht.2.1
    · exact absurd h1.1 ht.2.2.1
    · exact absurd h1 ht.2.2.2
theorem zP1 {D : va_G} {cl : List vw_C} {q : Nat × va_E} {H : Heap} (h : va_at D cl q H) : va_P D cl [q] H := by
  intro k q' hk
  match k, hk with
  | 0, hk => cases hk; exact h
def ztys (dA : Nat → ClassId) : List (ClassId × FieldType) := [(dA 100, .int), (dA 101, .byte), (dA 102, .boolean), (dA 103, .long), (dA 110, .array .byte), (dA 111, .object "SpendHouse$Item"), (dA 112, .object "SpendHouse$Way"), (dA 113, .object "SpendHouse$Node"), (dA 114, .object "SpendHouse$Policy")]
theorem zcell_of {D : va_G} {dA : Nat → ClassId} {b : Nat} {ad : Nat → Nat} {H0 H : Heap} {S : zS} (h : zHp b ad D dA H0 S H) {a : Nat} (ha : a < gN S) : va_at D zcls (b + a, zE1 dA ad S a) H := h.2.2.1 a ha
section Z3
variable {p : Program} {l : Launch} {e0 : Env} {R : Room} {s : State} {m : MethodId} {args : Array Value} {below : List Frame} {meth : Method} {c : Code} {H H0 : Heap} {locs : List Loc} {Q : State → Prop} {cc : ByteArray} {ls : Array Slot} {nL : Nat} {b nE sE : Nat} {oa : Nat → Nat} {D : va_G} {dA : Nat → ClassId} {S : zS} {L st : List Value} {e : zE} {o : Nat}
/-- a load out of an old array -/
theorem zold_cell {a : Nat} {ad : Nat → Nat} {ty : FieldType} {n : Nat} {f : Nat → Int32} (hH : zHp b ad D dA H0 S H) (ha : ad a < b) (h : zLa s H0 (ad a) ty n f) : zLa s H (ad a) ty n f := by
  obtain ⟨cell, h1, h2⟩ := h
  exact ⟨cell, by rw [hH.2.2.2.1 _ ha]; exact h1, h2⟩
theorem zarr_snd (hx : p.tables.exec = Jvm.exec) (hb : c.code = cc) (hd : decode cc e.1 = .ok (e.2.1, e.2.2.1)) (hk : zck o nL e = true) (hown : s.vm.findClass (zcn o) = some m.cls) (hts : ∀ w ∈ lw_all, w.before args s = true) (hKx : zKx s)
    (hK : va_K D zcls (ztys dA) s) (hLit : zLit b (zad b oa) D H0 S s) (hTy : zTy S) (hstv : ∀ v ∈ st, zvv S v) (hH : zHp b (zad b oa) D dA H0 S H) (hS : va_S (fun q => b ≤ q) s.heap H locs)
    {q} (h : zarr e (e.1 + e.2.2.1) L st S = some q) (hc : ∀ c, q.1 = some c → c) (hn : nE ≤ gN S) (hz : sE ≤ gZ S) (hrn : gN q.2.2.2.2 ≤ nE + R.cells) (hrz : gZ q.2.2.2.2 ≤ sE + R.slots)
    (k : ∀ H' locs', zHp b (zad b oa) D dA H0 q.2.2.2.2 H' → va_S (fun q => b ≤ q) s.heap H' locs' → W p l e0 R s m args below meth c H' locs' (gN q.2.2.2.2 - nE) (gZ q.2.2.2.2 - sE) Q (F0 m q.2.1 ls (q.2.2.2.1.map (zcv (zad b oa))))) :
    W p l e0 R s m args below meth c H locs (gN S - nE) (gZ S - sE) Q (F0 m e.1 ls (st.map (zcv (zad b oa)))) := by
  obtain ⟨pc, i, n, v, a9, sw, vt⟩ := e
  have hLB : gN S < zLB := hH.2.1
  have key : ∀ a, zvr S a → (ztyp S a ≠ 120 ∧ ztyp S a ≠ 121 ∧ ztyp S a ≠ 22 ∧ ztyp S a ≠ 99) → a < gN S ∧ zad b oa a = b + a := fun a hv ht => by
    have := hLit.new hv ht
    exact ⟨this, zad_lt (by omega)⟩
  unfold zarr at h
  simp only at h hd
  split at h
  · -- arraylength
    rename_i a r
    simp only [zck, beq_iff_eq] at hk
    subst hk
    have h2 := Option.some.inj h; subst h2
    have ht := hc _ rfl
    rcases hstv (.ref a) (by simp) with hv | hv
    · have hat := zcell_of hH hv
      have e1 := zad_lt (b := b) (oa := oa) (Nat.lt_trans hv hLB)
      show W p l e0 R s m args below meth c H locs _ _ Q (F0 m pc ls (.ref (zad b oa a) :: r.map (zcv (zad b oa))))
      rw [e1]
      have hok := hTy a hv
      simp only [zok, Bool.or_eq_true, Bool.and_eq_true, decide_eq_true_eq, bne_iff_ne] at hok
      have hcase : ztyp S a = 100 ∨ ztyp S a = 101 ∨ ztyp S a = 102 ∨ ztyp S a = 103 ∨ ztyp S a = 110 ∨ ztyp S a = 111 ∨ ztyp S a = 112 ∨ ztyp S a = 113 ∨ ztyp S a = 114 := by omega
      rcases hcase with g | g | g | g | g | g | g | g | g
      · rw [zE1_i g (by omega) (by omega)] at hat; exact va_alen hx hb hK (zP1 hat) 0 0 rfl rfl rfl hd (k H locs hH hS)
      · rw [zE1_i g (by omega) (by omega)] at hat; exact va_alen hx hb hK (zP1 hat) 0 1 rfl rfl rfl hd (k H locs hH hS)
      · rw [zE1_i g (by omega) (by omega)] at hat; exact va_alen hx hb hK (zP1 hat) 0 2 rfl rfl rfl hd (k H locs hH hS)
      · rw [zE1_l g] at hat; exact va_alen hx hb hK (zP1 hat) 0 3 rfl rfl rfl hd (k H locs hH hS)
      · rw [zE1_q g (by omega)] at hat; exact va_alen hx hb hK (zP1 hat) 0 4 rfl rfl rfl hd (k H locs hH hS)
      · rw [zE1_q g (by omega)] at hat; exact va_alen hx hb hK (zP1 hat) 0 5 rfl rfl rfl hd (k H locs hH hS)
      · rw [zE1_q g (by omega)] at hat; exact va_alen hx hb hK (zP1 hat) 0 6 rfl rfl rfl hd (k H locs hH hS)
      · rw [zE1_q g (by omega)] at hat; exact va_alen hx hb hK (zP1 hat) 0 7 rfl rfl rfl hd (k H locs hH hS)
      · rw [zE1_q g (by omega)] at hat; exact va_alen hx hb hK (zP1 hat) 0 8 rfl rfl rfl hd (k H locs hH hS)
    · rcases hLit a hv with ⟨h1, h2, h3⟩ | ⟨h1, h2, h3⟩ | ⟨h1, -⟩ | h1
      · obtain ⟨cell, g1, g2, g3, g4, g5⟩ := zold_cell hH h2 h3
        exact W.alen (n := Int32.ofNat (zlen S a)) hx hb g1 g2 g4.2 rfl rfl hd (k H locs hH hS)
      · obtain ⟨cell, g1, g2, g3, g4, g5⟩ := zold_cell hH h2 h3
        exact W.alen (n := Int32.ofNat (zlen S a)) hx hb g1 g2 g4.2 rfl rfl hd (k H locs hH hS)
      · omega
      · omega
  · -- iaload
    rename_i j a r
    simp only [zck, beq_iff_eq] at hk
    subst hk
    have h2 := Option.some.inj h; subst h2
    obtain ⟨ht, hin⟩ := hc _ rfl
    rcases hstv (.ref a) (by simp) with hv | hv
    · have hat := zcell_of hH hv
      have e1 := zad_lt (b := b) (oa := oa) (Nat.lt_trans hv hLB)
      show W p l e0 R s m args below meth c H locs _ _ Q (F0 m pc ls (.int j :: .ref (zad b oa a) :: r.map (zcv (zad b oa))))
      rw [e1]
      have hok := hTy a hv
      simp only [zok, Bool.or_eq_true, Bool.and_eq_true, decide_eq_true_eq, bne_iff_ne] at hok
      have g : ztyp S a = 100 := by omega
      rw [zE1_i g (by omega) (by omega)] at hat
      exact va_iald hx hb hK (zP1 hat) 0 0 rfl rfl hin hd (k H locs hH hS)
    · rcases hLit a hv with ⟨h1, h2, h3⟩ | ⟨h1, -⟩ | ⟨h1, -⟩ | h1
      · obtain ⟨cell, g1, g2, g3, g4, g5⟩ := zold_cell hH h2 h3
        have hlt : j.toNatClampNeg < zlen S a := Nat.not_le.mp fun q => hin (Or.inr q)
        exact W.iald (v := .int (gA S a j.toNatClampNeg)) hx hb g1 g2 g3 (fun h => h.elim (fun h => hin (Or.inl h)) (fun h => hin (Or.inr (Nat.le_trans g4.1 h)))) (g5 _ hlt) rfl rfl hd (k H locs hH hS)
      · omega
      · omega
      · omega
  · -- baload
    rename_i j a r
    simp only [zck, beq_iff_eq] at hk
    subst hk
    have h2 := Option.some.inj h; subst h2
    obtain ⟨ht, hin⟩ := hc _ rfl
    rcases hstv (.ref a) (by simp) with hv | hv
    · have hat := zcell_of hH hv
      have e1 := zad_lt (b := b) (oa := oa) (Nat.lt_trans hv hLB)
      show W p l e0 R s m args below meth c H locs _ _ Q (F0 m pc ls (.int j :: .ref (zad b oa a) :: r.map (zcv (zad b oa))))
      rw [e1]
      have hok := hTy a hv
      simp only [zok, Bool.or_eq_true, Bool.and_eq_true, decide_eq_true_eq, bne_iff_ne] at hok
      have g : ztyp S a = 101 ∨ ztyp S a = 102 := by omega
      rcases g with g | g
      · rw [zE1_i g (by omega) (by omega)] at hat
        exact va_bald hx hb hK (zP1 hat) 0 1 rfl rfl hin hd (k H locs hH hS)
      · rw [zE1_i g (by omega) (by omega)] at hat
        exact va_zald hx hb hK (zP1 hat) 0 2 rfl rfl hin hd (k H locs hH hS)
    · rcases hLit a hv with ⟨h1, -⟩ | ⟨h1, h2, h3⟩ | ⟨h1, -⟩ | h1
      · omega
      · obtain ⟨cell, g1, g2, g3, g4, g5⟩ := zold_cell hH h2 h3
        have hlt : j.toNatClampNeg < zlen S a := Nat.not_le.mp fun q => hin (Or.inr q)
        exact W.bald (v := .int (gA S a j.toNatClampNeg)) hx hb g1 g2 g3 (fun h => h.elim (fun h => hin (Or.inl h)) (fun h => hin (Or.inr (Nat.le_trans g4.1 h)))) (g5 _ hlt) rfl rfl hd (k H locs hH hS)
      · omega
      · omega
  · -- laload
    rename_i j a r
    simp only [zck, beq_iff_eq] at hk
    subst hk
    have h2 := Option.some.inj h; subst h2
    obtain ⟨ht, hin⟩ := hc _ rfl
    obtain ⟨hv, e1⟩ := key a (hstv (.ref a) (by simp)) (by omega)
    have hat := zcell_of hH hv
    show W p l e0 R s m args below meth c H locs _ _ Q (F0 m pc ls (.int j :: .ref (zad b oa a) :: r.map (zcv (zad b oa))))
    rw [e1]
    rw [zE1_l ht] at hat
    exact va_lald hx hb hK (zP1 hat) 0 3 rfl rfl hin hd (k H locs hH hS)
  · -- aaload
    rename_i j a r
    simp only [zck, beq_iff_eq] at hk
    subst hk
    have h2 := Option.some.inj h; subst h2
    obtain ⟨ht, hin⟩ := hc _ rfl
    obtain ⟨hv, e1⟩ := key a (hstv (.ref a) (by simp)) (by omega)
    have hat := zcell_of hH hv
    rw [zE1_q rfl ht.1] at hat
    have hlt : j.toNatClampNeg < zlen S a := Nat.not_le.mp fun q => hin (Or.inr q)
    have hr : ∃ ty : FieldType, ty.isReference = true ∧ ArrOfT s (dA (ztyp S a)) ty := by
      have hcase : ztyp S a = 110 ∨ ztyp S a = 111 ∨ ztyp S a = 112 ∨ ztyp S a = 113 ∨ ztyp S a = 114 := by omega
      rcases hcase with g | g | g | g | g
      · rw [g]; exact ⟨_, rfl, (hK.2 4 _ rfl).1⟩
      · rw [g]; exact ⟨_, rfl, (hK.2 5 _ rfl).1⟩
      · rw [g]; exact ⟨_, rfl, (hK.2 6 _ rfl).1⟩
      · rw [g]; exact ⟨_, rfl, (hK.2 7 _ rfl).1⟩
      · rw [g]; exact ⟨_, rfl, (hK.2 8 _ rfl).1⟩
    obtain ⟨ty, hty, hAr⟩ := hr
    have kk := k H locs hH hS
    have ev : zcv (zad b oa) (zrf (gQ S a j.toNatClampNeg)) = va_rf ((gQ S a j.toNatClampNeg).map (zad b oa)) := by cases gQ S a j.toNatClampNeg <;> rfl
    simp only [List.map_cons, ev] at kk
    show W p l e0 R s m args below meth c H locs _ _ Q (F0 m pc ls (.int j :: .ref (zad b oa a) :: r.map (zcv (zad b oa))))
    rw [e1]
    exact W.aald (v := va_rf ((gQ S a j.toNatClampNeg).map (zad b oa))) (ty := ty) hx hb (hat : H[b + a]? = _) (hAr (zlen S a) (fun j => va_rf ((gQ S a j).map (zad b oa)))) hty (fun q => by cases q) (by show ¬ (j < 0 ∨ (arrV _ _ _).slots.size ≤ _); rw [arrV_size]; exact hin) (by show (arrV _ _ _).slots[_]? = _; rw [arrV_read _ _ hlt]) rfl rfl hd kk
  · -- iastore
    rename_i x j a r
    simp only [zck, beq_iff_eq] at hk
    subst hk
    have h2 := Option.some.inj h; subst h2
    obtain ⟨ht, hin⟩ := hc _ rfl
    obtain ⟨hv, e1⟩ := key a (hstv (.ref a) (by simp)) (by omega)
    have hat := zcell_of hH hv
    rw [zE1_i ht (by omega) (by omega)] at hat
    show W p l e0 R s m args below meth c H locs _ _ Q (F0 m pc ls (.int x :: .int j :: .ref (zad b oa a) :: r.map (zcv (zad b oa))))
    rw [e1]
    refine W.iast hx hb (hat : H[b + a]? = _) ((hK.2 0 _ rfl).1 (zlen S a) (fun j => .int (gA S a j))) (fun q => by cases q) (by show ¬ (j < 0 ∨ (arrV _ _ _).slots.size ≤ _); rw [arrV_size]; exact hin) rfl rfl hd fun H1 e z oq => ?_
    refine k H1 _ (hH.upd rfl rfl (fun j _ hj => zE1_same (zSame.sA hj)) ?_ (fun h => by omega) (fun h => by omega) z oq) (hS.put z oq (Nat.le_add_right _ _))
    rw [zE1_i (S := sA S a j.toNatClampNeg x) (show ztyp S a = 100 from ht) (by omega) (by omega)]
    show H1[b + a]? = some (vp_cell _ _)
    rw [e, vp_cell_i, vp_cell_i, arrV_store]
    congr 2
    funext q
    show updV _ _ _ q = Value.int (zu S.2.2.1 a j.toNatClampNeg x a q)
    by_cases hq : q = j.toNatClampNeg
    · subst hq; simp [updV, zu]
    · simp [updV, zu, hq]; rfl
  · -- bastore
    rename_i x j a r
    simp only [zck, beq_iff_eq] at hk
    subst hk
    have h2 := Option.some.inj h; subst h2
    obtain ⟨ht, hin⟩ := hc _ rfl
    obtain ⟨hv, e1⟩ := key a (hstv (.ref a) (by simp)) (by omega)
    have hat := zcell_of hH hv
    show W p l e0 R s m args below meth c H locs _ _ Q (F0 m pc ls (.int x :: .int j :: .ref (zad b oa a) :: r.map (zcv (zad b oa))))
    rw [e1]
    rcases ht with ⟨ht, hxv⟩ | ⟨ht, hxv⟩
    · rw [zE1_i ht (by omega) (by omega)] at hat
      refine W.bast hx hb (hat : H[b + a]? = _) ((hK.2 1 _ rfl).1 (zlen S a) (fun j => .int (gA S a j))) (fun q => by cases q) (by show ¬ (j < 0 ∨ (arrV _ _ _).slots.size ≤ _); rw [arrV_size]; exact hin) rfl rfl hd fun H1 e z oq => ?_
      refine k H1 _ (hH.upd rfl rfl (fun j _ hj => zE1_same (zSame.sA hj)) ?_ (fun h => by omega) (fun h => by omega) z oq) (hS.put z oq (Nat.le_add_right _ _))
      rw [zE1_i (S := sA S a j.toNatClampNeg x) (show ztyp S a = 101 from ht) (by omega) (by omega)]
      show H1[b + a]? = some (vp_cell _ _)
      rw [e, vp_cell_i, vp_cell_i, arrV_store]
      congr 2
      funext q
      show updV _ _ _ q = Value.int (zu S.2.2.1 a j.toNatClampNeg x a q)
      by_cases hq : q = j.toNatClampNeg
      · subst hq; simp [updV, zu]; exact congrArg Value.int hxv
      · simp [updV, zu, hq]; rfl
    · rw [zE1_i ht (by omega) (by omega)] at hat
      refine W.zast hx hb (hat : H[b + a]? = _) ((hK.2 2 _ rfl).1 (zlen S a) (fun j => .int (gA S a j))) (fun q => by cases q) (by show ¬ (j < 0 ∨ (arrV _ _ _).slots.size ≤ _); rw [arrV_size]; exact hin) rfl rfl hd fun H1 e z oq => ?_
      refine k H1 _ (hH.upd rfl rfl (fun j _ hj => zE1_same (zSame.sA hj)) ?_ (fun h => by omega) (fun h => by omega) z oq) (hS.put z oq (Nat.le_add_right _ _))
      rw [zE1_i (S := sA S a j.toNatClampNeg x) (show ztyp S a = 102 from ht) (by omega) (by omega)]
      show H1[b + a]? = some (vp_cell _ _)
      rw [e, vp_cell_i, vp_cell_i, arrV_store]
      congr 2
      funext q
      show updV _ _ _ q = Value.int (zu S.2.2.1 a j.toNatClampNeg x a q)
      by_cases hq : q = j.toNatClampNeg
      · subst hq; rcases hxv with rfl | rfl <;> (simp [updV, zu]; decide)
      · simp [updV, zu, hq]; rfl
  · -- lastore
    rename_i x j a r
    simp only [zck, beq_iff_eq] at hk
    subst hk
    have h2 := Option.some.inj h; subst h2
    obtain ⟨ht, hin⟩ := hc _ rfl
    obtain ⟨hv, e1⟩ := key a (hstv (.ref a) (by simp)) (by omega)
    have hat := zcell_of hH hv
    rw [zE1_l ht] at hat
    show W p l e0 R s m args below meth c H locs _ _ Q (F0 m pc ls (.long x :: .int j :: .ref (zad b oa a) :: r.map (zcv (zad b oa))))
    rw [e1]
    refine W.last hx hb (hat : H[b + a]? = _) ((hK.2 3 _ rfl).1 (zlen S a) (fun j => .long (gL S a j))) (fun q => by cases q) (by show ¬ (j < 0 ∨ (arrV _ _ _).slots.size ≤ _); rw [arrV_size]; exact hin) rfl rfl hd fun H1 e z oq => ?_
    refine k H1 _ (hH.upd rfl rfl (fun j _ hj => zE1_same (zSame.sL hj)) ?_ (fun h => by omega) (fun h => by omega) z oq) (hS.put z oq (Nat.le_add_right _ _))
    rw [zE1_l (S := sL S a j.toNatClampNeg x) (show ztyp S a = 103 from ht)]
    show H1[b + a]? = some (vp_cell _ _)
    rw [e, vp_cell_l, vp_cell_l, arrV_store]
    congr 2
    funext q
    show updV _ _ _ q = Value.long (zu S.2.2.2.1 a j.toNatClampNeg x a q)
    by_cases hq : q = j.toNatClampNeg
    · subst hq; simp [updV, zu]
    · simp [updV, zu, hq]; rfl
  · -- aastore
    rename_i v0 j a r
    simp only [zck, beq_iff_eq] at hk
    subst hk
    have h2 := Option.some.inj h; subst h2
    obtain ⟨⟨hp, hvl⟩, hin⟩ := hc _ rfl
    have ht : ztyp S a = 111 ∧ ztyp S v0 = 3 ∨ ztyp S a = 112 ∧ ztyp S v0 = 21 ∨ ztyp S a = 114 ∧ ztyp S v0 = 9 ∨ ztyp S a = 113 ∧ (ztyp S v0 = 11 ∨ ztyp S v0 = 13 ∨ ztyp S v0 = 14 ∨ ztyp S v0 = 15 ∨ ztyp S v0 = 16 ∨ ztyp S v0 = 17 ∨ ztyp S v0 = 18 ∨ ztyp S v0 = 19 ∨ ztyp S v0 = 20) := by
      simp only [zput, Bool.or_eq_true, Bool.and_eq_true, beq_iff_eq] at hp
      omega
    obtain ⟨hv, e1⟩ := key a (hstv (.ref a) (by simp)) (by omega)
    have e2 := zad_lt (b := b) (oa := oa) (Nat.lt_trans hvl hLB)
    have hat := zcell_of hH hv
    have htv : ztyp S v0 < 24 := by omega
    have hav := zcell_of hH hvl
    rw [zE1_o rfl (by omega)] at hav
    obtain ⟨rc, hrc, cellV, g1, g2, g3, -⟩ := hav
    rw [zE1_q rfl (by omega)] at hat
    obtain ⟨hfc, kC, hkC, hkind⟩ := (hK.1 _ _ hrc).2
    have hr : ∃ (kA : Class) (comp : ClassId) (E : String) (kcomp : Class), s.vm.classes[dA (ztyp S a)]? = some kA ∧ kA.kind = .array comp (.object E) ∧ s.vm.classes[comp]? = some kcomp ∧ s.vm.assignable (D.1 (ztyp S v0)) comp = true := by
      have self : ∀ (t0 ci : Nat) (E : String) (r : vw_C), ztyp S v0 = ci → zcls[ci]? = some r → r.1 = E → (ztys dA)[t0]? = some (dA (ztyp S a), .object E) → ∃ (kA : Class) (comp : ClassId) (E : String) (kcomp : Class), s.vm.classes[dA (ztyp S a)]? = some kA ∧ kA.kind = .array comp (.object E) ∧ s.vm.classes[comp]? = some kcomp ∧ s.vm.assignable (D.1 (ztyp S v0)) comp = true := by
        intro t0 ci E r hci hr hE ht0
        obtain ⟨kA, comp, k1, k2, k3, -⟩ := (hK.2 t0 _ ht0).2
        have hcl := (hK.1 ci r hr).2
        have hcomp : comp = D.1 ci := Option.some.inj (k3.symm.trans (hE ▸ hcl.1))
        obtain ⟨kc, hkc, -⟩ := hcl.2
        exact ⟨kA, comp, E, kc, k1, k2, by rw [hcomp]; exact hkc, by rw [hci, hcomp]; exact va_assign hcl⟩
      have sub : ∀ (ci : Nat) (C : String) (r : vw_C), ztyp S v0 = ci → zcls[ci]? = some r → r.1 = C → Cond.castable C "SpendHouse$Node" ∈ lw_tbl → (ztys dA)[7]? = some (dA (ztyp S a), .object "SpendHouse$Node") → ∃ (kA : Class) (comp : ClassId) (E : String) (kcomp : Class), s.vm.classes[dA (ztyp S a)]? = some kA ∧ kA.kind = .array comp (.object E) ∧ s.vm.classes[comp]? = some kcomp ∧ s.vm.assignable (D.1 (ztyp S v0)) comp = true := by
        intro ci C r hci hr hC hw ht0
        obtain ⟨kA, comp, k1, k2, k3, -⟩ := (hK.2 7 _ ht0).2
        have hcl := (hK.1 ci r hr).2
        obtain ⟨c0, t0, f1, f2, f3⟩ := Cond.castable_spec (hKx _ hw rfl)
        have ec : c0 = D.1 ci := Option.some.inj (f1.symm.trans (hC ▸ hcl.1))
        have et : t0 = comp := Option.some.inj (f2.symm.trans k3)
        obtain ⟨kn, hkn⟩ := Vm.findClass_spec k3
        exact ⟨kA, comp, _, kn, k1, k2, hkn.1, by rw [hci, ← ec, ← et]; exact f3⟩
      rcases ht with ⟨g, g'⟩ | ⟨g, g'⟩ | ⟨g, g'⟩ | ⟨g, g'⟩
      · exact self 5 3 _ _ g' rfl rfl (by rw [g]; rfl)
      · exact self 6 21 _ _ g' rfl rfl (by rw [g]; rfl)
      · exact self 8 9 _ _ g' rfl rfl (by rw [g]; rfl)
      · rcases g' with g' | g' | g' | g' | g' | g' | g' | g' | g'
        · exact sub 11 _ _ g' rfl rfl q3471 (by rw [g]; rfl)
        · exact sub 13 _ _ g' rfl rfl q3472 (by rw [g]; rfl)
        · exact sub 14 _ _ g' rfl rfl q3473 (by rw [g]; rfl)
        · exact sub 15 _ _ g' rfl rfl q3474 (by rw [g]; rfl)
        · exact sub 16 _ _ g' rfl rfl q3475 (by rw [g]; rfl)
        · exact sub 17 _ _ g' rfl rfl q3476 (by rw [g]; rfl)
        · exact sub 18 _ _ g' rfl rfl q3477 (by rw [g]; rfl)
        · exact sub 19 _ _ g' rfl rfl q3478 (by rw [g]; rfl)
        · exact sub 20 _ _ g' rfl rfl q3479 (by rw [g]; rfl)
    obtain ⟨kA, comp, E, kcomp, k1, k2, k3, k4⟩ := hr
    have hlt : j.toNatClampNeg < zlen S a := Nat.not_le.mp fun q => hin (Or.inr q)
    have h0 : ¬ j < 0 := fun q => hin (Or.inl q)
    show W p l e0 R s m args below meth c H locs _ _ Q (F0 m pc ls (.ref (zad b oa v0) :: .int j :: .ref (zad b oa a) :: r.map (zcv (zad b oa))))
    rw [e1, e2]
    refine W.aast hx hb (hat : H[b + a]? = _) (fun q h => by cases h) (fun h => by cases h) k1 k2 rfl k3 ⟨h0, by show _ < (arrV _ _ _).slots.size; rw [arrV_size]; exact hlt⟩ g1 (fun q h => by rw [g3] at h; cases h) (by rw [g2]; exact hkC) (by rw [g2]; exact k4) rfl rfl hd fun H1 e z oq => ?_
    refine k H1 _ (hH.upd rfl rfl (fun j _ hj => zE1_same (zSame.sQ hj)) ?_ (fun h => by omega) (fun h => by omega) z oq) (hS.put z oq (Nat.le_add_right _ _))
    rw [zE1_q (S := sQ S a j.toNatClampNeg (some v0)) (show ztyp S a = _ from rfl) (by omega)]
    show H1[b + a]? = some (vp_cell _ _)
    rw [e, vp_cell_q, vp_cell_q, arrV_store]
    congr 2
    funext q
    show updV _ _ _ q = va_rf ((zu S.2.2.2.2.1 a j.toNatClampNeg (some v0) a q).map (zad b oa))
    by_cases hq : q = j.toNatClampNeg
    · subst hq; simp [updV, zu, va_rf, e2]
    · simp [updV, zu, hq]; rfl
  · -- newarray
    rename_i at0 n0 r
    simp only [zck, Bool.and_eq_true, beq_iff_eq, decide_eq_true_eq] at hk
    obtain ⟨⟨rfl, rfl⟩, hat0⟩ := hk
    have h2 := Option.some.inj h; subst h2
    obtain ⟨⟨hn0, hn1⟩, hnew⟩ := hc _ rfl
    have hrn' : gN S + 1 ≤ nE + R.cells := hrn
    have hrz' : gZ S + n0.toNatClampNeg ≤ sE + R.slots := hrz
    have hty := znew_typ (sl := n0.toNatClampNeg) hnew
    have harr : (Cond.arrayClass (newarray.typeOf at0)).before args s = true := by
      cases at0 <;> first | exact hts _ q269 | exact hts _ q270 | exact hts _ q300 | exact hts _ q271 | (simp [zat] at hat0)
    have hby : n0.toNatClampNeg * componentBytes (newarray.typeOf at0) ≤ 536870912 := by
      have h8 : componentBytes (newarray.typeOf at0) ≤ 8 := by cases at0 <;> decide
      exact Nat.le_trans (Nat.mul_le_mul hn1 h8) (by decide)
    have kk : ∀ H', zHp b (zad b oa) D dA H0 (sNew S (zat at0) n0.toNatClampNeg n0.toNatClampNeg) H' → va_S (fun q => b ≤ q) s.heap H' locs → W p l e0 R s m args below meth c H' locs (gN S - nE + 1) (gZ S - sE + n0.toNatClampNeg) Q (F0 m (pc + 2) ls (.ref (b + gN S) :: r.map (zcv (zad b oa)))) := by
      intro H' g1 g2
      have := k H' locs g1 g2
      have e1 : gN S + 1 - nE = gN S - nE + 1 := by omega
      have e2 : gZ S + n0.toNatClampNeg - sE = gZ S - sE + n0.toNatClampNeg := by omega
      have e3 := zad_lt (b := b) (oa := oa) hLB
      rw [← e1, ← e2, ← e3]
      exact this
    refine va_newaK (g := F0 m pc ls (.int n0 :: r.map (zcv (zad b oa)))) hx hb harr rfl hd rfl hn0 rfl hby (by omega) (by omega) hH.1 fun H1 cA f1 f2 f3 hAr hNm => kk H1 ?_ ⟨Nat.le_trans hS.1 (by rw [f2, hH.1]; omega), fun x h1 h2 => (f3 x (by have := hS.1; rw [hH.1] at this; omega)).trans (hS.2.1 x h1 h2), hS.2.2⟩
    have hca : cA = dA (zat at0) := by
      cases at0 with
      | int => exact Option.some.inj (hNm.symm.trans (hK.2 0 _ rfl).2)
      | byte => exact Option.some.inj (hNm.symm.trans (hK.2 1 _ rfl).2)
      | boolean => exact Option.some.inj (hNm.symm.trans (hK.2 2 _ rfl).2)
      | long => exact Option.some.inj (hNm.symm.trans (hK.2 3 _ rfl).2)
      | _ => simp [zat] at hat0
    subst hca
    refine hH.push rfl (by have := hnew.2; unfold zLB; omega) (fun j hj => (zSame.sNew (by omega)).typ) (fun j hj => zE1_same (zSame.sNew (by omega))) ?_ (fun h => by rw [hty.1] at h; omega) (fun h _ => by rw [hty.1] at h; simp [zat] at h hat0; omega) (by rw [f2, hH.1]) (fun q hq => f3 q (by rw [← hH.1]; exact hq))
    cases at0 with
    | long =>
      rw [zE1_l hty.1, hty.2]
      show H1[b + gN S]? = some (vp_cell _ _)
      rw [f1, vp_cell_l]
      congr 2
      funext q
      exact congrArg Value.long (if_pos rfl).symm
    | int =>
      rw [zE1_i hty.1 (by decide) (by decide), hty.2]
      show H1[b + gN S]? = some (vp_cell _ _)
      rw [f1, vp_cell_i]
      congr 2
      funext q
      exact congrArg Value.int (if_pos rfl).symm
    | byte =>
      rw [zE1_i hty.1 (by decide) (by decide), hty.2]
      show H1[b + gN S]? = some (vp_cell _ _)
      rw [f1, vp_cell_i]
      congr 2
      funext q
      exact congrArg Value.int (if_pos rfl).symm
    | boolean =>
      rw [zE1_i hty.1 (by decide) (by decide), hty.2]
      show H1[b + gN S]? = some (vp_cell _ _)
      rw [f1, vp_cell_i]
      congr 2
      funext q
      exact congrArg Value.int (if_pos rfl).symm
    | _ => simp [zat] at hat0
  · -- anewarray
    rename_i idx n0 r
    simp only [zck, Bool.and_eq_true, beq_iff_eq, decide_eq_true_eq, List.contains_iff_mem] at hk
    obtain ⟨⟨⟨rfl, ho⟩, hm⟩, hrange⟩ := hk
    have h2 := Option.some.inj h; subst h2
    obtain ⟨⟨hn0, hn1⟩, hnew⟩ := hc _ rfl
    have hrn' : gN S + 1 ≤ nE + R.cells := hrn
    have hrz' : gZ S + n0.toNatClampNeg ≤ sE + R.slots := hrz
    have hty := znew_typ (sl := n0.toNatClampNeg) hnew
    have hlink := hts _ (zCL_ok o ho _ hm)
    have hr : ∃ t0 : Nat, va_AO (zcn (zec a9)) s ∧ (ztys dA)[t0]? = some (dA a9, FieldType.object (zcn (zec a9))) := by
      have hcase : a9 = 111 ∨ a9 = 112 ∨ a9 = 113 ∨ a9 = 114 := by omega
      rcases hcase with rfl | rfl | rfl | rfl
      · exact ⟨5, hKx _ q306 rfl, rfl⟩
      · exact ⟨6, hKx _ q330 rfl, rfl⟩
      · exact ⟨7, hKx _ q1507 rfl, rfl⟩
      · exact ⟨8, hKx _ q1362 rfl, rfl⟩
    obtain ⟨t0, hover, ht0⟩ := hr
    have kk : ∀ H', zHp b (zad b oa) D dA H0 (sNew S a9 n0.toNatClampNeg n0.toNatClampNeg) H' → va_S (fun q => b ≤ q) s.heap H' locs → W p l e0 R s m args below meth c H' locs (gN S - nE + 1) (gZ S - sE + n0.toNatClampNeg) Q (F0 m (pc + 3) ls (.ref (b + gN S) :: r.map (zcv (zad b oa)))) := by
      intro H' g1 g2
      have := k H' locs g1 g2
      have e1 : gN S + 1 - nE = gN S - nE + 1 := by omega
      have e2 : gZ S + n0.toNatClampNeg - sE = gZ S - sE + n0.toNatClampNeg := by omega
      have e3 := zad_lt (b := b) (oa := oa) hLB
      rw [← e1, ← e2, ← e3]
      exact this
    refine W.anew (g := F0 m pc ls (.int n0 :: r.map (zcv (zad b oa)))) hx hb hown hlink (va_AO.use hover) rfl hd rfl hn0 (by omega) (by omega) (by omega) fun cA kA comp f1 f2 f3 f4 => ?_
    have hca : cA = dA a9 := by
      obtain ⟨-, -, -, -, -, h4⟩ := (hK.2 t0 _ ht0).2
      exact Option.some.inj (f1.symm.trans h4)
    subst hca
    generalize hH1 : H.push ({ cls := dA a9, slots := Array.replicate n0.toNatClampNeg .null, vm := .none } : Cell) = H1
    have z1 : H1.size = H.size + 1 := by rw [← hH1, Array.size_push]
    have g1 : H1[H.size]? = some (arrV (dA a9) n0.toNatClampNeg (fun _ => .null)) := by rw [← hH1, Array.getElem?_push_size, ← arrV_new]
    have o1 : ∀ q : Nat, q < H.size → H1[q]? = H[q]? := fun q hq => by rw [← hH1, Array.getElem?_push, if_neg (Nat.ne_of_lt hq)]
    rw [hH.1] at g1
    rw [show H.size = b + gN S from hH.1]
    refine kk H1 ?_ ⟨Nat.le_trans hS.1 (by omega), fun x h1 h2 => (o1 x (Nat.lt_of_lt_of_le h1 hS.1)).trans (hS.2.1 x h1 h2), hS.2.2⟩
    refine hH.push rfl (by have := hnew.2; unfold zLB; omega) (fun j hj => (zSame.sNew (by omega)).typ) (fun j hj => zE1_same (zSame.sNew (by omega))) ?_ (fun h => by rw [hty.1] at h; omega) (fun h _ => by rw [hty.1] at h; omega) z1 o1
    rw [zE1_q hty.1 (by omega), hty.2]
    show H1[b + gN S]? = some (vp_cell _ _)
    rw [g1, vp_cell_q]
    congr 2
    funext q
    show Value.null = va_rf ((if gN S = gN S then none else S.2.2.2.2.1 (gN S) q).map (zad b oa))
    rw [if_pos rfl]
    rfl
  · cases h
end Z3
