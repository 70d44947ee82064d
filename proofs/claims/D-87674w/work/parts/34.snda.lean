/-! ===== arrays of arrays ===== -/
def zrows (S : zS) (N M : Nat) : Nat → zS
  | 0 => sNew S 110 N N
  | i + 1 => sQ (sNew (zrows S N M i) 101 M M) (gN S) i (some (gN (zrows S N M i)))
theorem zrows_eq {S : zS} {N M : Nat} : ∀ (n i : Nat), zmrow (gN S) M n i (zrows S N M i) = zrows S N M (n + i) := by
  intro n
  induction n with
  | zero => intro i; rw [Nat.zero_add]; rfl
  | succ n ih =>
    intro i
    show zmrow (gN S) M n (i + 1) (zrows S N M (i + 1)) = _
    rw [ih (i + 1)]
    congr 1
    omega
theorem zrows_N {S : zS} {N M : Nat} : ∀ i, gN (zrows S N M i) = gN S + 1 + i ∧ gZ (zrows S N M i) = gZ S + N + i * M := by
  intro i
  induction i with
  | zero => exact ⟨rfl, by show gZ S + N = _; omega⟩
  | succ i ih =>
    refine ⟨?_, ?_⟩
    · show gN (zrows S N M i) + 1 = _
      rw [ih.1]; omega
    · show gZ (zrows S N M i) + M = _
      rw [ih.2, Nat.succ_mul]; omega
theorem zrows_Q {S : zS} {N M : Nat} : ∀ i j, gQ (zrows S N M i) (gN S) j = if j < i then some (gN S + 1 + j) else none := by
  intro i
  induction i with
  | zero => intro j; rw [if_neg (Nat.not_lt_zero _)]; exact if_pos rfl
  | succ i ih =>
    intro j
    have hne : gN S ≠ gN (zrows S N M i) := by rw [(zrows_N i).1]; omega
    have e1 : gQ (sNew (zrows S N M i) 101 M M) (gN S) j = gQ (zrows S N M i) (gN S) j := if_neg hne
    have e2 : gQ (zrows S N M (i + 1)) (gN S) j = if j = i then some (gN (zrows S N M i)) else gQ (sNew (zrows S N M i) 101 M M) (gN S) j := if_pos rfl
    rw [e2, e1, ih j, (zrows_N i).1]
    by_cases h1 : j = i
    · subst h1; rw [if_pos rfl, if_pos (by omega)]
    · rw [if_neg h1]
      by_cases h2 : j < i
      · rw [if_pos h2, if_pos (by omega)]
      · rw [if_neg h2, if_neg (by omega)]
theorem zouter (c : ClassId) (N h0 : Nat) : ∀ i, Jvm.Free.Multi.outerC c N h0 i = arrV c N (fun j => if j < i then .ref (h0 + 1 + j) else .null) := by
  intro i
  induction i with
  | zero =>
    show ({ cls := c, slots := Array.replicate N .null, vm := .none } : Cell) = _
    rw [arrV_new]
    congr 1
  | succ i ih =>
    show (Jvm.Free.Multi.outerC c N h0 i).setSlot i (.ref (h0 + 1 + i)) = _
    rw [ih, arrV_store]
    congr 1
    funext j
    simp only [updV]
    by_cases h1 : j = i
    · subst h1; simp
    · rw [if_neg h1]
      by_cases h2 : j < i
      · rw [if_pos h2, if_pos (by omega)]
      · rw [if_neg h2, if_neg (by omega)]
theorem zrows_T {S : zS} {N M : Nat} (hs : zsty (gN S) = (110, N)) (hd : gN S < zD0) (i : Nat) : ztyp (zrows S N M i) (gN S) = 110 ∧ zlen (zrows S N M i) (gN S) = N := by
  unfold ztyp zlen
  rw [if_pos hd, if_pos hd, hs]
  exact ⟨rfl, rfl⟩
theorem zrows_heap {b : Nat} {oa : Nat → Nat} {D : va_G} {dA : Nat → ClassId} {H0 : Heap} {S : zS} {T : State} {N M : Nat} (hH : zHp b (zad b oa) D dA H0 S T.heap) (hd : gN S + 1 + N ≤ zD0) (hs : zsty (gN S) = (110, N)) (hr : ∀ i, i < N → zsty (gN S + 1 + i) = (101, M)) :
    ∀ i, i ≤ N → zHp b (zad b oa) D dA H0 (zrows S N M i) (Jvm.Free.Multi.fill T (dA 110) (dA 101) N M (.int 0) i).heap := by
  have hLB := zD0_LB
  have hsz : T.heap.size = b + gN S := hH.1
  have outer : ∀ i (H1 : Heap), i ≤ N → H1[b + gN S]? = some (Jvm.Free.Multi.outerC (dA 110) N T.heap.size i) → va_at D zcls (b + gN S, zE1 dA (zad b oa) (zrows S N M i) (gN S)) H1 := by
    intro i H1 hi h1
    obtain ⟨t1, t2⟩ := zrows_T (M := M) hs (by omega) i
    rw [zE1_q t1 (by omega), t2]
    show H1[b + gN S]? = some (vp_cell _ _)
    rw [h1, vp_cell_q, zouter]
    congr 2
    funext j
    rw [zrows_Q]
    by_cases h2 : j < i
    · rw [if_pos h2, if_pos h2]
      have e9 : zad b oa (gN S + 1 + j) = b + (gN S + 1 + j) := zad_lt (by omega)
      show Value.ref (T.heap.size + 1 + j) = Value.ref (zad b oa (gN S + 1 + j))
      have e8 : T.heap.size + 1 + j = b + (gN S + 1 + j) := by rw [hsz]; omega
      rw [e9, e8]
    · rw [if_neg h2, if_neg h2]; rfl
  intro i
  induction i with
  | zero =>
    intro _
    obtain ⟨f1, f2, -, -⟩ := Jvm.Free.Multi.fill_facts T (dA 110) (dA 101) N M (.int 0) 0
    refine hH.push rfl (by omega) (fun j hj => (zSame.sNew (by omega)).typ) (fun j hj => zE1_same (zSame.sNew (by omega))) (outer 0 _ (by omega) (by rw [← hsz]; exact f2)) (fun h => ?_) (fun h _ => by have h9 := (zrows_T (M := M) hs (by omega) 0).1; have h' : ztyp (zrows S N M 0) (gN S) = 8 := h; omega) (by rw [f1]) (fun q hq => Jvm.Free.Multi.fill_old T _ _ _ _ _ hq 0)
    have := (zrows_T (M := M) hs (by omega) 0).1
    have h' : ztyp (zrows S N M 0) (gN S) < 24 := h
    omega
  | succ i ih =>
    intro hi
    have ih := ih (by omega)
    obtain ⟨f1, f2, -, -⟩ := Jvm.Free.Multi.fill_facts T (dA 110) (dA 101) N M (.int 0) i
    obtain ⟨g1, g2, -, -⟩ := Jvm.Free.Multi.fill_facts T (dA 110) (dA 101) N M (.int 0) (i + 1)
    have hN := (zrows_N (S := S) (N := N) (M := M) i).1
    have hnew : znew (zrows S N M i) 101 M := ⟨fun _ => by rw [hN]; exact hr i (by omega), by rw [hN]; have : zD0 = 1639 := rfl; omega⟩
    have hty := znew_typ (sl := M) hnew
    have hp : zHp b (zad b oa) D dA H0 (sNew (zrows S N M i) 101 M M) ((Jvm.Free.Multi.fill T (dA 110) (dA 101) N M (.int 0) i).pushCell (Jvm.Free.Multi.innerC (dA 101) M (.int 0))).heap := by
      refine ih.push rfl (by rw [hN]; omega) (fun j hj => (zSame.sNew (by omega)).typ) (fun j hj => zE1_same (zSame.sNew (by omega))) ?_ (fun h => by rw [hty.1] at h; omega) (fun h _ => by rw [hty.1] at h; omega) (by simp [State.pushCell]) (fun q hq => State.heap_pushCell_of_lt _ _ hq)
      rw [zE1_i hty.1 (by omega) (by omega), hty.2]
      show (State.pushCell _ _).heap[b + gN (zrows S N M i)]? = some (vp_cell _ _)
      rw [← ih.1, vp_cell_i]
      have e : (State.pushCell (Jvm.Free.Multi.fill T (dA 110) (dA 101) N M (.int 0) i) (Jvm.Free.Multi.innerC (dA 101) M (.int 0))).heap[(Jvm.Free.Multi.fill T (dA 110) (dA 101) N M (.int 0) i).heap.size]? = some (Jvm.Free.Multi.innerC (dA 101) M (.int 0)) := by simp [State.pushCell]
      rw [e]
      unfold Jvm.Free.Multi.innerC
      rw [arrV_new]
      congr 2
      funext q
      exact congrArg Value.int (if_pos rfl).symm
    refine hp.upd (k := gN S) rfl rfl (fun j _ hj => zE1_same (zSame.sQ hj)) (outer (i + 1) _ (by omega) (by rw [← hsz]; exact g2)) (fun h => ?_) (fun h => by have h9 := (zrows_T (M := M) hs (by omega) (i + 1)).1; have h' : ztyp (zrows S N M (i + 1)) (gN S) = 8 := h; omega) ?_ (fun q hq => ?_)
    · exfalso
      have := (zrows_T (M := M) hs (by omega) (i + 1)).1
      have h' : ztyp (zrows S N M (i + 1)) (gN S) < 24 := h
      omega
    · simp [Jvm.Free.Multi.fill, State.setCell]
    · show (State.setCell _ _ _).heap[q]? = _
      rw [hsz, heapAt_setCell_ne _ (Ne.symm hq)]
section ZA
variable {p : Program} {l : Launch} {e0 : Env} {R : Room} {s : State} {m : MethodId} {args : Array Value} {below : List Frame} {meth : Method} {c : Code} {H H0 : Heap} {locs : List Loc} {Q : State → Prop} {cc : ByteArray} {ls : Array Slot} {nL : Nat} {b nE sE : Nat} {oa : Nat → Nat} {D : va_G} {dA : Nat → ClassId} {S : zS} {L st : List Value} {e : zE} {o idx dm : Nat}
theorem zmul_snd (hx : p.tables.exec = Jvm.exec) (hb : c.code = cc) (hd : decode cc e.1 = .ok (e.2.1, e.2.2.1)) (hk : zck o nL e = true) {nm : String} (hke : zchkE o nm e = true) (hi : e.2.1 = .multianewarray idx dm) (hown : s.vm.findClass (zcn o) = some m.cls) (hts : ∀ w ∈ lw_all, w.before args s = true) (hKx : zKx s)
    (hK : va_K D zcls (ztys dA) s) (hH : zHp b (zad b oa) D dA H0 S H) (hS : va_S (fun q => b ≤ q) s.heap H locs)
    {q} (h : zmul e (e.1 + e.2.2.1) L st S = some q) (hc : ∀ c, q.1 = some c → c) (hn : nE ≤ gN S) (hz : sE ≤ gZ S) (hrn : gN q.2.2.2.2 ≤ nE + R.cells) (hrz : gZ q.2.2.2.2 ≤ sE + R.slots)
    (k : ∀ H' locs', zHp b (zad b oa) D dA H0 q.2.2.2.2 H' → va_S (fun q => b ≤ q) s.heap H' locs' → W p l e0 R s m args below meth c H' locs' (gN q.2.2.2.2 - nE) (gZ q.2.2.2.2 - sE) Q (F0 m q.2.1 ls (q.2.2.2.1.map (zcv (zad b oa))))) :
    W p l e0 R s m args below meth c H locs (gN S - nE) (gZ S - sE) Q (F0 m e.1 ls (st.map (zcv (zad b oa)))) := by
  obtain ⟨pc, i, n, v, a9, sw, vt⟩ := e
  simp only at hi
  subst hi
  simp only [zck, Bool.and_eq_true, beq_iff_eq] at hk
  obtain ⟨⟨rfl, rfl⟩, rfl⟩ := hk
  simp only [zchkE, beq_iff_eq] at hke
  subst hke
  unfold zmul at h
  simp only at h hd
  split at h
  · rename_i kk nn r
    have h2 := Option.some.inj h; subst h2
    have hcc := hc _ rfl
    have hg : (nn.toNatClampNeg ≤ 16 ∧ kk.toNatClampNeg ≤ 33) ∧ ¬ nn < 0 ∧ ¬ kk < 0 ∧ gN S + 1 + nn.toNatClampNeg ≤ zD0 ∧ zsty (gN S) = (110, nn.toNatClampNeg) ∧ ∀ i, i < nn.toNatClampNeg → zsty (gN S + 1 + i) = (101, kk.toNatClampNeg) := by
      rcases hcc with ⟨rfl, rfl, hg⟩ | ⟨rfl, rfl, hg⟩
      · rw [hg]; exact ⟨by decide, by decide, by decide, by decide, by decide, by decide⟩
      · rw [hg]; exact ⟨by decide, by decide, by decide, by decide, by decide, by decide⟩
    obtain ⟨⟨hn1, hk1⟩, hn0, hk0, hd0, hs0, hr0⟩ := hg
    have e0' : zmrow (gN S) kk.toNatClampNeg nn.toNatClampNeg 0 (sNew S 110 nn.toNatClampNeg nn.toNatClampNeg) = zrows S nn.toNatClampNeg kk.toNatClampNeg nn.toNatClampNeg := zrows_eq nn.toNatClampNeg 0
    simp only [e0'] at hrn hrz k
    obtain ⟨eN, eZ⟩ := zrows_N (S := S) (N := nn.toNatClampNeg) (M := kk.toNatClampNeg) nn.toNatClampNeg
    rw [eN] at hrn
    rw [eZ] at hrz
    intro T hT X
    obtain ⟨vm₁, cA, comp, hW, hfA, hfC, -, -, X1, step⟩ := X.multianewarray2F hx (own := zcn 0) (index := 16) (ty := .byte) hown (hts _ q272) (hKx _ q273 rfl) (hts _ q270) (g := F0 m pc ls (.int kk :: .int nn :: r.map (zcv (zad b oa)))) rfl (by rw [hb]; exact hd) (n := nn) (k := kk) rfl hn0 hk0 (by omega) (by show kk.toNatClampNeg * 1 ≤ _; omega) (by omega) rfl rfl (by omega) (by omega)
    have eA : cA = dA 110 := Option.some.inj (hfA.symm.trans (hK.2 4 _ rfl).2)
    have eC : comp = dA 101 := Option.some.inj (hfC.symm.trans (hK.2 1 _ rfl).2)
    subst eA
    subst eC
    have hH' : zHp b (zad b oa) D dA H0 S (T.setVm vm₁).heap := by show zHp b (zad b oa) D dA H0 S T.heap; rw [hT]; exact hH
    have hh := zrows_heap hH' hd0 hs0 hr0 nn.toNatClampNeg (Nat.le_refl _)
    have f1 := (Jvm.Free.Multi.fill_facts (T.setVm vm₁) (dA 110) (dA 101) nn.toNatClampNeg kk.toNatClampNeg (.int 0) nn.toNatClampNeg).1
    have hTs : (T.setVm vm₁).heap = H := hT
    have hSS : va_S (fun q => b ≤ q) s.heap (Jvm.Free.Multi.fill (T.setVm vm₁) (dA 110) (dA 101) nn.toNatClampNeg kk.toNatClampNeg (.int 0) nn.toNatClampNeg).heap locs := by
      refine ⟨by rw [f1, hTs]; have := hS.1; omega, fun x g1 g2 => ?_, hS.2.2⟩
      rw [Jvm.Free.Multi.fill_old (T.setVm vm₁) _ _ _ _ _ (by rw [hTs]; exact Nat.lt_of_lt_of_le g1 hS.1), hTs]
      exact hS.2.1 x g1 g2
    have kk2 := k _ locs hh hSS
    have e1 : gN (zrows S nn.toNatClampNeg kk.toNatClampNeg nn.toNatClampNeg) - nE = gN S - nE + 1 + nn.toNatClampNeg := by rw [eN]; omega
    have e2 : gZ (zrows S nn.toNatClampNeg kk.toNatClampNeg nn.toNatClampNeg) - sE = gZ S - sE + nn.toNatClampNeg + nn.toNatClampNeg * kk.toNatClampNeg := by rw [eZ]; omega
    rw [e1, e2] at kk2
    have e3 : T.heap.size = zad b oa (gN S) := by rw [hT, hH.1, zad_lt hH.2.1]
    obtain ⟨t, a1, b1⟩ := kk2 _ rfl X1
    refine ⟨t, step t ?_, b1⟩
    rw [e3]
    exact a1
  · cases h
end ZA
