/-! ===== the clone of a row of bytes ===== -/
section ZB2
variable {p : Program} {l : Launch} {e0 : Env} {R : Room} {s : State} {m : MethodId} {args : Array Value} {below : List Frame} {meth : Method} {c : Code} {H H0 : Heap} {locs : List Loc} {cells slots : Nat} {Q : State → Prop} {cc : ByteArray} {ls : Array Slot} {nL : Nat} {b nE sE : Nat} {oa : Nat → Nat} {D : va_G} {dA : Nat → ClassId} {S : zS} {o : Nat} {L st : List Value} {e : zE} {idx : Nat} {rest : List Value} {pc : Nat}
theorem zclnW (hexec : p.tables.exec = Jvm.exec) (hb : c.code = cc) (hml : c.maxLocals = ls.size) {own ad : String} (hown : s.vm.findClass own = some m.cls)
    (hlink : (Cond.methodLink own idx ⟨ad, "clone", "()Ljava/lang/Object;"⟩).before args s = true) (hsame : (Cond.sameMethod ad "java/lang/Object" "clone" "()Ljava/lang/Object;").before args s = true)
    (hnat : (Cond.native ⟨"java/lang/Object", "clone", "()Ljava/lang/Object;"⟩).before args s = true) (hinst : (Cond.instanceMethod ⟨"java/lang/Object", "clone", "()Ljava/lang/Object;"⟩).before args s = true)
    (hsel : (Cond.selects ad ⟨ad, "clone", "()Ljava/lang/Object;"⟩ ⟨"java/lang/Object", "clone", "()Ljava/lang/Object;"⟩).before args s = true) (hcl : va_Nw (.castable ad "java/lang/Cloneable") s)
    {a n : Nat} {cA : ClassId} {f : Nat → Int32} (ha : H[a]? = some (vp_cell cA (n, .inl f))) (hAr : ArrOfT s cA .byte) (hnm : s.vm.findClass ad = some cA) (hfit : ∀ i : Nat, i < n → fits .byte (.int (f i)) = true)
    (hframes : 1 ≤ R.frames) (hlocals : (rest.map fun v => v.category).sum + 14 ≤ R.locals) (hcells : cells + 1 ≤ R.cells) (hslots : slots + n ≤ R.slots) (hdg : decode cc pc = .ok (.invokevirtual idx, 3))
    (kk : ∀ H1 : Heap, H1[H.size]? = some (vp_cell cA (n, .inl f)) → H1.size = H.size + 1 → (∀ q : Nat, q < H.size → H1[q]? = H[q]?) → W p l e0 R s m args below meth c H1 locs (cells + 1) (slots + n) Q (F0 m (pc + 3) ls (.ref H.size :: rest))) :
    W p l e0 R s m args below meth c H locs cells slots Q (F0 m pc ls (.ref a :: rest)) := by
  have hsz : (vp_cell cA (n, .inl f)).slots.size = n := arrV_size _ _ _
  obtain ⟨c0, t0', f1, f2, f3⟩ := Cond.castable_spec (va_Nw.use (A := args) rfl hcl)
  cases hnm.symm.trans f1
  intro T hT X
  have hcellT : T.heap[a]? = some (vp_cell cA (n, .inl f)) := by rw [hT]; exact ha
  obtain ⟨-, kA, hkA, comp, hkind⟩ := State.isArrayOf_alike X.warmed.alike (hAr 0 (fun _ => .null))
  obtain ⟨-, kS, hkS, compS, hkindS⟩ := hAr 0 (fun _ => .null)
  obtain ⟨vm', X', st⟩ := X.cloneArray hexec hown hlink hsame hnat hinst hsel (a := a) (cell := vp_cell cA (n, .inl f)) hcellT (fun k h => by cases h) (fun h => by cases h) hnm f2 f3
    (fun i v hv => by
      have hk' : T.vm.classes[cA]? = some kA := hkA
      have hi : i < n := by
        by_cases hi : i < n
        · exact hi
        · rw [Array.getElem?_eq_none (by rw [hsz]; omega)] at hv; cases hv
      have e1 : v = .int (f i) := by
        have := (arrV_read cA (fun j => Value.int (f j)) hi).symm.trans hv
        exact (Option.some.inj this).symm
      rw [e1]
      have h9 : (vp_cell cA (n, .inl f)).cls = cA := rfl
      simpa [State.fitsSlot, State.slotType?, h9, hk', hkind] using hfit i hi)
    (g := F0 m pc ls (.ref a :: rest)) rfl (by rw [hml]) rfl (by rw [hb]; exact hdg) hframes (by show 2 * 0 + _ + 14 ≤ _; omega) hcells (by rw [hsz]; exact hslots) (hloader := Vm.clonesLoader_of_array hkS hkindS)
  have hcellE : ({ cls := (vp_cell cA (n, .inl f)).cls, slots := (vp_cell cA (n, .inl f)).slots } : Cell) = vp_cell cA (n, .inl f) := rfl
  rw [hcellE, hsz] at X'
  obtain ⟨t, b1, b2⟩ := kk (H.push (vp_cell cA (n, .inl f))) (by rw [Array.getElem?_push_size]) (by rw [Array.size_push]) (fun q hq => by rw [Array.getElem?_push, if_neg (Nat.ne_of_lt hq)])
    ((T.setVm vm').pushCell (vp_cell cA (n, .inl f))) (by rw [← hT]; rfl) X'
  refine ⟨t, st t ?_, b2⟩
  rw [hcellE, hT]
  exact b1
theorem zcln_snd (hx : p.tables.exec = Jvm.exec) (hb : c.code = cc) (hml : c.maxLocals = ls.size) (hd : decode cc e.1 = .ok (e.2.1, e.2.2.1)) (hk : zck o nL e = true) {nm : String} (hke : zchkE o nm e = true) (hi : e.2.1 = .invokevirtual idx)
    (hown : s.vm.findClass (zcn o) = some m.cls) (hts : ∀ w ∈ lw_all, w.before args s = true) (hKx : zKx s) (ho : o < 32) (hRf : 1 ≤ R.frames) (hRl : 40 ≤ R.locals)
    (hK : va_K D zcls (ztys dA) s) (hLit : zLit b (zad b oa) D H0 S s) (hTy : zTy S) (hBy : zBy S) (hstv : ∀ v ∈ st, zvv S v) (hH : zHp b (zad b oa) D dA H0 S H) (hS : va_S (fun q => b ≤ q) s.heap H locs)
    {q} (h : zcln e (e.1 + e.2.2.1) L st S = some q) (hc : ∀ c, q.1 = some c → c) (hn : nE ≤ gN S) (hz : sE ≤ gZ S) (hrn : gN q.2.2.2.2 ≤ nE + R.cells) (hrz : gZ q.2.2.2.2 ≤ sE + R.slots)
    (k : ∀ H' locs', zHp b (zad b oa) D dA H0 q.2.2.2.2 H' → va_S (fun q => b ≤ q) s.heap H' locs' → W p l e0 R s m args below meth c H' locs' (gN q.2.2.2.2 - nE) (gZ q.2.2.2.2 - sE) Q (F0 m q.2.1 ls (q.2.2.2.1.map (zcv (zad b oa))))) :
    W p l e0 R s m args below meth c H locs (gN S - nE) (gZ S - sE) Q (F0 m e.1 ls (st.map (zcv (zad b oa)))) := by
  obtain ⟨pc, i, n, v, A, sw, vt⟩ := e
  simp only at hi
  subst hi
  have hn3 : n = 3 := by simp only [zck, Bool.and_eq_true, beq_iff_eq] at hk; exact hk.1
  subst hn3
  unfold zcln at h
  simp only at h hd
  split at h
  · rename_i x0 vt0 a r
    simp only [zchkE, Bool.or_eq_true, decide_eq_true_eq, List.contains_iff_mem] at hke
    have hl := zPL_ok o ho _ (hke.resolve_left (by omega))
    unfold zPF at hl
    split at h
    · rename_i hs
      have h2 := Option.some.inj h; subst h2
      have hs := of_decide_eq_true hs
      obtain ⟨ht, hnew⟩ := hc _ rfl
      have hal : a < gN S := hLit.new (hstv (.ref a) (by simp)) (by omega)
      have ea := zad_lt (b := b) (oa := oa) (Nat.lt_trans hal hH.2.1)
      have hat := zcell_of hH hal
      rw [zE1_i ht (by omega) (by omega)] at hat
      have hrn' : gN S + 1 ≤ nE + R.cells := hrn
      have hrz' : gZ S + zlen S a ≤ sE + R.slots := hrz
      have hty := znew_typ (sl := zlen S a) hnew
      have hLB : gN S < zLB := by have := hnew.2; unfold zLB; omega
      show W p l e0 R s m args below meth c H locs (gN S - nE) (gZ S - sE) Q (F0 m pc ls (.ref (zad b oa a) :: r.map (zcv (zad b oa))))
      rw [ea]
      refine zclnW hx hb hml hown (hts _ hl) (hts _ q744) (hts _ q745) (hts _ q746) (hts _ q747) (hKx _ q748 rfl) (hat : H[b + a]? = _) (hK.2 1 _ rfl).1 (hK.2 1 _ rfl).2 (fun i _ => (znar_b (hBy a _ (Or.inl ht))).2) hRf ?_ (by omega) (by omega) hd fun H1 e1 e2 e3 => ?_
      · have := zsum_cat (ad := zad b oa) r
        omega
      · have hsz : H.size = b + gN S := hH.1
        rw [hsz] at e1 e2 e3 ⊢
        have hne : ∀ j, j < gN S → j ≠ gN S := fun j hj => by omega
        have hsm : ∀ j, j < gN S → zSame S (zcopy (sNew S 101 (zlen S a) (zlen S a)) a (gN S) 0 0 (zlen S a)) j := fun j hj => (zSame.sNew (hne j hj)).trans (zSame.cp (hne j hj))
        have := k H1 locs (hH.push rfl (by have := hnew.2; unfold zLB; omega) (fun j hj => (hsm j hj).typ) (fun j hj => zE1_same (hsm j hj)) ?_ (fun h => by
            have h9 : ztyp (zcopy (sNew S 101 (zlen S a) (zlen S a)) a (gN S) 0 0 (zlen S a)) (gN S) = 101 := hty.1
            rw [h9] at h; omega) (fun h _ => by
            have h9 : ztyp (zcopy (sNew S 101 (zlen S a) (zlen S a)) a (gN S) 0 0 (zlen S a)) (gN S) = 101 := hty.1
            rw [h9] at h; omega) (by rw [e2, hsz]) (fun q hq => e3 q (by omega))) ⟨Nat.le_trans hS.1 (by rw [e2, hsz]; omega), fun x h1 h2 => (e3 x (by have := hS.1; omega)).trans (hS.2.1 x h1 h2), hS.2.2⟩
        · have e5 : gN S + 1 - nE = gN S - nE + 1 := by omega
          have e6 : gZ S + zlen S a - sE = gZ S - sE + zlen S a := by omega
          have e7 := zad_lt (b := b) (oa := oa) hLB
          rw [← e5, ← e6, ← e7]
          exact this
        · have h9 : ztyp (zcopy (sNew S 101 (zlen S a) (zlen S a)) a (gN S) 0 0 (zlen S a)) (gN S) = 101 := hty.1
          have h8 : zlen (zcopy (sNew S 101 (zlen S a) (zlen S a)) a (gN S) 0 0 (zlen S a)) (gN S) = zlen S a := hty.2
          rw [zE1_i h9 (by omega) (by omega), h8]
          show H1[b + gN S]? = some (vp_cell _ _)
          rw [e1]
          have hne2 : a ≠ gN S := Nat.ne_of_lt hal
          have e8 : ∀ j, j < zlen S a → gA (zcopy (sNew S 101 (zlen S a) (zlen S a)) a (gN S) 0 0 (zlen S a)) (gN S) j = gA S a j := by
            intro j hj
            show (if gN S = gN S then va_cpy ((sNew S 101 (zlen S a) (zlen S a)).2.2.1 a) ((sNew S 101 (zlen S a) (zlen S a)).2.2.1 (gN S)) 0 0 (zlen S a) j else _) = _
            rw [if_pos rfl]
            unfold va_cpy
            simp [hj]
            show (if a = gN S then 0 else S.2.2.1 a j) = _
            rw [if_neg hne2]
            rfl
          congr 1
          show vp_cell (dA 101) (zlen S a, .inl (gA S a)) = vp_cell (dA 101) (zlen S a, .inl (gA (zcopy (sNew S 101 (zlen S a) (zlen S a)) a (gN S) 0 0 (zlen S a)) (gN S)))
          rw [vp_cell_i, vp_cell_i]
          unfold arrV
          congr 1
          apply Array.ext
          · simp
          · intro i h1 h2
            simp at h1 h2 ⊢
            rw [e8 i h1]
    · cases h
  · cases h
end ZB2
