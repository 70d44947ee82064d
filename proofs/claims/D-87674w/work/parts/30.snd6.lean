/-! ===== casts, the library's small methods, the dropped fields ===== -/
def zBy (S : zS) : Prop := ∀ a j, (ztyp S a = 101 ∨ ztyp S a = 121) → (gA S a j).toInt8.toInt32 = gA S a j
theorem zfl_ne : ∀ C, C < 24 → C ≠ 10 → C ≠ 12 → (zfl C)[0]?.isSome = true := by decide
theorem zrow_of {C : Nat} (hC : C < 24) (h10 : C ≠ 10) (h12 : C ≠ 12) : ∃ r : vw_C, zcls[C]? = some r ∧ r.1 = zcn C ∧ r.2.2 = (zfl C).length := by
  obtain ⟨r, h1, h2, h3, -⟩ := zrow_at hC (Option.some_get (zfl_ne C hC h10 h12)).symm
  exact ⟨r, h1, h2, h3⟩
theorem zsum_cat {ad : Nat → Nat} : ∀ (r : List Value), ((r.map (zcv ad)).map fun v => v.category).sum = zsum r := by
  intro r
  induction r with
  | nil => rfl
  | cons v t ih =>
    have e : (zcv ad v).category = zcat v := by rw [zcv_cat]; cases v <;> rfl
    simp only [List.map_cons, List.sum_cons, zsum, ih, e]
section Z6
variable {p : Program} {l : Launch} {e0 : Env} {R : Room} {s : State} {m : MethodId} {args : Array Value} {below : List Frame} {meth : Method} {c : Code} {H H0 : Heap} {locs : List Loc} {cells slots : Nat} {Q : State → Prop} {cc : ByteArray} {ls : Array Slot} {nL : Nat} {b nE sE : Nat} {oa : Nat → Nat} {D : va_G} {dA : Nat → ClassId} {S : zS} {L st : List Value} {e : zE} {o idx : Nat}
/-- what stands at a reference of a class -/
theorem zrecv (hK : va_K D zcls (ztys dA) s) (hTy : zTy S) (hLit : zLit b (zad b oa) D H0 S s) (hH : zHp b (zad b oa) D dA H0 S H) {a C : Nat} (hv : zvr S a) (ht : ztyp S a = C) (hC : C < 24) : zRec s H (zcn C) (zad b oa a) := by
  rcases hv with hv | hv
  · have hok := hTy a hv
    rw [ht] at hok
    simp only [zok, Bool.or_eq_true, Bool.and_eq_true, decide_eq_true_eq, bne_iff_ne] at hok
    obtain ⟨r, hr, hr1, -⟩ := zrow_of hC (by omega) (by omega)
    have hat := zcell_of hH hv
    rw [zE1_o ht (by omega)] at hat
    obtain ⟨r', h1, cell, q1, q2, q3, -⟩ := hat
    cases hr.symm.trans h1
    have hKn := (hK.1 C r hr).2
    rw [zad_lt (Nat.lt_trans hv hH.2.1), ← hr1]
    exact ⟨⟨_, hKn⟩, cell, q1, by rw [q3]; rfl, by rw [q2]; exact hKn.1⟩
  · rcases hLit a hv with ⟨h1, -⟩ | ⟨h1, -⟩ | ⟨h1, h2, cell, g1, g2, g3, g4, -⟩ | h1
    · omega
    · omega
    · have e : C = 22 := by omega
      subst e
      obtain ⟨r, hr, hr1, -⟩ := zrow_of (C := 22) (by decide) (by decide) (by decide)
      have hKn := (hK.1 22 r hr).2
      refine ⟨⟨_, by rw [← hr1]; exact hKn⟩, cell, by rw [hH.2.2.2.1 _ h2]; exact g1, g2, g4⟩
    · omega
theorem zcast_snd (hx : p.tables.exec = Jvm.exec) (hb : c.code = cc) (hd : decode cc e.1 = .ok (e.2.1, e.2.2.1)) (hk : zck o nL e = true) (hi : e.2.1 = .checkcast idx) {a : Nat} {r : List Value} (hst : st = .ref a :: r) (hown : s.vm.findClass (zcn o) = some m.cls) (hts : ∀ w ∈ lw_all, w.before args s = true)
    (hK : va_K D zcls (ztys dA) s) (hLit : zLit b (zad b oa) D H0 S s) (hTy : zTy S) (hstv : ∀ v ∈ st, zvv S v) (hH : zHp b (zad b oa) D dA H0 S H)
    {q} (h : zfld e (e.1 + e.2.2.1) L st S = some q) (hc : ∀ c, q.1 = some c → c) (k : W p l e0 R s m args below meth c H locs cells slots Q (F0 m q.2.1 ls (q.2.2.2.1.map (zcv (zad b oa))))) :
    W p l e0 R s m args below meth c H locs cells slots Q (F0 m e.1 ls (st.map (zcv (zad b oa)))) := by
  subst hst
  obtain ⟨pc, i, n, v, C, sw, vt⟩ := e
  simp only at hi
  subst hi
  simp only [zck, Bool.and_eq_true, beq_iff_eq, decide_eq_true_eq, List.contains_iff_mem, Bool.or_eq_true] at hk
  obtain ⟨⟨⟨rfl, ho⟩, hm⟩, hC⟩ := hk
  have hva : zvr S a := hstv (.ref a) (by simp)
  have hlink := hts _ (zCL_ok o ho _ hm)
  unfold zfld at h
  simp only at h hd
  split at h
  · have h2 := Option.some.inj h; subst h2
    have ht := hc _ rfl
    have hv : a < gN S := hLit.new hva (by omega)
    have hat := zcell_of hH hv
    rw [zE1_i ht (by omega) (by omega)] at hat
    show W p l e0 R s m args below meth c H locs _ _ Q (F0 m pc ls (.ref (zad b oa a) :: r.map (zcv (zad b oa))))
    have e1 := zad_lt (b := b) (oa := oa) (Nat.lt_trans hv hH.2.1)
    have k' : W p l e0 R s m args below meth c H locs cells slots Q (F0 m (pc + 3) ls (.ref (zad b oa a) :: r.map (zcv (zad b oa)))) := k
    rw [e1] at k' ⊢
    exact va_castA hx hb hown hlink (zP1 hat) 0 rfl (hK.2 1 _ rfl).2 hd k'
  · rename_i hne
    have hC' : C < 24 := by rcases hC with h | h; exact h; exact absurd h hne
    have h2 := Option.some.inj h; subst h2
    have ht := hc _ rfl
    obtain ⟨⟨cC, hcC⟩, hr⟩ := zrecv hK hTy hLit hH hva ht hC'
    exact va_castS hx hb hown hlink hcC hr hd k
theorem zinst_snd (hx : p.tables.exec = Jvm.exec) (hb : c.code = cc) (hd : decode cc e.1 = .ok (e.2.1, e.2.2.1)) (hk : zck o nL e = true) (hi : e.2.1 = .instanceof idx) {a : Nat} {r : List Value} (hst : st = .ref a :: r) (hown : s.vm.findClass (zcn o) = some m.cls) (hts : ∀ w ∈ lw_all, w.before args s = true)
    (hNc : va_Nc "SpendHouse$Lock" "SpendHouse$Wrapper" s ∧ va_Nc "SpendHouse$Image" "SpendHouse$Wrapper" s) (hK : va_K D zcls (ztys dA) s) (hLit : zLit b (zad b oa) D H0 S s) (hTy : zTy S) (hstv : ∀ v ∈ st, zvv S v) (hH : zHp b (zad b oa) D dA H0 S H)
    {q} (h : zfld e (e.1 + e.2.2.1) L st S = some q) (hc : ∀ c, q.1 = some c → c) (k : W p l e0 R s m args below meth c H locs cells slots Q (F0 m q.2.1 ls (q.2.2.2.1.map (zcv (zad b oa))))) :
    W p l e0 R s m args below meth c H locs cells slots Q (F0 m e.1 ls (st.map (zcv (zad b oa)))) := by
  subst hst
  obtain ⟨pc, i, n, v, C, sw, vt⟩ := e
  simp only at hi
  subst hi
  simp only [zck, Bool.and_eq_true, beq_iff_eq, decide_eq_true_eq, List.contains_iff_mem] at hk
  obtain ⟨⟨⟨rfl, ho⟩, hm⟩, hC⟩ := hk
  have hva : zvr S a := hstv (.ref a) (by simp)
  have hlink := hts _ (zCL_ok o ho _ hm)
  unfold zfld at h
  simp only at h hd
  have h2 := Option.some.inj h; subst h2
  have ht := hc _ rfl
  simp only [zinst, Bool.or_eq_true, Bool.and_eq_true, beq_iff_eq] at ht
  have hcase : ztyp S a = C ∨ (C = 11 ∧ ztyp S a = 14) ∨ (C = 11 ∧ ztyp S a = 15) := by omega
  rcases hcase with g | ⟨rfl, g⟩ | ⟨rfl, g⟩
  · obtain ⟨⟨cC, hcC⟩, hr⟩ := zrecv hK hTy hLit hH hva g hC
    simp only [g, if_true, List.map_cons] at k
    exact va_instS hx hb hown hlink hcC hr hd k
  · obtain ⟨-, hr⟩ := zrecv hK hTy hLit hH hva g (by decide)
    simp only [g, List.map_cons] at k
    exact va_instNo hx hb hown hlink hNc.1 hr hd k
  · obtain ⟨-, hr⟩ := zrecv hK hTy hLit hH hva g (by decide)
    simp only [g, List.map_cons] at k
    exact va_instNo hx hb hown hlink hNc.2 hr hd k
/-- Object's constructor, Math's methods -/
theorem zprim_snd (hx : p.tables.exec = Jvm.exec) (hb : c.code = cc) (hml : c.maxLocals = ls.size) (hd : decode cc e.1 = .ok (e.2.1, e.2.2.1)) (hk : zck o nL e = true) {nm : String} (hke : zchkE o nm e = true) (hi : e.2.1 = .invokespecial idx ∨ e.2.1 = .invokestatic idx) {r0 : Nat} {x0 : Nat} {vt0 : List (Nat × Nat)} (hvt : e.2.2.2.2.2.2 = (x0, r0) :: vt0) (hr0 : r0 = 9000 ∨ r0 = 9004 ∨ r0 = 9005 ∨ r0 = 9006)
    (hown : s.vm.findClass (zcn o) = some m.cls) (hts : ∀ w ∈ lw_all, w.before args s = true) (ho : o < 32) (hRf : 1 ≤ R.frames) (hRl : 40 ≤ R.locals) (hRc : cells ≤ R.cells) (hRs : slots ≤ R.slots)
    {q} (h : zfld e (e.1 + e.2.2.1) L st S = some q) (k : W p l e0 R s m args below meth c H locs cells slots Q (F0 m q.2.1 ls (q.2.2.2.1.map (zcv (zad b oa))))) :
    W p l e0 R s m args below meth c H locs cells slots Q (F0 m e.1 ls (st.map (zcv (zad b oa)))) := by
  obtain ⟨pc, i, n, v, A, sw, vt⟩ := e
  simp only at hi hvt
  subst hvt
  rcases hi with rfl | rfl
  · have hn : n = 3 := by simp only [zck, Bool.and_eq_true, beq_iff_eq] at hk; exact hk.1
    subst hn
    simp only [zchkE, Bool.or_eq_true, decide_eq_true_eq, List.contains_iff_mem] at hke
    have hl := zPL_ok o ho _ (hke.resolve_left (by omega))
    unfold zPF at hl
    unfold zfld at h
    simp only at h hd
    split at h
    · rename_i y z r9 heq
      split at h
      · rename_i hs
        have h2 := Option.some.inj h; subst h2
        have hs := of_decide_eq_true hs
        cases heq
        refine W.objInit (g := F0 m pc ls (.ref (zad b oa z) :: r9.map (zcv (zad b oa)))) hx hb hown (hts _ hl) (hts _ q216) (hts _ q217) rfl hml.symm rfl hd hRf ?_ k
        have := zsum_cat (ad := zad b oa) r9
        show 2 * 0 + _ + 12 ≤ _
        omega
      · cases h
    · rename_i heq
      cases heq
      omega
    · cases h
  · have hn : n = 3 := by simp only [zck, Bool.and_eq_true, beq_iff_eq] at hk; exact hk.1
    subst hn
    simp only [zchkE, Bool.or_eq_true, decide_eq_true_eq, List.contains_iff_mem] at hke
    have hl := zPL_ok o ho _ (hke.resolve_left (by omega))
    unfold zPF at hl
    unfold zfld at h
    simp only at h hd
    split at h
    · rename_i heq
      cases heq
      omega
    · rename_i y x r9 heq
      split at h
      · rename_i hs
        have h2 := Option.some.inj h; subst h2
        have hs := of_decide_eq_true hs
        cases heq
        refine va_mmax hx hb hml hown (hts _ hl) (hts _ q733) (hts _ q191) (hts _ q734) hRf ?_ hRc hRs hd k
        have := zsum_cat (ad := zad b oa) r9
        omega
      · cases h
    · rename_i y x r9 heq
      split at h
      · rename_i hs
        have h2 := Option.some.inj h; subst h2
        have hs := of_decide_eq_true hs
        cases heq
        refine va_mmin hx hb hml hown (hts _ hl) (hts _ q751) (hts _ q191) (hts _ q752) hRf ?_ hRc hRs hd k
        have := zsum_cat (ad := zad b oa) r9
        omega
      · cases h
    · rename_i x r9 heq
      split at h
      · rename_i hs
        have h2 := Option.some.inj h; subst h2
        have hs := of_decide_eq_true hs
        cases heq
        refine va_mabs_long hx hb hml hown (hts _ hl) (hts _ q2389) (hts _ q191) (hts _ q2390) hRf ?_ hRc hRs hd k
        have := zsum_cat (ad := zad b oa) r9
        omega
      · cases h
    · cases h
end Z6
