/-! ===== System.arraycopy, the dropped fields ===== -/
theorem znn (z : Int32) (hz : ¬ z < 0) : z.toInt = (z.toNatClampNeg : Int) := by
  have hz0 : (0 : Int) ≤ z.toInt := by
    have := Int32.not_lt.mp hz
    simpa using Int32.le_iff_toInt_le.mp this
  show z.toInt = ((z.toInt.toNat : Nat) : Int)
  omega
section Z7
variable {p : Program} {l : Launch} {e0 : Env} {R : Room} {s : State} {m : MethodId} {args : Array Value} {below : List Frame} {meth : Method} {c : Code} {H H0 : Heap} {locs : List Loc} {cells slots : Nat} {Q : State → Prop} {cc : ByteArray} {ls : Array Slot} {nL : Nat} {b nE sE : Nat} {oa : Nat → Nat} {D : va_G} {dA : Nat → ClassId} {S : zS} {L st : List Value} {e : zE} {o idx pc : Nat} {rest : List Value}
theorem zcopyW (hexec : p.tables.exec = Jvm.exec) (hb : c.code = cc) (hml : c.maxLocals = ls.size) {own : String} (hown : s.vm.findClass own = some m.cls) (hlink : (Cond.methodLink own idx arraycopyName).before args s = true) (hnat : (Cond.native arraycopyName).before args s = true) (hstat : (Cond.static arraycopyName).before args s = true) (hini : (Cond.initialized "java/lang/System").before args s = true)
    {src a n0 n1 : Nat} {f g : Nat → Int32} {c1 : ClassId} (hX : zLa s H src .byte n0 f) (hc1 : H[a]? = some (vp_cell c1 (n1, .inl g))) (hA1 : ArrOfT s c1 .byte)
    {sp dp n : Int32} (h1 : ¬ sp < 0) (h2 : ¬ dp < 0) (h3 : ¬ n < 0) (h4 : sp.toNatClampNeg + n.toNatClampNeg ≤ n0) (h5 : dp.toNatClampNeg + n.toNatClampNeg ≤ n1) (hfit : ∀ i : Nat, i < n.toNatClampNeg → fits .byte (.int (f (sp.toNatClampNeg + i))) = true)
    (hframes : 1 ≤ R.frames) (hlocals : (rest.map fun v => v.category).sum + (nativeFrameWords "java/lang/System" "arraycopy" 5 + 11) ≤ R.locals) (hdg : decode cc pc = .ok (.invokestatic idx, 3))
    (kk : ∀ (H1 : Heap) (L1 : List Loc), H1[a]? = some (vp_cell c1 (n1, .inl (va_cpy f g sp.toNatClampNeg dp.toNatClampNeg n.toNatClampNeg))) → H1.size = H.size → (∀ q : Nat, q ≠ a → H1[q]? = H[q]?) → (∀ q ∈ L1, q.base = a) → W p l e0 R s m args below meth c H1 (locs ++ L1) cells slots Q (F0 m (pc + 3) ls rest)) :
    W p l e0 R s m args below meth c H locs cells slots Q (F0 m pc ls (.int n :: .int dp :: .ref a :: .int sp :: .ref src :: rest)) := by
  intro T hT X
  obtain ⟨scr, hc0, hs2, hs3, hs4, hs5⟩ := hX
  obtain ⟨hs6, k0, hk0, cm0, hkk0⟩ := hs2
  have hs4 := hs4.1
  obtain ⟨-, k1, hk1, cm1, hkk1⟩ := hA1 n1 (fun j => .int (g j))
  obtain ⟨vm', X', step⟩ := X.arraycopy hexec hown hlink hnat hstat hini (src := src) (dst := a) (cs := scr) (cd := vp_cell c1 (n1, .inl g)) (srcPos := sp) (destPos := dp) (n := n) (by rw [hT]; exact hc0) (by rw [hT]; exact hc1)
    hs6 (fun _ h => by cases h) hs3 (fun h => by cases h) hk0 hk1 hkk0 hkk1 (by simp [refKind]) h1 h2 h3
    (by rw [znn sp h1, znn n h3]; omega)
    (by rw [znn dp h2, znn n h3]; show ¬ _ > ((arrV c1 n1 (fun j => .int (g j))).slots.size : Int); rw [arrV_size]; omega)
    (fun vm₁ _ i hi => by
      have e : scr.slots.getD (sp.toNatClampNeg + i) .null = .int (f (sp.toNatClampNeg + i)) := by
        rw [Array.getD_eq_getD_getElem?, hs5 _ (by omega)]
        rfl
      refine ⟨?_, ?_⟩
      · rw [e]
        exact hfit i hi
      · rw [e]
        exact trivial)
    (g := F0 m pc ls (.int n :: .int dp :: .ref a :: .int sp :: .ref src :: rest)) rfl (by rw [hml]) (rest := rest) rfl (by rw [hb]; exact hdg) hframes (by show 2 * 0 + _ + _ ≤ _; omega)
  have e1 : copied scr (vp_cell c1 (n1, .inl g)) sp dp n = vp_cell c1 (n1, .inl (va_cpy f g sp.toNatClampNeg dp.toNatClampNeg n.toNatClampNeg)) := va_copiedX (fun z => .int z) scr c1 f g hs5 h4
  rw [e1] at X' step
  have hl : a < H.size := (Array.getElem?_eq_some_iff.mp hc1).1
  have hheap : ((T.setVm vm').setCell a (vp_cell c1 (n1, .inl (va_cpy f g sp.toNatClampNeg dp.toNatClampNeg n.toNatClampNeg)))).heap = H.setIfInBounds a (vp_cell c1 (n1, .inl (va_cpy f g sp.toNatClampNeg dp.toNatClampNeg n.toNatClampNeg))) := by rw [← hT]; rfl
  obtain ⟨t, a1, b1⟩ := kk _ _ (by simp [Array.getElem?_setIfInBounds, hl]) (by simp) (fun q hq => by simp [Array.getElem?_setIfInBounds, Ne.symm hq]) (fun q hq => by
      obtain ⟨z, -, hz⟩ := List.mem_map.mp hq
      rw [← hz]) _ hheap X'
  exact ⟨t, step t a1, b1⟩
theorem zcopy_snd (hx : p.tables.exec = Jvm.exec) (hb : c.code = cc) (hml : c.maxLocals = ls.size) (hd : decode cc e.1 = .ok (e.2.1, e.2.2.1)) (hk : zck o nL e = true) {nm : String} (hke : zchkE o nm e = true) (hi : e.2.1 = .invokestatic idx) {x0 : Nat} {vt0 : List (Nat × Nat)} (hvt : e.2.2.2.2.2.2 = (x0, 9003) :: vt0)
    (hown : s.vm.findClass (zcn o) = some m.cls) (hts : ∀ w ∈ lw_all, w.before args s = true) (ho : o < 32) (hRf : 1 ≤ R.frames) (hRl : 40 ≤ R.locals)
    (hK : va_K D zcls (ztys dA) s) (hLit : zLit b (zad b oa) D H0 S s) (hTy : zTy S) (hBy : zBy S) (hstv : ∀ v ∈ st, zvv S v) (hH : zHp b (zad b oa) D dA H0 S H) (hS : va_S (fun q => b ≤ q) s.heap H locs)
    {q} (h : zfld e (e.1 + e.2.2.1) L st S = some q) (hc : ∀ c, q.1 = some c → c)
    (k : ∀ H' locs', zHp b (zad b oa) D dA H0 q.2.2.2.2 H' → va_S (fun q => b ≤ q) s.heap H' locs' → W p l e0 R s m args below meth c H' locs' cells slots Q (F0 m q.2.1 ls (q.2.2.2.1.map (zcv (zad b oa))))) :
    W p l e0 R s m args below meth c H locs cells slots Q (F0 m e.1 ls (st.map (zcv (zad b oa)))) := by
  obtain ⟨pc, i, n, v, A, sw, vt⟩ := e
  simp only at hi hvt
  subst hvt
  subst hi
  have hn : n = 3 := by simp only [zck, Bool.and_eq_true, beq_iff_eq] at hk; exact hk.1
  subst hn
  simp only [zchkE, Bool.or_eq_true, decide_eq_true_eq, List.contains_iff_mem] at hke
  have hl := zPL_ok o ho _ (hke.resolve_left (by omega))
  unfold zPF at hl
  unfold zfld at h
  simp only at h hd
  split at h
  · rename_i n9 dp d sp s9 r9 heq
    split at h
    · rename_i hs
      have h2 := Option.some.inj h; subst h2
      have hs := of_decide_eq_true hs
      cases heq
      obtain ⟨⟨ht1, ht2, hne⟩, g1, g2, g3, g4, g5⟩ := hc _ rfl
      have hdl : d < gN S := hLit.new (hstv (.ref d) (by simp)) (by omega)
      have ed := zad_lt (b := b) (oa := oa) (Nat.lt_trans hdl hH.2.1)
      have hat := zcell_of hH hdl
      rw [zE1_i ht2 (by omega) (by omega)] at hat
      have hX : zLa s H (zad b oa s9) .byte (zlen S s9) (gA S s9) := by
        rcases hstv (.ref s9) (by simp) with hv | hv
        · have ht : ztyp S s9 = 101 := by
            rcases ht1 with h | h
            · exact h
            · have hok := hTy s9 hv
              rw [h] at hok
              exact absurd hok (by decide)
          have hat9 := zcell_of hH hv
          rw [zE1_i ht (by omega) (by omega)] at hat9
          rw [zad_lt (Nat.lt_trans hv hH.2.1)]
          exact ⟨_, hat9, (hK.2 1 _ rfl).1 (zlen S s9) (fun j => .int (gA S s9 j)), (fun h => by cases h), ⟨Nat.le_of_eq (arrV_size _ _ _).symm, congrArg Nat.toInt32 (arrV_size (dA 101) (zlen S s9) (fun j => .int (gA S s9 j)))⟩, fun j hj => arrV_read _ _ hj⟩
        · rcases hLit s9 hv with ⟨h1, -⟩ | ⟨h1, h2, h3⟩ | ⟨h1, -⟩ | h1
          · omega
          · exact zold_cell hH h2 h3
          · omega
          · omega
      show W p l e0 R s m args below meth c H locs cells slots Q (F0 m pc ls (.int n9 :: .int dp :: .ref (zad b oa d) :: .int sp :: .ref (zad b oa s9) :: r9.map (zcv (zad b oa))))
      rw [ed]
      refine zcopyW hx hb hml hown (hts _ hl) (hts _ q755) (hts _ q754) (hts _ q193) hX (hat : H[b + d]? = _) (hK.2 1 _ rfl).1 g2 g3 g1 g4 g5 (fun i hi => (znar_b (hBy s9 _ ht1)).2) hRf ?_ hd fun H1 L1 e1 e2 e3 e4 => ?_
      · have := zsum_cat (ad := zad b oa) r9
        have h9 : nativeFrameWords "java/lang/System" "arraycopy" 5 + 11 ≤ 30 := by decide +kernel
        omega
      · refine k H1 (locs ++ L1) (hH.upd rfl rfl (fun j _ hj => zE1_same (zSame.cp hj)) ?_ (fun h => by omega) (fun h => by omega) e2 e3) ⟨by rw [e2]; exact hS.1, fun q h1 h2 => ?_, fun q hq => ?_⟩
        · rw [zE1_i (S := zcopy S s9 d sp.toNatClampNeg dp.toNatClampNeg n9.toNatClampNeg) (show ztyp S d = 101 from ht2) (by omega) (by omega)]
          show H1[b + d]? = some (vp_cell _ _)
          rw [e1]
          have : gA (zcopy S s9 d sp.toNatClampNeg dp.toNatClampNeg n9.toNatClampNeg) d = va_cpy (gA S s9) (gA S d) sp.toNatClampNeg dp.toNatClampNeg n9.toNatClampNeg := funext fun j => if_pos rfl
          rw [this]
          rfl
        · rw [e3 q (fun e => h2 (by rw [e]; exact Nat.le_add_right _ _))]
          exact hS.2.1 q h1 h2
        · rcases List.mem_append.mp hq with h | h
          · exact hS.2.2 q h
          · rw [e4 q h]; exact Nat.le_add_right _ _
    · cases h
  · rename_i heq; cases heq
  · rename_i heq; cases heq
  · rename_i heq; cases heq
  · cases h
/-- a put into one of the fields that are not kept: the object already holds the same reference in its own -/
theorem zdrop_snd (hx : p.tables.exec = Jvm.exec) (hb : c.code = cc) (hd : decode cc e.1 = .ok (e.2.1, e.2.2.1)) (hk : zck o nL e = true) (hke : zchkE o meth.name e = true) (hi : e.2.1 = .putfield idx) {x a : Nat} {r : List Value} (hst : st = .ref x :: .ref a :: r) (h5 : zfk e.2.2.2.2.1 = 5) (hown : s.vm.findClass (zcn o) = some m.cls) (hts : ∀ w ∈ lw_all, w.before args s = true)
    (hK : va_K D zcls (ztys dA) s) (hTy : zTy S) (hH : zHp b (zad b oa) D dA H0 S H) (hS : va_S (fun q => b ≤ q) s.heap H locs)
    {q} (h : zfld e (e.1 + e.2.2.1) L st S = some q) (hc : ∀ c, q.1 = some c → c)
    (k : ∀ H' locs', zHp b (zad b oa) D dA H0 q.2.2.2.2 H' → va_S (fun q => b ≤ q) s.heap H' locs' → W p l e0 R s m args below meth c H' locs' cells slots Q (F0 m q.2.1 ls (q.2.2.2.1.map (zcv (zad b oa))))) :
    W p l e0 R s m args below meth c H locs cells slots Q (F0 m e.1 ls (st.map (zcv (zad b oa)))) := by
  subst hst
  obtain ⟨pc, i, n, v, F, sw, vt⟩ := e
  simp only at hi h5
  subst hi
  simp only [zck, zckF, Bool.and_eq_true, beq_iff_eq, decide_eq_true_eq, Bool.or_eq_true, List.contains_iff_mem] at hk
  obtain ⟨rfl, ⟨⟨hF, ho⟩, hF2⟩, -⟩ := hk
  have hF9 : F = 159 ∨ F = 163 := by
    have : ∀ f, f < 207 → zfk f = 5 → f = 159 ∨ f = 163 := by decide +kernel
    exact this F hF2 h5
  have hff : zff F = true := by rcases hF9 with rfl | rfl <;> rfl
  have hmn : meth.name = "<init>" ∧ (zfd F).1 = zcn o ∧ (idx, F, 0) ∈ zFL o := by
    simp only [zchkE, hff, Bool.and_eq_true, Bool.or_eq_true, decide_eq_true_eq, List.contains_iff_mem] at hke
    have h1 := hke.1
    simp at h1
    exact ⟨h1.1.1, h1.1.2, h1.2⟩
  have hqq : q.2 = (pc + 3, L, r, S) ∧ zdr F (ztyp S a) = true ∧ a < gN S ∧ gP S (zt0 (ztyp S a)) a = some x := by
    unfold zfld at h
    simp only at h
    split at h
    · rename_i h4 _; rw [h5] at h4; cases h4
    · rename_i h4 _; rw [h5] at h4; cases h4
    · have h2 := Option.some.inj h
      subst h2
      exact ⟨rfl, hc _ rfl⟩
    · cases h
  obtain ⟨hq2, hdr, ha, hP⟩ := hqq
  rw [hq2] at k
  generalize hC : ztyp S a = C at *
  have hok := hTy a ha
  rw [hC] at hok
  have hC24 : C < 24 := by
    simp only [zdr, Bool.or_eq_true, Bool.and_eq_true, beq_iff_eq] at hdr
    omega
  obtain ⟨hz4, hz5⟩ := zdr_t0 C hC24 (by rcases hF9 with rfl | rfl; exact Or.inl hdr; exact Or.inr hdr)
  simp only [zok, Bool.or_eq_true, Bool.and_eq_true, decide_eq_true_eq, bne_iff_ne] at hok
  obtain ⟨r0, hr, hr1, hrl⟩ := zrow_of hC24 (by omega) (by omega)
  have hz := zcl_ok r0 (List.mem_of_getElem? hr)
  have hat := zcell_of hH ha
  rw [zE1_o hC (by omega)] at hat
  obtain ⟨r', h1, cell, q1, q2, q3, q4⟩ := hat
  cases hr.symm.trans h1
  obtain ⟨hSl, hfc, kC, hkC, hkind⟩ := hK.1 C r0 hr
  have hlay := hts _ (zdrL_ok _ (zdr_in F hF2 C hC24 hdr))
  simp only at hlay
  rw [← hr1] at hlay
  obtain ⟨iX, cf, kf, fi, f, hi, hiX⟩ := u_found (Or.inr hlay)
  have hst := (u_facts hfc hkC (Or.inr hlay) hi)
  obtain ⟨ty, hp, -, hnf⟩ := zkd_r hF2 (Or.inr h5)
  have hcf : m.cls = cf := by
    obtain ⟨_, _, c', _, _, _, -, -, hf', -, -, -, hown2, -⟩ := Cond.laysFinal_spec hlay
    have e1 : c' = cf := by have := hi.symm.trans hf'; simp at this; exact this.1.symm
    rw [hmn.2.1] at hown2
    rw [← e1]; exact Option.some.inj (hown.symm.trans hown2)
  have h6 := u_fits (v := va_rf (some (zad b oa x))) hfc hkC hkind (Or.inr hlay) hi hp (hnf _).1 (hnf _).2
  have hl := zFL_ok o ho _ hmn.2.2
  unfold zFF at hl
  rw [if_pos rfl] at hl
  have hlt : f.slot < cell.slots.size := by
    have hz9 := hH.2.2.2.2.1 a ha (by rw [hC]; exact hC24) cell q1
    rw [hC] at hz9
    obtain ⟨w1, -⟩ := zNew_ok C (zNewL_in C hC24 (by omega) (by omega))
    obtain ⟨c9, k9, g1, g2, -, -, -, g6⟩ := Cond.instantiable_spec (hts _ w1)
    have ec : c9 = D.1 C := Option.some.inj (g1.symm.trans (by rw [← hr1]; exact hfc))
    rw [ec] at g2
    cases hkC.symm.trans g2
    have hlt9 := (Array.getElem?_eq_some_iff.mp hst.2.2).1
    omega
  show W p l e0 R s m args below meth c H locs cells slots Q (F0 m pc ls (.ref (zad b oa x) :: .ref (zad b oa a) :: r.map (zcv (zad b oa))))
  rw [zad_lt (Nat.lt_trans ha hH.2.1)]
  refine W.putFinK hx hb hown (hts _ hl) hi hst.1 hcf hmn.1 (by rw [q2]; exact h6) q1 q3 hlt rfl rfl hd fun H' e1 e2 e3 => ?_
  refine k H' _ (hH.upd rfl rfl (fun j _ _ => rfl) ?_ (fun _ => ⟨_, _, q1, e1, by simp [Cell.setSlot]⟩) (fun h => by rw [hC] at h; subst h; rcases hF9 with rfl | rfl <;> exact absurd hdr (by decide)) e2 e3) (hS.put e2 e3 (Nat.le_add_right _ _))
  rw [zE1_o hC (by omega)]
  refine ⟨r0, hr, _, e1, q2, q3, fun j hj => ?_⟩
  by_cases hjs : D.2 C j = f.slot
  · have hjl : j < (zfl C).length := by omega
    obtain ⟨G, hG⟩ : ∃ G, (zfl C)[j]? = some G := ⟨_, List.getElem?_eq_getElem hjl⟩
    obtain ⟨r2, hr2, -, -, -, hT, -⟩ := zrow_at hC24 hG
    cases hr.symm.trans hr2
    have hGt : G = zt0 C := by
      have := List.all_eq_true.mp hz5 G (List.mem_of_getElem? hG)
      simp only [Bool.or_eq_true, decide_eq_true_eq, beq_iff_eq] at this
      rcases this with hne | he
      · exfalso
        obtain ⟨cg, kg, gi, fg, hgi, hgs⟩ := hSl j hj
        obtain ⟨tyf, htyf⟩ := hz.2.2
        refine u_apart (Or.inr hlay) (u_lays hts hz.1 hj) hi hgi ?_ (by rw [hgs]; exact hjs.symm)
        rw [(State.fieldFound?_type hi hp).1, (State.fieldFound?_type hgi (htyf j hj)).1]
        have e9 : (r0.2.1 j).2.1 = (zfd G).2.1 := congrArg (fun t => t.2.1) hT
        rw [e9]
        have e8 : (zfd F).2.1 = "this$0" := by rcases hF9 with rfl | rfl <;> rfl
        rw [e8]
        exact fun h => hne h.symm
      · exact he
    have hval : vp_V ((zfl C).map (zfv (zad b oa) S a)) j = .ref (zad b oa x) := by
      have : vp_V ((zfl C).map (zfv (zad b oa) S a)) j = zfv (zad b oa) S a G := by simp [vp_V, List.getElem?_map, hG]
      rw [this, hGt]
      unfold zfv
      simp only [hz4, hP]
      rfl
    rw [hval, hjs]
    simp [Cell.setSlot, Array.getElem?_setIfInBounds, hlt]
  · have := q4 j hj
    simp only [Cell.setSlot, Array.getElem?_setIfInBounds]
    rw [if_neg (Ne.symm hjs)]
    exact this
end Z7
