/-! ===== Exception.<init> ===== -/
section ZB
variable {p : Program} {l : Launch} {e0 : Env} {R : Room} {s : State} {m : MethodId} {args : Array Value} {below : List Frame} {meth : Method} {c : Code} {H H0 : Heap} {locs : List Loc} {cells slots : Nat} {Q : State → Prop} {cc : ByteArray} {ls : Array Slot} {nL : Nat} {rest : List Value} {b nE sE : Nat} {oa : Nat → Nat} {D : va_G} {dA : Nat → ClassId} {S : zS} {L st : List Value} {e : zE} {o idx : Nat}
theorem zback {T U : State} {R' : Room} {L : List Loc} {k n : Nat} (X : Stand p l e0 R s m args below meth c T locs cells slots) (Y : Stand p l e0 R' ((T.setVm s.vm).setFrames (.invoking m args :: below)) m args below meth c T [] 0 0) (Z : Stand p l e0 R' ((T.setVm s.vm).setFrames (.invoking m args :: below)) m args below meth c U L k n) :
    Stand p l e0 R s m args below meth c U (locs ++ L) (cells + k) (slots + n) := by
  have hW0 : s.WarmedH ((T.setVm s.vm).setFrames (.invoking m args :: below)).vm := State.WarmedH.refl s
  refine { admits := X.admits, cas := X.cas, clock := X.clock, frames := X.frames, room := X.room, hears := X.hears, method := X.method, code := X.code, here := Z.here, tail := Z.tail, warmed := State.WarmedH.trans hW0 Z.warmed, limits := Z.limits.trans (Y.limits.symm.trans X.limits), bytes := Z.bytes.trans (Y.bytes.symm.trans X.bytes), same := ?_ }
  obtain ⟨e1, e2⟩ := Z.same
  rw [State.setFrames_setFrames] at e1
  have h2 : (T.setVm s.vm).sameButNew (U.setVm s.vm) L k n := ⟨e1, e2⟩
  exact X.same.trans h2
theorem zthr_atoms (hts : ∀ w ∈ lw_all, w.before args s = true) (lU : (Cond.laysStatic Bundle.tN "UNASSIGNED_STACK" Bundle.steD).before args s = true) (lN : (Cond.laysStatic Bundle.tN "SUPPRESSED_SENTINEL" Bundle.listD).before args s = true) : ∀ w ∈ Bundle.throwableAtoms, w.before args s = true :=
  vx_c (hts _ q185) (vx_c (hts _ q640) (vx_c (hts _ q649) (vx_c (hts _ q651) (vx_c (hts _ q654) (vx_c (hts _ q656) (vx_c (hts _ q641) (vx_c (hts _ q642) (vx_c (hts _ q216) (vx_c (hts _ q217) (vx_c (hts _ q643) (vx_c (hts _ q648) (vx_c (hts _ q652) (vx_c (hts _ q669) (vx_c (hts _ q630) (vx_c (hts _ q670) (vx_c (hts _ q632) (vx_c (hts _ q671) (vx_c (hts _ q634) (vx_c (hts _ q644) (vx_c lU (vx_c (hts _ q646) (vx_c lN (vx_c (hts _ q636) vx_n)))))))))))))))))))))))
theorem zchain_atoms (hts : ∀ w ∈ lw_all, w.before args s = true) (hKx : zKx s) : ∀ w ∈ Bundle.chain0Atoms "java/lang/Exception" [], w.before args s = true :=
  vx_c (hts _ q661) (vx_c (hts _ q662) (vx_c (hts _ q663) (vx_c (hts _ q641) (vx_c (va_tabs rfl rfl (hKx _ q625 rfl)) vx_n))))
theorem ztakes {s : State} {cell : Cell} {k : Class} {f : Field} {v : Value} (hk : s.vm.classes[cell.cls]? = some k) (hord : k.kind = .ordinary) (hty : k.instanceTypes[f.slot]? = some f.type) (hn : cell.slots.size = k.instanceTypes.size) (hvm : cell.vm = .none) (hv : fits f.type v = true) : Takes s cell f v := by
  refine ⟨?_, ?_⟩
  · have := (Array.getElem?_eq_some_iff.mp hty).1
    omega
  · simp [State.fitsSlot, State.slotType?, hk, hord, hty, hv, hvm]
set_option maxHeartbeats 2000000 in
theorem zexc_row (hexec : p.tables.exec = Jvm.exec) (hb : c.code = cc) (hl : l.stackTraces = false) (hown : s.vm.findClass "SpendHouse$Fault" = some m.cls) (hts : ∀ w ∈ lw_all, w.before args s = true) (hKx : zKx s) {A : Nat → Prop}
    (hU : vx_Zq Bundle.tN "UNASSIGNED_STACK" Bundle.steD A s s.heap) (hN : vx_Zq Bundle.tN "SUPPRESSED_SENTINEL" Bundle.listD A s s.heap) (hS : va_S A s.heap H locs) (hsize : ls.size = c.maxLocals)
    {a : Nat} (hA : A a) {cell : Cell} (hcell : H[a]? = some cell) (hcls : s.vm.findClass "SpendHouse$Fault" = some cell.cls) (hvn : cell.vm = .none) (hfree : cell.monitor.owner = none) (hcount : cell.monitor.count = 0) (hsz : cell.slots.size = 8)
    (hBk : ∀ cf kf fi f, s.fieldFound? "java/lang/Throwable" "backtrace" "Ljava/lang/Object;" = some (cf, kf, fi, f) → cell.slots[f.slot]? = some .null)
    {pc : Nat} (hd : decode cc pc = .ok (.invokespecial 1, 3)) (hRf : 4 ≤ R.frames) (hRl : (rest.map fun v => v.category).sum + 60 ≤ R.locals) (hRc : cells ≤ R.cells) (hRs : slots ≤ R.slots)
    (kk : ∀ (H' : Heap) (ce : Cell) (L : List Loc), H'.size = H.size → (∀ q, q ≠ a → H'[q]? = H[q]?) → H'[a]? = some ce → ce.cls = cell.cls → ce.vm = .none → ce.slots.size = cell.slots.size →
      (∀ j, (∀ n d cf kf fi f, (n, d) ∈ [("cause", "Ljava/lang/Throwable;"), ("stackTrace", Bundle.steD), ("suppressedExceptions", Bundle.listD)] → s.fieldFound? Bundle.tN n d = some (cf, kf, fi, f) → f.slot ≠ j) → ce.slots[j]? = cell.slots[j]?) →
      (∀ y ∈ L, y.base = a) → W p l e0 R s m args below meth c H' (locs ++ L) cells slots Q (F0 m (pc + 3) ls rest)) :
    W p l e0 R s m args below meth c H locs cells slots Q (F0 m pc ls (.ref a :: rest)) := by
  intro T hT X
  subst hT
  have htr : e0.platform.stackTraces = false := (show e0.platform.stackTraces = l.stackTraces by rw [X.admits.platform]).trans hl
  have Y := vx_rebase X (R' := { frames := R.frames, locals := R.locals, cells := 0, slots := 0 }) (Nat.le_refl _) (Nat.le_refl _) hRc hRs
  obtain ⟨s', hA'⟩ : ∃ z, z = (T.setVm s.vm).setFrames (.invoking m args :: below) := ⟨_, rfl⟩
  have Y' := Y
  rw [← hA'] at Y'
  have hvm : s'.vm = s.vm := by rw [hA']; rfl
  have hhp : s'.heap = T.heap := by rw [hA']; rfl
  have hff9 : ∀ C n d, s'.fieldFound? C n d = s.fieldFound? C n d := fun C n d => by rw [hA']; rfl
  have hW0 : s.WarmedH s'.vm := by rw [hvm]; exact State.WarmedH.refl s
  have hts' : ∀ w ∈ lw_all, w.before args s' = true := fun w hw => word_at hW0 (good_of_word (List.mem_filter.mp hw).2) (hts w hw)
  have hKx' : zKx s' := hKx.same hvm
  have hU' : vx_Zq Bundle.tN "UNASSIGNED_STACK" Bundle.steD A s' s'.heap := by rw [hhp]; exact vx_Zq.moved hW0.alike (hU.kept hS.2.1)
  have hN' : vx_Zq Bundle.tN "SUPPRESSED_SENTINEL" Bundle.listD A s' s'.heap := by rw [hhp]; exact vx_Zq.moved hW0.alike (hN.kept hS.2.1)
  have hown' : s'.vm.findClass "SpendHouse$Fault" = some m.cls := by rw [hvm]; exact hown
  have howns : e0.platform.frameOwnsMonitors = true := by rw [Y'.admits.platform]
  have hfin : e0.platform.finalization = false := by rw [Y'.admits.platform]
  have hpl : e0.platform.magicAccessors = ({} : Platform).magicAccessors := by rw [Y'.admits.platform]
  obtain ⟨T0, Z, L, LZ, Yt⟩ := ThrowableC.of_atoms (args := args) howns hfin hpl (zthr_atoms hts' hU'.2.word hN'.2.word)
  obtain ⟨P1, Ps, hlen, L1, hL, hP1m, hlink1, hlink⟩ := Bundle.chain0 (args := args) hpl Yt.init0 [] "java/lang/Exception" (by decide) (fun _ h => nomatch h) (zchain_atoms hts' hKx')
  have hfound : s'.vm.findClass "SpendHouse$Fault" = some cell.cls := by rw [hvm]; exact hcls
  obtain ⟨c1, kX, hc1, hk, hord, -, -, hn8⟩ := Cond.instantiable_spec (hts' _ q621)
  cases Option.some.inj (hc1.symm.trans hfound)
  have hn8' : cell.slots.size = kX.instanceTypes.size := by rw [hsz]; exact hn8.symm
  have hsel0 : selectMethod e0.platform s'.vm cell.cls T0.fill0 = .method T0.fill0 := by
    obtain ⟨c2, r2, m2, q1, q2, q3, q4, -⟩ := Cond.selects_spec (hts' _ q627)
    cases Option.some.inj (q1.symm.trans hfound)
    cases Option.some.inj (q2.symm.trans (State.methodFound?_of_named Yt.fill0 (by decide)))
    cases Option.some.inj (q3.symm.trans Yt.fill0)
    rw [Launch.admits_selectMethod Y'.admits]; exact q4
  have hselF : selectMethod e0.platform s'.vm cell.cls T0.fill = .method T0.fill := by
    obtain ⟨c2, r2, m2, q1, q2, q3, q4, -⟩ := Cond.selects_spec (hts' _ q628)
    cases Option.some.inj (q1.symm.trans hfound)
    cases Option.some.inj (q2.symm.trans (State.methodFound?_of_named Yt.fill (by decide)))
    cases Option.some.inj (q3.symm.trans Yt.fill)
    rw [Launch.admits_selectMethod Y'.admits]; exact q4
  obtain ⟨cellS, hcS, hiss⟩ := Yt.statics
  obtain ⟨u0, hu0⟩ := Cond.staticRefV (args := args) Yt.unassigned L.unassignedStatic L.statics hcS hiss (vx_isRefq hU'.1)
  obtain ⟨sen, hsen⟩ := Cond.staticRefV (args := args) Yt.sentinel L.sentinelStatic L.statics hcS hiss (vx_isRefq hN'.1)
  obtain ⟨ci198, i198, fB, hk198, hg198, ha198, hsB, -, hnB, htB, hffB⟩ := Cond.ownField (t := .object "java/lang/Object") Yt.found L.cls (by decide +kernel) (hts' _ q639) (hts' _ q638) e0.platform hpl
  have hcellS : T.heap[T0.aS]? = some cellS := by rw [← hhp]; exact hcS
  have hknownS : cellS.vm ≠ .unknown := by
    intro hu
    rw [hu] at hiss
    cases hiss
  have hneS : T0.aS ≠ a := by
    intro h
    rw [h, hcell] at hcellS
    cases hcellS
    rw [hvn] at hiss
    cases hiss
  obtain ⟨tyC, dC, hdC, hdnC⟩ := Cond.laysAt hfound hk Yt.cause (hts' _ q629)
  obtain ⟨tyS, dS, hdS, hdnS⟩ := Cond.laysAt hfound hk Yt.stack (hts' _ q631)
  obtain ⟨tyP, dP, hdP, hdnP⟩ := Cond.laysAt hfound hk Yt.supp (hts' _ q633)
  obtain ⟨tyB, dB, hdB, hdnB⟩ := Cond.laysAt hfound hk hffB (hts' _ q637)
  have bC := Cond.laysApart hdB hdC hdnB hdnC (by rw [hnB, Yt.causeName]; decide)
  have bS := Cond.laysApart hdB hdS hdnB hdnS (by rw [hnB, Yt.stackName]; decide)
  have bP := Cond.laysApart hdB hdP hdnB hdnP (by rw [hnB, Yt.suppName]; decide)
  have hnull : cell.slots[fB.slot]? = some .null := hBk _ _ _ _ ((hff9 _ _ _).symm.trans hffB)
  have hskip : SkipFacts T0 e0.platform s' (fun u => u) u0 ((preparedCellV T0.toThrowableT cell a u0 sen).withEntry T.cur) :=
    ⟨{ ci198 := ci198, i198 := i198, fBack := fB }, ⟨hk198, hg198, ha198, hsB⟩, by
      simpa [preparedCellV, Cell.setSlot, Cell.withEntry, Array.getElem?_setIfInBounds, bC, bS, bP, bC.symm, bS.symm, bP.symm] using hnull, fun _ _ => rfl⟩
  obtain ⟨tm, methC, cdC, kC, vm₁, hnC, -, -, -, -, -, -, -, hW₁, st1⟩ := Steps.initCold (tb := p.tables) (e := e0) (below := below) (s := s') (U := T) Y'.here hexec Y'.warmed hpl hown' (t := Bundle.init0 "java/lang/Exception") rfl rfl (by decide)
    (hts' _ q660) (hts' _ q661) (bytes := Bundle.five) (maxL := 1) (hts' _ q662)
    (f := F0 m pc ls (.ref a :: rest)) rfl (a := a) (rest := rest) rfl (by rw [hb]; exact hd)
  cases Option.some.inj (hnC.symm.trans hP1m)
  have X₁ := Y'.noted hW₁
  obtain ⟨vm₂, X₂, st2⟩ := X₁.ctorPlainOffV hexec (g := F0 m pc ls rest) rfl hsize T0 L Z LZ (P1 :: Ps)
    (fun P hP => by rcases List.mem_cons.mp hP with rfl | hP; exact L1; exact hL P hP) ⟨hlink1, hlink⟩ (u0 := u0) (sen := sen) (self := a) (cell := cell) (cellS := cellS)
    hcell (fun _ => by rw [hvn]; simp) (by rw [hvn]; simp) hfree hcount hsel0 hselF hcellS hneS hknownS hu0 hsen
    (ztakes hk hord tyC hn8' hvn (by rw [Yt.causeType]; rfl)) (ztakes hk hord tyS hn8' hvn (by rw [Yt.stackType]; exact fits_refV_array _ u0)) (ztakes hk hord tyP hn8' hvn (by rw [Yt.suppType]; exact fits_refV_object _ sen)) Yt.objLocals hskip htr [] (by rw [hb]; exact hd)
    (by simp only [List.length_cons, hlen]; simp; omega) (by
      have h0 : (F0 m pc ls rest).monitorRoom = 0 := rfl
      have h1 : (F0 m pc ls rest).stack = rest := rfl
      rw [h0, h1]
      simp only [List.length_cons, hlen]
      simp
      omega)
  have hlt : a < ((T.setVm vm₁).setVm vm₂).heap.size := (Array.getElem?_eq_some_iff.mp hcell).1
  subst hA'
  have X5 := zback X Y X₂
  obtain ⟨t, a1, b1⟩ := kk (((T.setVm vm₁).setVm vm₂).setCell a ((preparedCellV T0.toThrowableT cell a u0 sen).setSlot T0.fStack.slot u0.v)).heap ((preparedCellV T0.toThrowableT cell a u0 sen).setSlot T0.fStack.slot u0.v) [⟨a, T0.fCause.slot⟩, ⟨a, T0.fStack.slot⟩, ⟨a, T0.fSupp.slot⟩, ⟨a, T0.fStack.slot⟩] (by simp [State.setCell]) (fun q hq => by simp [State.setCell, Array.getElem?_setIfInBounds, Ne.symm hq]) (heapAt_setCell_self (s := ((T.setVm vm₁).setVm vm₂)) _ hlt) rfl hvn (by simp [Cell.setSlot]) (fun j hj => by
      have jC := hj _ _ _ _ _ _ (by simp) Yt.cause
      have jS := hj _ _ _ _ _ _ (by simp) Yt.stack
      have jP := hj _ _ _ _ _ _ (by simp) Yt.supp
      simp [preparedCellV, Cell.setSlot, Array.getElem?_setIfInBounds, jC, jS, jP]) (fun y hy => by
      simp only [List.mem_cons, List.not_mem_nil, or_false] at hy
      rcases hy with rfl | rfl | rfl | rfl <;> rfl) _ rfl X5
  refine ⟨t, st1 _ (fun acts => ?_), b1⟩
  rw [doInvoke_state]
  exact st2 _ a1
theorem zsty8 : ∀ a, a < zD0 → (zsty a).1 ≠ 8 := by decide +kernel
theorem zPL9001 : ∀ o, o < 32 → (zPL o).all (fun q => q.2 != 9001 || (o == 8 && q.1 == 1)) = true := by decide +kernel
theorem zexc_snd (hx : p.tables.exec = Jvm.exec) (hl : l.stackTraces = false) (hb : c.code = cc) (hd : decode cc e.1 = .ok (e.2.1, e.2.2.1)) (hk : zck o nL e = true) (hke : zchkE o meth.name e = true) (hi : e.2.1 = .invokespecial idx) {r0 : Nat} {x0 : Nat} {vt0 : List (Nat × Nat)} (hvt : e.2.2.2.2.2.2 = (x0, r0) :: vt0) (hr0 : r0 = 9001) (ho : o < 32) (hown : s.vm.findClass (zcn o) = some m.cls) (hts : ∀ w ∈ lw_all, w.before args s = true) (hKx : zKx s)
    (hK : va_K D zcls (ztys dA) s) (hBk : zBk D s) (hU : vx_Zq Bundle.tN "UNASSIGNED_STACK" Bundle.steD (fun q => b ≤ q) s s.heap) (hN : vx_Zq Bundle.tN "SUPPRESSED_SENTINEL" Bundle.listD (fun q => b ≤ q) s s.heap) (hH : zHp b (zad b oa) D dA H0 S H) (hS : va_S (fun q => b ≤ q) s.heap H locs) (hml : c.maxLocals = ls.size) (hRf : 4 ≤ R.frames) (hRl : 60 ≤ R.locals)
    (hrn : gN S ≤ nE + R.cells) (hrz : gZ S ≤ sE + R.slots) {q} (h : zfld e (e.1 + e.2.2.1) L st S = some q) (hc : ∀ c, q.1 = some c → c)
    (k : ∀ H' locs', zHp b (zad b oa) D dA H0 q.2.2.2.2 H' → va_S (fun q => b ≤ q) s.heap H' locs' → W p l e0 R s m args below meth c H' locs' (gN q.2.2.2.2 - nE) (gZ q.2.2.2.2 - sE) Q (F0 m q.2.1 ls (q.2.2.2.1.map (zcv (zad b oa))))) :
    W p l e0 R s m args below meth c H locs (gN S - nE) (gZ S - sE) Q (F0 m e.1 ls (st.map (zcv (zad b oa)))) := by
  obtain ⟨pc, i, n, v, F, sw, vt⟩ := e
  simp only at hi hvt
  subst hi
  subst hvt
  have hn : n = 3 := by simp only [zck, Bool.and_eq_true, beq_iff_eq] at hk; exact hk.1
  subst hn
  simp only [zchkE, Bool.or_eq_true, decide_eq_true_eq, List.contains_iff_mem] at hke
  have h8 := List.all_eq_true.mp (zPL9001 o ho) _ (hke.resolve_left (by omega))
  simp only [hr0, bne_self_eq_false, Bool.false_or, Bool.and_eq_true, beq_iff_eq] at h8
  obtain ⟨rfl, rfl⟩ := h8
  unfold zfld at h
  simp only at h hd
  split at h
  · rename_i heq
    cases heq
    omega
  · rename_i y a r9 heq
    split at h
    · have h2 := Option.some.inj h; subst h2
      obtain ⟨ht, ha, hz⟩ := hc _ rfl
      have hat := zcell_of hH ha
      rw [zE1_o ht (by omega)] at hat
      obtain ⟨r', hr, cell, q1, q2, q3, q4⟩ := hat
      obtain ⟨cell', f1, f2, f3, f4⟩ := hH.2.2.2.2.2 a ha ht hz
      cases q1.symm.trans f1
      have h5 := hH.2.2.2.2.1 a ha (by omega) cell q1
      rw [ht] at h5
      have er : r' = (RX8, TX8, 2) := Option.some.inj (hr.symm.trans rfl)
      subst er
      obtain ⟨hSl, hfc, kC, hkC, hkind⟩ := hK.1 8 _ hr
      have hz8 := zcl_ok _ (List.mem_of_getElem? hr)
      obtain ⟨tyf, htyf⟩ := hz8.2.2
      have hty := ztyp_sT ht
      have haD : ¬ a < zD0 := fun h => zsty8 a h (by rw [← ht]; exact (if_pos h).symm)
      have hlen1 : zlen (sT S a 8 1) a = 1 := by
        unfold zlen
        rw [if_neg haD]
        exact congrArg Prod.snd (if_pos rfl)
      have hE : ∀ j, zE1 dA (zad b oa) (sT S a 8 1) j = zE1 dA (zad b oa) S j := by
        intro j
        by_cases hj : j = a
        · rw [hj, zE1_o ((hty a).trans ht) (by omega), zE1_o ht (by omega)]
          rfl
        · exact zE1_same ⟨if_neg hj, fun _ => rfl, fun _ => rfl, fun _ => rfl, fun _ => rfl, fun _ => rfl⟩
      show W p l e0 R s m args below meth c H locs _ _ Q (F0 m pc ls (.ref (zad b oa a) :: []))
      rw [zad_lt (Nat.lt_trans ha hH.2.1)]
      refine zexc_row hx hb hl hown hts hKx hU hN hS hml.symm (Nat.le_add_right b a) q1 (by rw [q2]; exact hfc) q3 f2 f3 h5 (fun cf kf fi f hf => ?_) hd hRf (by simpa using hRl) (by omega) (by omega) (fun H' ce L9 e2 e3 e1 g1 g2 g3 g4 gL => ?_)
      · obtain ⟨cf', kf', fi', f', hf', hsl⟩ := hBk
        cases hf.symm.trans hf'
        rw [hsl]
        exact f4
      · refine k H' (locs ++ L9) ⟨by rw [e2]; exact hH.1, hH.2.1, fun j hj => ?_, fun q hq => (e3 q (by omega)).trans (hH.2.2.2.1 q hq), fun j hj hj2 c9 hc9 => ?_, fun j hj hj2 hj3 => ?_⟩ ⟨by rw [e2]; exact hS.1, fun x h1 h2 => (e3 x (by omega)).trans (hS.2.1 x h1 h2), fun z hzz => ?_⟩
        · rw [hE]
          by_cases hja : j = a
          · rw [hja, zE1_o ht (by omega)]
            refine ⟨_, hr, ce, e1, g1.trans q2, g2, fun j hj => (g4 (D.2 8 j) (fun n d cf kf fi f hnd hf hs => ?_)).trans (q4 j hj)⟩
            obtain ⟨cg, kg, gi, fg, hgi, hgs⟩ := hSl j hj
            have hnm : (TX8 j).2.1 = "kind" ∨ (TX8 j).2.1 = "place" := by
              match j, hj with
              | 0, _ => exact Or.inl rfl
              | 1, _ => exact Or.inr rfl
            have hname := (State.fieldFound?_type hgi (htyf j hj)).1
            have ap : ∀ ty, parseFieldDescriptor d = some ty → n ≠ "kind" ∧ n ≠ "place" → (Cond.lays RX8 Bundle.tN n d).before args s = true → False := by
              intro ty hp hne hlay
              refine u_apart (Or.inl hlay) (u_lays hts hz8.1 hj) hf hgi ?_ (by rw [hs, hgs])
              rw [(State.fieldFound?_type hf hp).1, hname]
              show n ≠ (TX8 j).2.1
              rcases hnm with h | h <;> rw [h]
              · exact hne.1
              · exact hne.2
            simp only [List.mem_cons, Prod.mk.injEq, List.not_mem_nil, or_false] at hnd
            rcases hnd with ⟨rfl, rfl⟩ | ⟨rfl, rfl⟩ | ⟨rfl, rfl⟩
            · exact ap (.object "java/lang/Throwable") (by decide +kernel) (by decide) (hts _ q629)
            · exact ap (.array (.object "java/lang/StackTraceElement")) (by decide +kernel) (by decide) (hts _ q631)
            · exact ap (.object "java/util/List") (by decide +kernel) (by decide) (hts _ q633)
          · exact (zcell_of hH hj).kept (e3 _ (by simp only; omega))
        · rw [hty j] at hj2 ⊢
          by_cases hja : j = a
          · subst hja
            cases hc9.symm.trans e1
            rw [ht, g3]
            exact h5
          · exact hH.2.2.2.2.1 j hj hj2 c9 (by rw [← e3 _ (by omega)]; exact hc9)
        · by_cases hja : j = a
          · rw [hja, hlen1] at hj3; cases hj3
          · rw [hty j] at hj2
            have hl9 : zlen (sT S a 8 1) j = zlen S j := by
              unfold zlen
              split
              · rfl
              · exact congrArg Prod.snd (if_neg hja)
            rw [hl9] at hj3
            obtain ⟨c8, w1, w2⟩ := hH.2.2.2.2.2 j hj hj2 hj3
            exact ⟨c8, by rw [e3 _ (by omega)]; exact w1, w2⟩
        · rcases List.mem_append.mp hzz with h | h
          · exact hS.2.2 z h
          · rw [gL z h]; exact Nat.le_add_right b a
    · cases h
  · cases h
end ZB
