/-! ===== words that do not ride in the lists ===== -/
def zextW (w : Cond) : Bool := match w with
  | .fieldLinkNest _ _ _ _ _ _ => true
  | .methodLinkNest _ _ _ _ => true
  | .castable _ _ => true
  | .declares _ => true
  | .privateMethod _ => true
  | .arrayOver (.object _) => true
  | .arrayOver (.array _) => true
  | _ => false
def zKx (U : State) : Prop := ∀ w ∈ lw_tbl, zextW w = true → w.before #[] U = true
theorem zpriv_set {y : MethodName} {a : Array Value} {s : State} {vm' : Vm} (h : s.vm.Alike vm') : (Cond.privateMethod y).before a (s.setVm vm') = (Cond.privateMethod y).before a s := by
  simp only [Cond.before, Cond.holds, Cond.value, State.vm_setVm, State.methodNamed?_setVm h]
  cases e : s.methodNamed? y with
  | none => rfl
  | some r => simp only [Option.bind_some]; rw [h.method?]
theorem zext_at {s U : State} {w : Cond} (hW : s.WarmedH U.vm) (hw : zextW w = true) (h : w.before #[] s = true) : w.before #[] U = true := by
  unfold zextW at hw
  split at hw
  · exact va_Nw.warmF hW h
  · exact va_Nw.warmM hW h
  · exact va_Nw.warmC hW h
  · exact va_Nw.warmD hW h
  · exact va_tabs rfl (rfl : (s.setVm U.vm).vm = U.vm) (by rw [zpriv_set hW.alike]; exact h)
  · exact va_AO.moved hW.alike h
  · exact over_moved hW.alike h
  · cases hw
theorem zKx.warm {s U : State} (h : zKx s) (hW : s.WarmedH U.vm) : zKx U := fun w hw he => zext_at hW he (h w hw he)
theorem zKx.of {s : State} {a : Array Value} (h : ∀ w ∈ lw_tbl, w.before a s = true) : zKx s := by
  intro w hw he
  have h1 := h w hw
  unfold zextW at he
  split at he
  · exact va_Nw.of rfl h1
  · exact va_Nw.of rfl h1
  · exact va_Nw.of rfl h1
  · exact va_Nw.of rfl h1
  · exact va_Nw.of rfl h1
  · exact va_AO.of h1
  · exact over_moved (Vm.Alike.refl _) h1
  · cases he
theorem zKx.same {s U : State} (h : zKx s) (hvm : U.vm = s.vm) : zKx U := by
  refine fun w hw he => ?_
  have h1 := h w hw he
  have hal : s.vm.Alike U.vm := by rw [hvm]; exact Vm.Alike.refl _
  unfold zextW at he
  split at he
  · exact va_tabs rfl hvm.symm h1
  · exact va_tabs rfl hvm.symm h1
  · exact va_tabs rfl hvm.symm h1
  · exact va_tabs rfl hvm.symm h1
  · exact va_tabs rfl hvm.symm h1
  · exact va_AO.moved hal h1
  · exact over_moved hal h1
  · cases he
/-! ===== a call, whatever its kind: the callee's contract gives the run ===== -/
/-- the receiver is an object of this class -/
def zRec (s : State) (H : Heap) (C : String) (b : Nat) : Prop := (∃ cC : ClassId, ClassAt s C cC) ∧ ∃ cellB : Cell, H[b]? = some cellB ∧ cellB.vm.isStatics = false ∧ s.vm.findClass C = some cellB.cls
def zSite (own : String) (ins : Instr) (C : String) (t : Nat) (k : Nat) : Prop :=
  ∀ (p : Program) (l : Launch) (e : Env) (R : Room) (s : State) (m : MethodId) (args : Array Value) (below : List Frame) (meth : Method) (c : Code) (H : Heap) (locs : List Loc) (cells slots : Nat) (cc : ByteArray) (nL mc ms : Nat) (rm : Room)
    (Pc : Array Value → State → Prop) (Qc : Array Value → State → Outcome → State → Prop) (XC : String → Addr → State → State → Prop) (free : Addr → Prop) (As rest : List Value) (g : JFrame),
    CallFix p m c cc nL s args lw_all own → zKx s → vx_Met l (zy t) (zcw t :: lw_all) rm Pc Qc XC mc ms free → rm.cells = mc → rm.slots = ms → (rm.frames + 1 ≤ R.frames ∧ 8 + (zmaxL t + 11) + rm.locals ≤ R.locals) →
    FrameBlind Pc → (∀ U : State, U.heap = H → s.WarmedH U.vm → Pc As.toArray U) → (k ≠ 0 → ∃ b As', As = .ref b :: As' ∧ (k = 1 → zRec s H C b)) → As.length = zna t + (if k = 0 then 0 else 1) →
    g.method = m → g.locals.size = nL → g.stack = As.reverse ++ rest → 2 * g.monitorRoom + (rest.map fun v => v.category).sum ≤ 8 → decode cc g.pc = .ok (ins, 3) → (cells + mc ≤ R.cells ∧ slots + ms ≤ R.slots) →
    vx_Run p l e R s m args below meth c H locs cells slots mc ms g rest (Qc As.toArray) XC free
theorem zcw_code {t : Nat} (h : t ≠ 7) : zcw t = .code (zy t) (zcd t) (zmaxL t) (zrt t) := by unfold zcw; rw [if_neg h]
theorem zcode_in {t : Nat} (h : t ≠ 7) (ht : t < zNM) : Cond.code (zy t) (zcd t) (zmaxL t) (zrt t) ∈ lw_all := zcw_code h ▸ zcw_ok t ht
theorem zst_rev {As' rest : List Value} {b : Nat} {st : List Value} (h : st = (Value.ref b :: As').reverse ++ rest) : st = As'.reverse ++ .ref b :: rest := by rw [h]; simp
theorem zSite.stat {own : String} {idx t : Nat} (h7 : t ≠ 7) (ht : t < zNM) (h1 : Cond.methodLink own idx (zy t) ∈ lw_all) (h2 : Cond.static (zy t) ∈ lw_all) (h3 : Cond.initialized (zy t).cls ∈ lw_all) (C : String) : zSite own (.invokestatic idx) C t 0 := by
  intro p l e R s m args below meth c H locs cells slots cc nL mc ms rm Pc Qc XC free As rest g X hx hM hrc hrs hR hb hP hrec hn hg hsz hst hW hdg hf
  have hts := X.2.2.2.2
  have hy := zy_ok t (Nat.lt_succ_of_lt ht)
  refine vx_runS X hM (ws := _) (va_cwS (zna t) hts (by rw [zcw_code h7]; exact lw_S h1 h2 h3 (zcode_in h7 ht)) (by rw [zcw_code h7]) hrc hrs ⟨hy.2.1, hy.2.2.1, zna_ok t (Nat.lt_succ_of_lt ht)⟩ hR) ⟨hb, hP⟩ hg (by simpa using hn) hsz hst hW hdg hf
theorem zSite.statN {own : String} {idx t : Nat} (h7 : t ≠ 7) (ht : t < zNM) {host : String} (h1 : Cond.methodLinkNest own idx (zy t) host ∈ lw_tbl) (h2 : Cond.static (zy t) ∈ lw_all) (h3 : Cond.initialized (zy t).cls ∈ lw_all) (C : String) : zSite own (.invokestatic idx) C t 0 := by
  intro p l e R s m args below meth c H locs cells slots cc nL mc ms rm Pc Qc XC free As rest g X hx hM hrc hrs hR hb hP hrec hn hg hsz hst hW hdg hf
  have hts := X.2.2.2.2
  have hy := zy_ok t (Nat.lt_succ_of_lt ht)
  have hG : GoodIn lw_all (zcw t :: lw_all) := by rw [zcw_code h7]; exact lw_meth (zcode_in h7 ht)
  refine vx_runSN X hM ⟨va_cnB (host := host) (zna t) hts hG (by rw [zcw_code h7]) hrc hrs (hx _ h1 rfl) (hts _ h3) ⟨hy.2.1, hy.2.2.1, zna_ok t (Nat.lt_succ_of_lt ht)⟩ hR, hts _ h2, trivial⟩ ⟨hb, hP⟩ hg (by simpa using hn) hsz hst hW hdg hf
theorem zSite.init {own : String} {idx t : Nat} (h7 : t ≠ 7) (ht : t < zNM) (h1 : Cond.methodLink own idx (zy t) ∈ lw_all) (h2 : Cond.instanceMethod (zy t) ∈ lw_all) (h3 : Cond.initialized (zy t).cls ∈ lw_all) (h4 : (zy t).name = "<init>") (h5 : zrt t = none) (C : String) : zSite own (.invokespecial idx) C t 2 := by
  intro p l e R s m args below meth c H locs cells slots cc nL mc ms rm Pc Qc XC free As rest g X hx hM hrc hrs hR hb hP hrec hn hg hsz hst hW hdg hf
  have hts := X.2.2.2.2
  have hy := zy_ok t (Nat.lt_succ_of_lt ht)
  obtain ⟨b, As', rfl, -⟩ := hrec (by decide)
  have hG : GoodIn lw_all (zcw t :: lw_all) := by rw [zcw_code h7]; exact lw_meth (zcode_in h7 ht)
  refine vx_runI X hM (cwI (zna t) hts hG (by rw [zcw_code h7, h5]) hrc hrs (hts _ h3) (hts _ h1) (hts _ h2) h4 ⟨hy.2.1, hy.2.2.1, zna_ok t (Nat.lt_succ_of_lt ht)⟩ hR) ⟨hb, hP⟩ hg (by simpa using hn) hsz (zst_rev hst) hW hdg hf
theorem zSite.initN {own : String} {idx t : Nat} (h7 : t ≠ 7) (ht : t < zNM) {host : String} (h1 : Cond.methodLinkNest own idx (zy t) host ∈ lw_tbl) (h2 : Cond.instanceMethod (zy t) ∈ lw_all) (h3 : Cond.initialized (zy t).cls ∈ lw_all) (h4 : (zy t).name = "<init>") (h5 : zrt t = none) (C : String) : zSite own (.invokespecial idx) C t 2 := by
  intro p l e R s m args below meth c H locs cells slots cc nL mc ms rm Pc Qc XC free As rest g X hx hM hrc hrs hR hb hP hrec hn hg hsz hst hW hdg hf
  have hts := X.2.2.2.2
  have hy := zy_ok t (Nat.lt_succ_of_lt ht)
  obtain ⟨b, As', rfl, -⟩ := hrec (by decide)
  have hG : GoodIn lw_all (zcw t :: lw_all) := by rw [zcw_code h7]; exact lw_meth (zcode_in h7 ht)
  refine vx_runIN X hM ⟨va_cnB (host := host) (zna t) hts hG (by rw [zcw_code h7, h5]) hrc hrs (hx _ h1 rfl) (hts _ h3) ⟨hy.2.1, hy.2.2.1, zna_ok t (Nat.lt_succ_of_lt ht)⟩ hR, h4, hts _ h2⟩ ⟨hb, hP⟩ hg (by simpa using hn) hsz (zst_rev hst) hW hdg hf
theorem zSite.sup {own : String} {idx t : Nat} (h7 : t ≠ 7) (ht : t < zNM) (h1 : Cond.methodLink own idx (zy t) ∈ lw_all) (h2 : Cond.sameMethod (zy t).cls (zy t).cls (zy t).name (zy t).desc ∈ lw_all) (h3 : Cond.superclass own (zy t).cls ∈ lw_all) (h4 : Cond.instanceMethod (zy t) ∈ lw_all) (h5 : Cond.initialized (zy t).cls ∈ lw_all) (h6 : (zy t).name ≠ "<init>") (C : String) : zSite own (.invokespecial idx) C t 1 := by
  intro p l e R s m args below meth c H locs cells slots cc nL mc ms rm Pc Qc XC free As rest g X hx hM hrc hrs hR hb hP hrec hn hg hsz hst hW hdg hf
  have hts := X.2.2.2.2
  obtain ⟨b, As', rfl, hre⟩ := hrec (by decide)
  obtain ⟨⟨cC, hat⟩, hre⟩ := hre rfl
  have hG : GoodIn lw_all (va_wsSU own idx (zy t) (zcw t :: lw_all)) := by
    rw [zcw_code h7]
    refine lw_app ?_ (lw_meth (zcode_in h7 ht))
    intro w hw
    simp only [List.mem_cons, List.not_mem_nil, or_false] at hw
    rcases hw with e | e | e | e | e <;> rw [e] <;> assumption
  refine vx_runSU hat X hM (va_cwSU (zna t) hts hG (by rw [zcw_code h7]) hrc hrs ⟨h6, zna_ok t (Nat.lt_succ_of_lt ht)⟩ hR) ⟨hb, hre, hP⟩ hg (by simpa using hn) hsz (zst_rev hst) hW hdg hf
theorem zSite.virt {own : String} {idx t : Nat} {C : String} (h7 : t ≠ 7) (ht : t < zNM) (h1 : Cond.methodLink own idx (zy t) ∈ lw_all) (h2 : Cond.instanceMethod (zy t) ∈ lw_all) (h3 : Cond.selects C (zy t) (zy t) ∈ lw_all) (h4 : Cond.initialized C ∈ lw_all) (h5 : (zy t).cls = C) : zSite own (.invokevirtual idx) C t 1 := by
  intro p l e R s m args below meth c H locs cells slots cc nL mc ms rm Pc Qc XC free As rest g X hx hM hrc hrs hR hb hP hrec hn hg hsz hst hW hdg hf
  have hts := X.2.2.2.2
  have hy := zy_ok t (Nat.lt_succ_of_lt ht)
  obtain ⟨b, As', rfl, hre⟩ := hrec (by decide)
  refine vx_runV X hM (cwV (zna t) hts (by rw [zcw_code h7]; exact lw_V h1 h2 h3 h4 (zcode_in h7 ht)) (by rw [zcw_code h7]) hrc hrs ⟨h5, hy.2.1, hy.2.2.1, zna_ok t (Nat.lt_succ_of_lt ht)⟩ hR) ⟨hb, (hre rfl).2, hP⟩ hg (by simpa using hn) hsz (zst_rev hst) hW hdg hf
theorem zSite.virtN {own : String} {idx t : Nat} {C : String} (h7 : t ≠ 7) (ht : t < zNM) {host : String} (h1 : Cond.methodLinkNest own idx (zy t) host ∈ lw_tbl) (h2 : Cond.instanceMethod (zy t) ∈ lw_all) (h3 : Cond.selects C (zy t) (zy t) ∈ lw_all) (h4 : Cond.initialized (zy t).cls ∈ lw_all) : zSite own (.invokevirtual idx) C t 1 := by
  intro p l e R s m args below meth c H locs cells slots cc nL mc ms rm Pc Qc XC free As rest g X hx hM hrc hrs hR hb hP hrec hn hg hsz hst hW hdg hf
  have hts := X.2.2.2.2
  have hy := zy_ok t (Nat.lt_succ_of_lt ht)
  obtain ⟨b, As', rfl, hre⟩ := hrec (by decide)
  have hG : GoodIn lw_all (zcw t :: lw_all) := by rw [zcw_code h7]; exact lw_meth (zcode_in h7 ht)
  refine vx_runVN X hM ⟨va_cnB (host := host) (zna t) hts hG (by rw [zcw_code h7]) hrc hrs (hx _ h1 rfl) (hts _ h4) ⟨hy.2.1, hy.2.2.1, zna_ok t (Nat.lt_succ_of_lt ht)⟩ hR, hts _ h2, hts _ h3⟩ ⟨hb, (hre rfl).2, hP⟩ hg (by simpa using hn) hsz (zst_rev hst) hW hdg hf
theorem zSite.virtX {own : String} {idx : Nat} {C : String} (h1 : Cond.methodLink own idx (zy 7) ∈ lw_all) (h2 : Cond.instanceMethod (zy 7) ∈ lw_all) (h3 : Cond.selects C (zy 7) (zy 7) ∈ lw_all) (h4 : Cond.initialized C ∈ lw_all) (h5 : (zy 7).cls = C) : zSite own (.invokevirtual idx) C 7 1 := by
  intro p l e R s m args below meth c H locs cells slots cc nL mc ms rm Pc Qc XC free As rest g X hx hM hrc hrs hR hb hP hrec hn hg hsz hst hW hdg hf
  have hts := X.2.2.2.2
  have hy := zy_ok 7 (by decide)
  obtain ⟨b, As', rfl, hre⟩ := hrec (by decide)
  have hc : Cond.codeWith (zy 7) (zcd 7) (zmaxL 7) (zrt 7) zhh ∈ lw_all := zcw_ok 7 (by decide)
  refine vx_runVX X hM (vx_cwVW (zna 7) hts (lw_VW h1 h2 h3 h4 hc) rfl hrc hrs ⟨h5, hy.2.1, hy.2.2.1, zna_ok 7 (by decide)⟩ hR) ⟨hb, (hre rfl).2, hP⟩ hg (by simpa using hn) hsz (zst_rev hst) hW hdg hf
/-- through a table: the reference names x, found in owner; the receiver's class C takes y -/
theorem zSite.virtU {own : String} {idx t : Nat} {C owner xc xn xd : String} (h7 : t ≠ 7) (ht : t < zNM) (h1 : Cond.methodLink own idx ⟨xc, xn, xd⟩ ∈ lw_all) (h2 : Cond.sameMethod xc owner xn xd ∈ lw_all) (h3 : Cond.selects C ⟨xc, xn, xd⟩ (zy t) ∈ lw_all) (h4 : Cond.instanceMethod (zy t) ∈ lw_all) (h5 : Cond.initialized (zy t).cls ∈ lw_all)
    (hd : ∀ (s : State) (a : Array Value), zKx s → (∀ w ∈ lw_all, w.before a s = true) → va_Decl s ⟨owner, xn, xd⟩) (h6 : owner ≠ "java/lang/invoke/MethodHandle" ∧ owner ≠ "java/lang/invoke/VarHandle") (h8 : xd = (zy t).desc) : zSite own (.invokevirtual idx) C t 1 := by
  intro p l e R s m args below meth c H locs cells slots cc nL mc ms rm Pc Qc XC free As rest g X hx hM hrc hrs hR hb hP hrec hn hg hsz hst hW hdg hf
  have hts := X.2.2.2.2
  obtain ⟨b, As', rfl, hre⟩ := hrec (by decide)
  have hG : GoodIn lw_all (zcw t :: lw_all) := by rw [zcw_code h7]; exact lw_meth (zcode_in h7 ht)
  have hc := zcode_in h7 ht
  refine vx_runU (x := ⟨xc, xn, xd⟩) (owner := owner) (bytes := zcd t) (maxL := zmaxL t) (ret := zrt t) (n := zna t) X hM ⟨⟨hrc, hrs, hR.1, hR.2, pay_in hts hG, by rw [zcw_code h7]; exact List.mem_cons_self⟩, hts _ hc, hts _ h5, h6, fun sig h => ?_, hts _ h1, hts _ h2, hd s args hx hts, hts _ h3, hts _ h4⟩ ⟨hb, (hre rfl).2, hP⟩ hg (by simpa using hn) hsz (zst_rev hst) hW hdg hf
  have h9 := zna_ok t (Nat.lt_succ_of_lt ht)
  rw [← h8, h] at h9
  exact (Option.some.inj h9).symm
theorem zdeclA {owner xn xd : String} (h : Cond.declares ⟨owner, xn, xd⟩ ∈ lw_tbl) : ∀ (s : State) (a : Array Value), zKx s → (∀ w ∈ lw_all, w.before a s = true) → va_Decl s ⟨owner, xn, xd⟩ := fun s a hx hts => va_Decl.abs (hx _ h rfl)
theorem zdeclO {owner xn xd : String} {b0 : ByteArray} {m0 : Nat} {r0 : Option FieldType} (h : Cond.instanceMethod ⟨owner, xn, xd⟩ ∈ lw_all) (h0 : Cond.code ⟨owner, xn, xd⟩ b0 m0 r0 ∈ lw_all) : ∀ (s : State) (a : Array Value), zKx s → (∀ w ∈ lw_all, w.before a s = true) → va_Decl s ⟨owner, xn, xd⟩ := fun s a hx hts => va_Decl.of (hts _ h) (hts _ h0)
theorem zsel_priv {y : MethodName} {C : String} {x0 y0 : MethodName} {s : State} {args : Array Value} (hy : y.cls ≠ "java/lang/invoke/MethodHandle" ∧ y.cls ≠ "java/lang/invoke/VarHandle") (hc : (Cond.initialized C).before args s = true) (hpriv : (Cond.privateMethod y).before #[] s = true) (hinst : (Cond.instanceMethod y).before args s = true) (h0 : (Cond.selects C x0 y0).before args s = true) (hcl : y0.cls = y.cls) : (Cond.selects C y y).before args s = true := by
  obtain ⟨c, r0, m0, hc, hf0, hn0, hs0, k, hk, hni⟩ := Cond.selects_spec h0
  obtain ⟨mk, methM, hnamed, hmethM, -, -⟩ := Cond.instanceMethod_spec hinst
  have hfound : s.methodFound? y.cls y.name y.desc = some mk := State.methodFound?_of_named hnamed hy
  have hcls : mk.cls = m0.cls := Option.some.inj ((findClass_of_methodNamed hnamed).symm.trans (hcl ▸ findClass_of_methodNamed hn0))
  have hsel : selectMethod {} s.vm c mk = .method mk := selectMethod_private hmethM (Cond.privateMethod_at hpriv mk methM hnamed hmethM)
  simp only [Cond.before, Cond.holds, Cond.value, hc, hfound, hnamed, hsel, hcls, hk]
  simp; exact hni
theorem zSite.virtP {own : String} {idx t : Nat} {C : String} {x0 y0 : MethodName} (h7 : t ≠ 7) (ht : t < zNM) (h1 : Cond.methodLink own idx (zy t) ∈ lw_all) (h2 : Cond.instanceMethod (zy t) ∈ lw_all) (h3 : Cond.privateMethod (zy t) ∈ lw_tbl) (h4 : Cond.initialized C ∈ lw_all) (h5 : Cond.selects C x0 y0 ∈ lw_all) (h6 : Cond.initialized (zy t).cls ∈ lw_all) (h8 : y0.cls = (zy t).cls) (h9 : Cond.sameMethod (zy t).cls (zy t).cls (zy t).name (zy t).desc ∈ lw_all) : zSite own (.invokevirtual idx) C t 1 := by
  intro p l e R s m args below meth c H locs cells slots cc nL mc ms rm Pc Qc XC free As rest g X hx hM hrc hrs hR hb hP hrec hn hg hsz hst hW hdg hf
  have hts := X.2.2.2.2
  have hy := zy_ok t (Nat.lt_succ_of_lt ht)
  obtain ⟨b, As', rfl, hre⟩ := hrec (by decide)
  have hG : GoodIn lw_all (zcw t :: lw_all) := by rw [zcw_code h7]; exact lw_meth (zcode_in h7 ht)
  have hc := zcode_in h7 ht
  have hsel := zsel_priv (args := args) ⟨hy.2.1, hy.2.2.1⟩ (hts _ h4) (hx _ h3 rfl) (hts _ h2) (hts _ h5) h8
  refine vx_runU (x := zy t) (owner := (zy t).cls) (bytes := zcd t) (maxL := zmaxL t) (ret := zrt t) (n := zna t) X hM ⟨⟨hrc, hrs, hR.1, hR.2, pay_in hts hG, by rw [zcw_code h7]; exact List.mem_cons_self⟩, hts _ hc, hts _ h6, ⟨hy.2.1, hy.2.2.1⟩, fun sig h => ?_, hts _ h1, hts _ h9, va_Decl.of (hts _ h2) (hts _ hc), hsel, hts _ h2⟩ ⟨hb, (hre rfl).2, hP⟩ hg (by simpa using hn) hsz (zst_rev hst) hW hdg hf
  have h9 := zna_ok t (Nat.lt_succ_of_lt ht)
  rw [h] at h9
  exact (Option.some.inj h9).symm
