/-! ===== the interpreter is right about the machine ===== -/
theorem zCtx.go {b : Nat} {oa : Nat → Nat} {D : va_G} {dA : Nat → ClassId} {H0 H : Heap} {S : zS} {s U : State} {locs : List Loc} (h : zCtx b oa D dA H0 S s) (hS : va_S (fun q => b ≤ q) s.heap H locs) (hU : U.heap = H) (hW : s.WarmedH U.vm) : zCtx b oa D dA H0 S U := by
  obtain ⟨h1, h2, h3, h4, h5, h6, h7, h8, h9, h10⟩ := h
  have hal := hW.alike
  subst hU
  refine ⟨h1.warm hW, h2.moved hal, ?_, ⟨h4.1.moved hal, h4.2.moved hal⟩, fun o ho idx i hi => ?_, fun j hj => va_Z.moved hal ((h6 j hj).kept hS.2.1), fun i hi => ?_, vx_Zq.moved hal (h8.kept hS.2.1), vx_Zq.moved hal (h9.kept hS.2.1), h10⟩
  · obtain ⟨cf, kf, fi, f, hf, hs⟩ := h3
    obtain ⟨k', hi', -⟩ := State.fieldFound?_setVm hal hf
    exact ⟨cf, k', fi, f, hi', hs⟩
  · obtain ⟨tx, ht⟩ := h5 o ho idx i hi
    exact ⟨tx, ht.warm hW⟩
  · rcases h7 i hi with ⟨a1, a2, cell, c1, c2, c3⟩ | ⟨a1, a2, cell, c1, c2, c3⟩ | ⟨a1, a2, cell, c1, c2, c3, c4, c5⟩ | a1
    · exact Or.inl ⟨a1, a2, cell, c1, State.isArrayOf_alike hal c2, c3⟩
    · exact Or.inr (Or.inl ⟨a1, a2, cell, c1, State.isArrayOf_alike hal c2, c3⟩)
    · exact Or.inr (Or.inr (Or.inl ⟨a1, a2, cell, c1, c2, c3, by rw [hal.findClass]; exact c4, c5⟩))
    · exact Or.inr (Or.inr (Or.inr a1))
/-! checks of the tables -/
def zrtB (k : Nat) (r : Option FieldType) : Bool := match r with
  | none => k == 0
  | some .int => k == 1
  | some .boolean => k == 2
  | some .byte => k == 3
  | some .char => k == 4
  | some .long => k == 6
  | some (.object _) => k == 7
  | some (.array _) => k == 7
  | _ => false
def zretB (k : Nat) (i : Instr) : Bool := match i with
  | .ireturn => decide (1 ≤ k) && decide (k ≤ 4)
  | .lreturn => k == 6
  | .areturn => k == 7
  | .return_ => k == 0
  | _ => true
def zcalB (e : zE) : Bool := match e.2.1 with
  | .invokestatic _ => e.2.2.2.2.2.2.all (fun q => decide (9000 ≤ q.2) || zna q.2 == e.2.2.2.2.1)
  | .invokespecial _ => e.2.2.2.2.2.2.all (fun q => decide (9000 ≤ q.2) || (zna q.2 == e.2.2.2.2.1 && decide (q.1 < 24)))
  | .invokevirtual _ => match e.2.2.2.2.2.2 with
    | [(c, t)] => decide (9000 ≤ t) || (zna t == e.2.2.2.2.1 && (decide (c < 24) || (decide (1000 ≤ c) && decide (c - 1000 < zD0) && decide (zc1 (c - 1000) < 24))))
    | l => l.all (fun q => zna q.2 == e.2.2.2.2.1 && decide (q.1 < 24))
  | _ => true
def zchkM (me : Nat) : Bool := zrtB (zrk me) (zrt me) && decide (zmaxL me ≤ 21) && ((ztab me).flatMap (·.2)).all (fun e => zretB (zrk me) e.2.1 && zcalB e)
theorem zchkM0 : ∀ t, t < 64 → ¬ t < 0 → zchkM t = true := by decide +kernel
theorem zchkM64 : ∀ t, t < 128 → ¬ t < 64 → zchkM t = true := by decide +kernel
theorem zchkM128 : ∀ t, t < 192 → ¬ t < 128 → zchkM t = true := by decide +kernel
theorem zchkM192 : ∀ t, t < 256 → ¬ t < 192 → zchkM t = true := by decide +kernel
theorem zchkM256 : ∀ t, t < 320 → ¬ t < 256 → zchkM t = true := by decide +kernel
theorem zchkM320 : ∀ t, t < 384 → ¬ t < 320 → zchkM t = true := by decide +kernel
theorem zchkM384 : ∀ t, t < 445 → ¬ t < 384 → zchkM t = true := by decide +kernel
theorem zchkM_ok : ∀ t, t < 445 → zchkM t = true := by
  intro t ht
  by_cases h0 : t < 64
  · exact zchkM0 t h0 (by omega)
  by_cases h64 : t < 128
  · exact zchkM64 t h64 (by omega)
  by_cases h128 : t < 192
  · exact zchkM128 t h128 (by omega)
  by_cases h192 : t < 256
  · exact zchkM192 t h192 (by omega)
  by_cases h256 : t < 320
  · exact zchkM256 t h256 (by omega)
  by_cases h320 : t < 384
  · exact zchkM320 t h320 (by omega)
  by_cases h384 : t < 445
  · exact zchkM384 t h384 (by omega)
  omega
/-! a return -/
section ZE
variable {p : Program} {l : Launch} {e0 : Env} {R : Room} {s : State} {m : MethodId} {args : Array Value} {below : List Frame} {meth : Method} {c : Code} {H H0 : Heap} {locs : List Loc} {cells slots : Nat} {Q : State → Prop} {cc : ByteArray} {ls : Array Slot} {nL : Nat} {b nE sE : Nat} {oa : Nat → Nat} {ad : Nat → Nat} {D : va_G} {dA : Nat → ClassId} {S : zS} {L st : List Value} {e : zE} {o : Nat} {Qc : Array Value → State → Outcome → State → Prop} {free : Addr → Prop}
theorem zret_snd (hx : p.tables.exec = Jvm.exec) (hb : c.code = cc) (hd : decode cc e.1 = .ok (e.2.1, e.2.2.1)) (hk : zck o nL e = true) {v : Option Value} (h : zret e st = some v) {k : Nat} {r : Option FieldType} (hrk : zretB k e.2.1 = true) (hr : meth.sig.returnType = r) (hrt : zrtB k r = true) (hg : ∀ c, zrg k v = some c → c) (hlocks : meth.locks = false)
    (hq : ∀ t : State, t.heap = H → s.WarmedH t.vm → Qc args s (.returned (v.map (zcv ad))) t) (hf : ∀ q ∈ locs, free q.base) : W p l e0 R s m args below meth c H locs cells slots (MQ below Qc args s cells slots free) (F0 m e.1 ls (st.map (zcv ad))) := by
  obtain ⟨pc, i, n, v0, a, sw, vt⟩ := e
  unfold zret at h
  simp only at h hd hrk
  split at h
  · simp only [zck, beq_iff_eq] at hk; subst hk
    cases h
    simp only [zretB, beq_iff_eq] at hrk
    subst hrk
    have : r = none := by
      cases r with
      | none => rfl
      | some ty => cases ty <;> simp [zrtB] at hrt
    rw [this] at hr
    exact W.vret hx hb hr hq hf hd hlocks
  · rename_i x
    simp only [zck, beq_iff_eq] at hk; subst hk
    cases h
    simp only [zretB, Bool.and_eq_true, decide_eq_true_eq] at hrk
    have key : ∃ ty, r = some ty ∧ narrow ty (.int x) = .int x := by
      cases r with
      | none => simp [zrtB] at hrt; omega
      | some ty =>
        refine ⟨ty, rfl, ?_⟩
        cases ty with
        | int => rfl
        | boolean => simp only [zrtB, beq_iff_eq] at hrt; subst hrt; exact (znar_z (hg _ rfl)).1
        | byte => simp only [zrtB, beq_iff_eq] at hrt; subst hrt; exact (znar_b (hg _ rfl)).1
        | char => simp only [zrtB, beq_iff_eq] at hrt; subst hrt; exact (znar_c (hg _ rfl)).1
        | _ => simp [zrtB] at hrt <;> omega
    obtain ⟨ty, rfl, hn⟩ := key
    exact W.zret hx hb hr hn hq hf hd hlocks
  · rename_i x
    simp only [zck, beq_iff_eq] at hk; subst hk
    cases h
    simp only [zretB, beq_iff_eq] at hrk
    subst hrk
    have : r = some .long := by
      cases r with
      | none => simp [zrtB] at hrt
      | some ty => cases ty <;> first | rfl | simp [zrtB] at hrt
    rw [this] at hr
    exact W.lret hx hb hr hq hf hd hlocks
  · rename_i x
    simp only [zck, beq_iff_eq] at hk; subst hk
    cases h
    simp only [zretB, beq_iff_eq] at hrk
    subst hrk
    have : ∃ ty, r = some ty ∧ ((∃ n, ty = .object n) ∨ ∃ t, ty = .array t) := by
      cases r with
      | none => simp [zrtB] at hrt
      | some ty => cases ty <;> first | exact ⟨_, rfl, Or.inl ⟨_, rfl⟩⟩ | exact ⟨_, rfl, Or.inr ⟨_, rfl⟩⟩ | simp [zrtB] at hrt
    obtain ⟨ty, rfl, hty⟩ := this
    exact W.aret hx hb hr hty (Or.inr ⟨_, rfl⟩) hq hf hd hlocks
  · simp only [zck, beq_iff_eq] at hk; subst hk
    cases h
    simp only [zretB, beq_iff_eq] at hrk
    subst hrk
    have : ∃ ty, r = some ty ∧ ((∃ n, ty = .object n) ∨ ∃ t, ty = .array t) := by
      cases r with
      | none => simp [zrtB] at hrt
      | some ty => cases ty <;> first | exact ⟨_, rfl, Or.inl ⟨_, rfl⟩⟩ | exact ⟨_, rfl, Or.inr ⟨_, rfl⟩⟩ | simp [zrtB] at hrt
    obtain ⟨ty, rfl, hty⟩ := this
    exact W.aret hx hb hr hty (Or.inl rfl) hq hf hd hlocks
  · cases h
end ZE
theorem zchkE_mono {o : Nat} {nm nm' : String} {e : zE} (h : zchkE o nm e = true) (hn : nm = "<init>" → nm' = "<init>") : zchkE o nm' e = true := by
  unfold zchkE at h ⊢
  split
  · rename_i i hi
    rw [hi] at h
    simp only [Bool.and_eq_true, Bool.or_eq_true, decide_eq_true_eq] at h ⊢
    refine ⟨?_, h.2⟩
    rcases h.1 with h1 | h1
    · exact Or.inl h1
    · exact Or.inr ⟨⟨hn h1.1.1, h1.1.2⟩, h1.2⟩
  all_goals first | rfl | (rename_i hi; rw [hi] at h; exact h)
/-! contracts -/
def zPc (b : Nat) (oa : Nat → Nat) (D : va_G) (dA : Nat → ClassId) (H0 : Heap) (as : List Value) (S : zS) : Array Value → State → Prop := fun a U =>
  a = (as.map (zcv (zad b oa))).toArray ∧ zCtx b oa D dA H0 S U ∧ zHp b (zad b oa) D dA H0 S U.heap
def zQc (b : Nat) (oa : Nat → Nat) (D : va_G) (dA : Nat → ClassId) (H0 : Heap) (x : Outcome × zS) : Array Value → State → Outcome → State → Prop := fun _ st o t =>
  (∃ v, x.1 = .returned v ∧ o = .returned (v.map (zcv (zad b oa)))) ∧ zHp b (zad b oa) D dA H0 x.2 t.heap ∧ va_F (fun q => b ≤ q) st t
def zXC (b : Nat) (oa : Nat → Nat) (D : va_G) (dA : Nat → ClassId) (H0 : Heap) (x : Outcome × zS) : String → Addr → State → State → Prop := fun E q st t =>
  ∃ i, x.1 = .threw i ∧ q = zad b oa i ∧ E = "SpendHouse$Fault" ∧ zHp b (zad b oa) D dA H0 x.2 t.heap ∧ va_F (fun q => b ≤ q) st t
def zRm (d k n : Nat) : Room := { frames := d + 4, locals := 40 * d + 100, cells := k, slots := n }
theorem zPc_blind {b : Nat} {oa : Nat → Nat} {D : va_G} {dA : Nat → ClassId} {H0 : Heap} {as : List Value} {S : zS} : FrameBlind (zPc b oa D dA H0 as S) := fun a U g mk h =>
  ⟨h.1, h.2.1.go (U := U.calling g mk a) (va_S.rf (A := fun q => b ≤ q)) rfl (State.WarmedH.refl U), h.2.2⟩
def zFix (p : Program) (me : Nat) (s : State) (m : MethodId) (args : Array Value) (meth : Method) (c : Code) : Prop :=
  p.tables.exec = Jvm.exec ∧ c.code = zcd me ∧ c.maxLocals = zmaxL me ∧ s.vm.findClass (zcn (zoc me)) = some m.cls ∧ (∀ w ∈ lw_all, w.before args s = true) ∧ ((zy me).name = "<init>" → meth.name = "<init>") ∧ meth.locks = false ∧ meth.sig.returnType = zrt me ∧ (me ≠ 7 → me ≠ 444 → ∀ x ∈ c.exceptionTable.toList, False) ∧ (me = 7 → c.exceptionTable.toList = tableOf zhh)
def zSnd (l : Launch) (b : Nat) (oa : Nat → Nat) (D : va_G) (dA : Nat → ClassId) (H0 : Heap) (n : Nat) : Prop :=
  ∀ (d me pc : Nat) (L st : List Value) (S : zS) (x : Outcome × zS), zrun n d me pc L st S = some x → ∀ (p : Program) (e0 : Env) (s : State) (m : MethodId) (args : Array Value) (below : List Frame) (meth : Method) (c : Code) (H : Heap) (locs : List Loc) (ls : Array Slot) (nE sE : Nat),
    zFix p me s m args meth c → (me = 444 → ∀ i, x.1 ≠ .threw i) → zCtx b oa D dA H0 S s → zInv S → zvs S L → zvs S st → zHp b (zad b oa) D dA H0 S H → va_S (fun q => b ≤ q) s.heap H locs → lv_has ls (zmaxL me) (zlv (zad b oa) L) → nE ≤ gN S → sE ≤ gZ S →
    W p l e0 (zRm d (gN x.2 - nE) (gZ x.2 - sE)) s m args below meth c H locs (gN S - nE) (gZ S - sE) (vx_MQ below (zQc b oa D dA H0 x) (zXC b oa D dA H0 x) args s (gN x.2 - nE) (gZ x.2 - sE) (fun q => b ≤ q)) (F0 m pc ls (st.map (zcv (zad b oa))))
theorem zlg_len {ad : Nat → Nat} : ∀ as : List Value, (lg_sl (as.map (zcv ad))).length = zsum as := by
  intro as
  induction as with
  | nil => rfl
  | cons v t ih =>
    have e : lg_sl ((v :: t).map (zcv ad)) = (if (zcv ad v).category = 2 then [.val (zcv ad v), .second] else [.val (zcv ad v)]) ++ lg_sl (t.map (zcv ad)) := rfl
    rw [e, List.length_append, ih]
    show _ = zcat v + zsum t
    congr 1
    rw [zcv_cat]
    cases v <;> rfl
theorem zlvA_rep {ad : Nat → Nat} : ∀ n i, zlvA ad i (zrep n) = [] := by
  intro n
  induction n with
  | zero => exact fun _ => rfl
  | succ n ih => exact fun i => ih (i + 1)
theorem zpad_args {ad : Nat → Nat} : ∀ (as : List Value) (n i : Nat), ∀ q ∈ zlvA ad i (zpad as n), q ∈ lv_args i (as.map (zcv ad)) := by
  intro as
  induction as with
  | nil =>
    intro n i q hq
    have hq : q ∈ zlvA ad i (zrep n) := hq
    rw [zlvA_rep] at hq
    cases hq
  | cons v t ih =>
    intro n i q hq
    have c1 : ∀ w : Value, w.category ≠ 2 → lv_args i (w :: t.map (zcv ad)) = (i, w) :: lv_args (i + 1) (t.map (zcv ad)) := fun w hw => by
      show (i, w) :: lv_args (if w.category = 2 then i + 2 else i + 1) _ = _
      rw [if_neg hw]
    cases v with
    | long x =>
      have hq : q ∈ (i, .long x) :: zlvA ad (i + 2) (zpad t (n - 2)) := hq
      rcases List.mem_cons.mp hq with h | h
      · rw [h]; exact List.mem_cons_self
      · exact List.mem_cons_of_mem _ (ih _ _ _ h)
    | double x =>
      have hq : q ∈ (i, .double x) :: zlvA ad (i + 2) (zpad t (n - 2)) := hq
      rcases List.mem_cons.mp hq with h | h
      · rw [h]; exact List.mem_cons_self
      · exact List.mem_cons_of_mem _ (ih _ _ _ h)
    | retAddr x =>
      have hq : q ∈ zlvA ad (i + 1) (zpad t (n - 1)) := hq
      rw [List.map_cons, c1 _ (by rw [zcv_cat]; intro h; cases h)]
      exact List.mem_cons_of_mem _ (ih _ _ _ hq)
    | int x =>
      have hq : q ∈ (i, .int x) :: zlvA ad (i + 1) (zpad t (n - 1)) := hq
      rcases List.mem_cons.mp hq with h | h
      · rw [h]; exact List.mem_cons_self
      · exact List.mem_cons_of_mem _ (ih _ _ _ h)
    | float x =>
      have hq : q ∈ (i, .float x) :: zlvA ad (i + 1) (zpad t (n - 1)) := hq
      rcases List.mem_cons.mp hq with h | h
      · rw [h]; exact List.mem_cons_self
      · exact List.mem_cons_of_mem _ (ih _ _ _ h)
    | ref x =>
      have hq : q ∈ (i, .ref (ad x)) :: zlvA ad (i + 1) (zpad t (n - 1)) := hq
      rcases List.mem_cons.mp hq with h | h
      · rw [h]; exact List.mem_cons_self
      · exact List.mem_cons_of_mem _ (ih _ _ _ h)
    | null =>
      have hq : q ∈ (i, .null) :: zlvA ad (i + 1) (zpad t (n - 1)) := hq
      rcases List.mem_cons.mp hq with h | h
      · rw [h]; exact List.mem_cons_self
      · exact List.mem_cons_of_mem _ (ih _ _ _ h)
/-- a method's contract, from the run of its body -/
theorem zmet {l : Launch} {b : Nat} {oa : Nat → Nat} {D : va_G} {dA : Nat → ClassId} {H0 : Heap} {n d me : Nat} {as : List Value} {S : zS} {y : Outcome × zS} (hs : zSnd l b oa D dA H0 n) (hm : me < zNM) (hr : zrun n d me 0 (zpad as (zmaxL me)) [] S = some y) (hI : zInv S) (has : zvs S as) (hsm : zsum as ≤ zmaxL me) :
    vx_Met l (zy me) (zcw me :: lw_all) (zRm d (gN y.2 - gN S) (gZ y.2 - gZ S)) (zPc b oa D dA H0 as S) (zQc b oa D dA H0 y) (zXC b oa D dA H0 y) (gN y.2 - gN S) (gZ y.2 - gZ S) (fun q => b ≤ q) := by
  have hy := zy_ok me (Nat.lt_succ_of_lt hm)
  have body : ∀ (p : Program) (e : Env) (s : State) (m : MethodId) (args : Array Value) (below : List Frame) (meth : Method) (c : Code), zFix p me s m args meth c → zPc b oa D dA H0 as S args s →
      W p l e (zRm d (gN y.2 - gN S) (gZ y.2 - gZ S)) s m args below meth c s.heap [] 0 0 (vx_MQ below (zQc b oa D dA H0 y) (zXC b oa D dA H0 y) args s (gN y.2 - gN S) (gZ y.2 - gZ S) (fun q => b ≤ q)) (entryFrame m args (zmaxL me)) := by
    intro p e s m args below meth c hF ⟨ha, hC, hH⟩
    have hl := lv_entry (as.map (zcv (zad b oa))) (n := zmaxL me) (by rw [zlg_len]; exact hsm)
    have e1 : entryFrame m args (zmaxL me) = entryFrame m (as.map (zcv (zad b oa))).toArray (zmaxL me) := by rw [ha]
    rw [e1, lg_entry_eq]
    have := hs d me 0 _ [] S y hr p e s m args below meth c s.heap [] _ (gN S) (gZ S) hF (fun h => by have : zNM = 444 := rfl; omega) hC hI (has.pad _) (fun v hv => by cases hv) hH va_S.rf (zlv_less hl (zpad_args as _ 0)) (Nat.le_refl _) (Nat.le_refl _)
    rw [Nat.sub_self, Nat.sub_self] at this
    exact this
  by_cases h7 : me = 7
  · have hw : zcw me = .codeWith (zy me) (zcd me) (zmaxL me) (zrt me) zhh := by unfold zcw; rw [if_pos h7]
    rw [hw]
    refine vx_ofWH (cc := zcd me) (maxL := zmaxL me) (ret := zrt me) (hh := zhh) hy.1 rfl (fun p e s m args below meth c s₁ B hml hP => ?_)
    have hts := atoms_spec (ws := Cond.codeWith (zy me) (zcd me) (zmaxL me) (zrt me) zhh :: lw_all) B.pre
    exact body p e s m args below meth c ⟨B.exec, B.bytes, hml, by rw [← hy.2.2.2]; exact findClass_of_methodNamed B.named, fun w hw => hts w (List.mem_cons_of_mem _ hw), fun h => (by rw [(name_of_methodNamed B.named B.method).1]; exact h), B.notSynchronized, B.returns, fun h => absurd h7 h, fun _ => vx_table (x := zy me) B (hts _ List.mem_cons_self)⟩ hP
  · rw [zcw_code h7]
    refine vx_ofW (cc := zcd me) (maxL := zmaxL me) (ret := zrt me) hy.1 rfl (fun p e s m args below meth c s₁ B hml ht hP => ?_)
    have hts := atoms_spec (ws := Cond.code (zy me) (zcd me) (zmaxL me) (zrt me) :: lw_all) B.pre
    exact body p e s m args below meth c ⟨B.exec, B.bytes, hml, by rw [← hy.2.2.2]; exact findClass_of_methodNamed B.named, fun w hw => hts w (List.mem_cons_of_mem _ hw), fun h => (by rw [(name_of_methodNamed B.named B.method).1]; exact h), B.notSynchronized, B.returns, fun _ _ => ht, fun h => absurd h h7⟩ hP
theorem zrun_lt {n d me pc : Nat} {L st : List Value} {S : zS} {x : Outcome × zS} (h : zrun n d me pc L st S = some x) : me < 445 := by
  cases n with
  | zero => simp [zrun] at h
  | succ n =>
    rw [zrun] at h
    cases hl : zlk (ztab me) pc with
    | none => simp only [hl] at h; cases h
    | some e => exact ztab_lt hl
theorem ztake_len : ∀ (n : Nat) (acc st as r : List Value), ztake n acc st = some (as, r) → as.length = acc.length + n ∧ as.reverse ++ r = acc.reverse ++ st := by
  intro n
  induction n with
  | zero => intro acc st as r h; cases h; exact ⟨rfl, rfl⟩
  | succ n ih =>
    intro acc st as r h
    cases st with
    | nil => cases h
    | cons w t =>
      obtain ⟨h1, h2⟩ := ih _ _ _ _ h
      refine ⟨by rw [h1, List.length_cons]; omega, ?_⟩
      rw [h2]
      simp
/-- where a call goes -/
theorem zcall_site {o nL me' : Nat} {e : zE} {st as r : List Value} {S : zS} (hk : zck o nL e = true) (hm : zcalB e = true) (h : zcall e st = some (as, r)) (ht : ztgt e as S = some me') (hlt : me' < 445) :
    ∃ idx op C, me' < zNM ∧ o < 32 ∧ e.2.1 = zsIns op idx ∧ e.2.2.1 = 3 ∧ (idx, op, C, me') ∈ zSL o ∧ (zsK op ≠ 0 → ∃ a as', as = .ref a :: as' ∧ (zsK op = 1 → ztyp S a = C ∧ C < 24)) ∧ as.length = zna me' + (if zsK op = 0 then 0 else 1) ∧ as.reverse ++ r = st := by
  obtain ⟨pc, i, n, v, A, sw, vt⟩ := e
  unfold zcall at h
  simp only at h
  split at h
  · rename_i idx
    split at h
    · rename_i as9 r9 htk
      split at h
      · cases h
        obtain ⟨hl, hrv⟩ := ztake_len _ _ _ _ _ htk
        unfold ztgt at ht
        simp only at ht
        cases vt with
        | nil => cases ht
        | cons q0 t0 =>
          obtain ⟨c0, t1⟩ := q0
          cases ht
          simp only [zck, zckC, Bool.and_eq_true, beq_iff_eq, decide_eq_true_eq, List.all_cons, Bool.or_eq_true, List.contains_iff_mem] at hk
          simp only [zcalB, List.all_cons, Bool.and_eq_true, Bool.or_eq_true, decide_eq_true_eq, beq_iff_eq] at hm
          obtain ⟨hn, ho, hrow, -⟩ := hk
          obtain ⟨h1, h2⟩ := hrow.resolve_left (by omega)
          refine ⟨idx, 0, _, h1, ho, rfl, hn, h2, fun h => absurd rfl h, ?_, by simpa using hrv⟩
          rw [hl, hm.1.resolve_left (by omega)]
          simp [zsK]
      · cases h
    · cases h
  · rename_i idx
    split at h
    · rename_i a9 as9 r9 htk
      split at h
      · cases h
        obtain ⟨hl, hrv⟩ := ztake_len _ _ _ _ _ htk
        unfold ztgt at ht
        simp only at ht
        cases vt with
        | nil => cases ht
        | cons q0 t0 =>
          obtain ⟨c0, t1⟩ := q0
          simp only [zcalB, List.all_cons, Bool.and_eq_true, Bool.or_eq_true, decide_eq_true_eq, beq_iff_eq] at hm
          cases c0 with
          | zero =>
            cases ht
            simp only [zck, zckC, Bool.and_eq_true, beq_iff_eq, decide_eq_true_eq, List.all_cons, Bool.or_eq_true, List.contains_iff_mem] at hk
            obtain ⟨hn, ho, hrow, -⟩ := hk
            obtain ⟨h1, h2⟩ := hrow.resolve_left (by omega)
            refine ⟨idx, 1, _, h1, ho, rfl, hn, h2, fun _ => ⟨_, _, rfl, fun h => by simp [zsK] at h⟩, ?_, by simpa using hrv⟩
            rw [hl, (hm.1.resolve_left (by omega)).1]
            simp [zsK]
          | succ c0 =>
            simp only at ht
            by_cases hty : ztyp S a9 = c0 + 1
            · rw [if_pos hty] at ht
              cases ht
              simp only [zck, zckC, Bool.and_eq_true, beq_iff_eq, decide_eq_true_eq, List.all_cons, Bool.or_eq_true, List.contains_iff_mem] at hk
              obtain ⟨hn, ho, hrow, -⟩ := hk
              obtain ⟨h1, h2⟩ := hrow.resolve_left (by omega)
              have hm1 := hm.1.resolve_left (by omega)
              rw [if_neg (by omega)] at h2
              refine ⟨idx, 2, _, h1, ho, rfl, hn, h2, fun _ => ⟨_, _, rfl, fun _ => ⟨hty, hm1.2⟩⟩, ?_, by simpa using hrv⟩
              rw [hl, hm1.1]
              simp [zsK]
            · rw [if_neg hty] at ht; cases ht
      · cases h
    · cases h
  · rename_i idx
    split at h
    · rename_i a9 as9 r9 htk
      split at h
      · cases h
        obtain ⟨hl, hrv⟩ := ztake_len _ _ _ _ _ htk
        have pick : ∀ l : List (Nat × Nat), zvt l (ztyp S a9) = some me' → ∃ c0, (c0, me') ∈ l ∧ ztyp S a9 = c0 := by
          intro l
          induction l with
          | nil => intro h; cases h
          | cons q0 t0 ih =>
            obtain ⟨c0, t1⟩ := q0
            intro h
            unfold zvt at h
            by_cases hc : ztyp S a9 = c0
            · rw [if_pos hc] at h; cases h; exact ⟨c0, List.mem_cons_self, hc⟩
            · rw [if_neg hc] at h
              obtain ⟨c1, h1, h2⟩ := ih h
              exact ⟨c1, List.mem_cons_of_mem _ h1, h2⟩
        have key : ∃ c0, (c0, me') ∈ vt ∧ zna me' = A ∧ (if 1000 ≤ c0 then ztyp S a9 = zc1 (c0 - 1000) ∧ zc1 (c0 - 1000) < 24 else ztyp S a9 = c0 ∧ c0 < 24) := by
          unfold ztgt at ht
          simp only at ht
          unfold zcalB at hm
          simp only at hm
          split at ht
          · rename_i c t
            simp only [Bool.and_eq_true, Bool.or_eq_true, decide_eq_true_eq, beq_iff_eq] at hm
            by_cases hc : 1000 ≤ c
            · rw [if_pos hc] at ht
              by_cases ha : a9 = c - 1000
              · rw [if_pos ha] at ht; cases ht
                have hm := hm.resolve_left (by omega)
                obtain ⟨⟨-, hD⟩, h24⟩ := hm.2.resolve_left (by omega)
                refine ⟨c, List.mem_cons_self, hm.1, ?_⟩
                rw [if_pos hc, ha]
                exact ⟨zc1_typ hD, h24⟩
              · rw [if_neg ha] at ht; cases ht
            · rw [if_neg hc] at ht
              obtain ⟨c0, h1, h2⟩ := pick _ ht
              rcases List.mem_cons.mp h1 with h1 | h1
              · cases h1
                have hm := hm.resolve_left (by omega)
                refine ⟨c, List.mem_cons_self, hm.1, ?_⟩
                rw [if_neg hc]
                exact ⟨h2, hm.2.resolve_right (by omega)⟩
              · cases h1
          · rename_i hne
            obtain ⟨c0, h1, h2⟩ := pick _ ht
            split at hm
            · rename_i c t
              exact absurd rfl (hne c t)
            · have h3 := List.all_eq_true.mp hm _ h1
              simp only [Bool.and_eq_true, decide_eq_true_eq, beq_iff_eq] at h3
              refine ⟨c0, h1, h3.1, ?_⟩
              rw [if_neg (by omega)]
              exact ⟨h2, h3.2⟩
        obtain ⟨c0, hmem, hna, hc⟩ := key
        simp only [zck, zckC, Bool.and_eq_true, beq_iff_eq, decide_eq_true_eq, List.all_eq_true, Bool.or_eq_true, List.contains_iff_mem] at hk
        obtain ⟨hn, ho, hrow⟩ := hk
        obtain ⟨h1, h2⟩ := (hrow _ hmem).resolve_left (by simp only; omega)
        refine ⟨idx, 3, _, h1, ho, rfl, hn, h2, fun _ => ⟨_, _, rfl, fun _ => ?_⟩, ?_, by simpa using hrv⟩
        · simp only
          split at hc <;> rename_i h10
          · rw [if_pos h10]; exact hc
          · rw [if_neg h10]; exact hc
        · rw [hl, hna]
          simp [zsK]
      · cases h
    · cases h
  · cases h
