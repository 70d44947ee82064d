def zisR (v : Value) : Bool := match v with
  | .int _ => true
  | .ref _ => true
  | .long _ => true
  | _ => false
theorem zKL_no : ∀ o, o < 32 → ∀ q ∈ zKL o, (∀ x, q.2 ≠ .int x) → (∀ x, q.2 ≠ .ref x) → (∀ x, q.2 ≠ .long x) → False := by
  have k : ∀ o, o < 32 → (zKL o).all (fun q => zisR q.2) = true := by decide +kernel
  intro o ho q hq h1 h2 h3
  have := List.all_eq_true.mp (k o ho) q hq
  unfold zisR at this
  split at this
  · rename_i x e; exact h1 x e
  · rename_i x e; exact h2 x e
  · rename_i x e; exact h3 x e
  · cases this
theorem zGL_lt : ∀ o, o < 32 → ∀ q ∈ zGL o, q.2 < 4 := by decide +kernel
section Z2
variable {p : Program} {l : Launch} {e0 : Env} {R : Room} {s : State} {m : MethodId} {args : Array Value} {below : List Frame} {meth : Method} {c : Code} {H : Heap} {locs : List Loc} {cells slots : Nat} {Q : State → Prop} {cc : ByteArray} {ls : Array Slot} {nL : Nat} {ad : Nat → Nat} {S : zS} {L st : List Value} {e : zE} {o : Nat}
theorem zld_snd (hx : p.tables.exec = Jvm.exec) (hb : c.code = cc) (hd : decode cc e.1 = .ok (e.2.1, e.2.2.1)) (hk : zck o nL e = true) {q} (h : zld e (e.1 + e.2.2.1) L st S = some q) (hl : lv_has ls nL (zlv ad L)) (k : ∀ ls', lv_has ls' nL (zlv ad q.2.2.1) → W p l e0 R s m args below meth c H locs cells slots Q (F0 m q.2.1 ls' (q.2.2.2.1.map (zcv ad)))) : W p l e0 R s m args below meth c H locs cells slots Q (F0 m e.1 ls (st.map (zcv ad))) := by
  obtain ⟨pc, i, n, v, a, sw, vt⟩ := e
  unfold zld at h
  simp only at h hd
  split at h
  · simp only [zck, Bool.and_eq_true, beq_iff_eq] at hk
    obtain ⟨rfl, rfl⟩ := hk
    split at h
    · rename_i x hx2
      have h2 := Option.some.inj h; subst h2
      exact lv_iload hx hb hd (zlv_at hl hx2 (by simp) (by simp)) (k ls hl)
    · cases h
  · simp only [zck, Bool.and_eq_true, beq_iff_eq] at hk
    obtain ⟨rfl, rfl⟩ := hk
    split at h
    · rename_i x hx2
      have h2 := Option.some.inj h; subst h2
      exact lv_iload_n hx hb hd rfl (zlv_at hl hx2 (by simp) (by simp)) (k ls hl)
    · cases h
  · simp only [zck, Bool.and_eq_true, beq_iff_eq] at hk
    obtain ⟨rfl, rfl⟩ := hk
    split at h
    · rename_i x hx2
      have h2 := Option.some.inj h; subst h2
      exact lv_lload hx hb hd (zlv_at hl hx2 (by simp) (by simp)) (k ls hl)
    · cases h
  · simp only [zck, Bool.and_eq_true, beq_iff_eq] at hk
    obtain ⟨rfl, rfl⟩ := hk
    split at h
    · rename_i x hx2
      have h2 := Option.some.inj h; subst h2
      exact lv_lload_n hx hb hd rfl (zlv_at hl hx2 (by simp) (by simp)) (k ls hl)
    · cases h
  · simp only [zck, Bool.and_eq_true, beq_iff_eq] at hk
    obtain ⟨rfl, rfl⟩ := hk
    split at h
    · rename_i x hx2
      have h2 := Option.some.inj h; subst h2
      exact lv_aload hx hb hd (zlv_at hl hx2 (by simp) (by simp)) (k ls hl)
    · rename_i hx2
      have h2 := Option.some.inj h; subst h2
      exact lv_aloadN hx hb hd (zlv_at hl hx2 (by simp) (by simp)) (k ls hl)
    · cases h
  · simp only [zck, Bool.and_eq_true, beq_iff_eq] at hk
    obtain ⟨rfl, rfl⟩ := hk
    split at h
    · rename_i x hx2
      have h2 := Option.some.inj h; subst h2
      exact lv_aload_n hx hb hd rfl (zlv_at hl hx2 (by simp) (by simp)) (k ls hl)
    · rename_i hx2
      have h2 := Option.some.inj h; subst h2
      exact lv_aload_nN hx hb hd rfl (zlv_at hl hx2 (by simp) (by simp)) (k ls hl)
    · cases h
  · cases h
theorem zstr_snd (hx : p.tables.exec = Jvm.exec) (hb : c.code = cc) (hd : decode cc e.1 = .ok (e.2.1, e.2.2.1)) (hk : zck o nL e = true) {q} (h : zstr e (e.1 + e.2.2.1) L st S = some q) (hl : lv_has ls nL (zlv ad L)) (k : ∀ ls', lv_has ls' nL (zlv ad q.2.2.1) → W p l e0 R s m args below meth c H locs cells slots Q (F0 m q.2.1 ls' (q.2.2.2.1.map (zcv ad)))) : W p l e0 R s m args below meth c H locs cells slots Q (F0 m e.1 ls (st.map (zcv ad))) := by
  obtain ⟨pc, i, n, v, a, sw, vt⟩ := e
  unfold zstr at h
  simp only at h hd
  split at h
  · simp only [zck, Bool.and_eq_true, beq_iff_eq, decide_eq_true_eq] at hk
    obtain ⟨⟨rfl, rfl⟩, hi⟩ := hk
    have h2 := Option.some.inj h; subst h2
    exact lv_istore hx hb hd hl hi rfl (fun ls' hl' => k ls' (zlv_less hl' zst1_sub))
  · simp only [zck, Bool.and_eq_true, beq_iff_eq, decide_eq_true_eq] at hk
    obtain ⟨⟨rfl, rfl⟩, hi⟩ := hk
    have h2 := Option.some.inj h; subst h2
    exact lv_istore_n hx hb hd rfl hl hi rfl (fun ls' hl' => k ls' (zlv_less hl' zst1_sub))
  · simp only [zck, Bool.and_eq_true, beq_iff_eq, decide_eq_true_eq] at hk
    obtain ⟨⟨rfl, rfl⟩, hi⟩ := hk
    have h2 := Option.some.inj h; subst h2
    exact lv_lstore hx hb hd hl hi rfl (fun ls' hl' => k ls' (zlv_less hl' zst2_sub))
  · simp only [zck, Bool.and_eq_true, beq_iff_eq, decide_eq_true_eq] at hk
    obtain ⟨⟨rfl, rfl⟩, hi⟩ := hk
    have h2 := Option.some.inj h; subst h2
    exact lv_lstore_n hx hb hd rfl hl hi rfl (fun ls' hl' => k ls' (zlv_less hl' zst2_sub))
  · simp only [zck, Bool.and_eq_true, beq_iff_eq, decide_eq_true_eq] at hk
    obtain ⟨⟨rfl, rfl⟩, hi⟩ := hk
    have h2 := Option.some.inj h; subst h2
    exact lv_astore hx hb hd hl hi rfl (fun ls' hl' => k ls' (zlv_less hl' zst1_sub))
  · simp only [zck, Bool.and_eq_true, beq_iff_eq, decide_eq_true_eq] at hk
    obtain ⟨⟨rfl, rfl⟩, hi⟩ := hk
    have h2 := Option.some.inj h; subst h2
    exact lv_astore_n hx hb hd rfl hl hi rfl (fun ls' hl' => k ls' (zlv_less hl' zst1_sub))
  · simp only [zck, Bool.and_eq_true, beq_iff_eq, decide_eq_true_eq] at hk
    obtain ⟨⟨rfl, rfl⟩, hi⟩ := hk
    have h2 := Option.some.inj h; subst h2
    exact lv_astoreN hx hb hd hl hi rfl (fun ls' hl' => k ls' (zlv_less hl' zst1_sub))
  · simp only [zck, Bool.and_eq_true, beq_iff_eq, decide_eq_true_eq] at hk
    obtain ⟨⟨rfl, rfl⟩, hi⟩ := hk
    have h2 := Option.some.inj h; subst h2
    exact lv_astore_nN hx hb hd rfl hl hi rfl (fun ls' hl' => k ls' (zlv_less hl' zst1_sub))
  · cases h
theorem zint_snd (hx : p.tables.exec = Jvm.exec) (hb : c.code = cc) (hd : decode cc e.1 = .ok (e.2.1, e.2.2.1)) (hk : zck o nL e = true) {q} (h : zint e (e.1 + e.2.2.1) L st S = some q) (hc : ∀ c0, q.1 = some c0 → c0) (hl : lv_has ls nL (zlv ad L)) (k : ∀ ls', lv_has ls' nL (zlv ad q.2.2.1) → W p l e0 R s m args below meth c H locs cells slots Q (F0 m q.2.1 ls' (q.2.2.2.1.map (zcv ad)))) : W p l e0 R s m args below meth c H locs cells slots Q (F0 m e.1 ls (st.map (zcv ad))) := by
  obtain ⟨pc, i, n, v, a, sw, vt⟩ := e
  unfold zint at h
  simp only at h hd
  split at h
  · simp only [zck, beq_iff_eq] at hk; subst hk; have h2 := Option.some.inj h; subst h2; exact lv_iadd hx hb hd (k ls hl)
  · simp only [zck, beq_iff_eq] at hk; subst hk; have h2 := Option.some.inj h; subst h2; exact lv_isub hx hb hd (k ls hl)
  · simp only [zck, beq_iff_eq] at hk; subst hk; have h2 := Option.some.inj h; subst h2; exact lv_imul hx hb hd (k ls hl)
  · simp only [zck, beq_iff_eq] at hk; subst hk; have h2 := Option.some.inj h; subst h2; exact lv_iand hx hb hd (k ls hl)
  · simp only [zck, beq_iff_eq] at hk; subst hk; have h2 := Option.some.inj h; subst h2; exact lv_ior hx hb hd (k ls hl)
  · simp only [zck, beq_iff_eq] at hk; subst hk; have h2 := Option.some.inj h; subst h2; exact lv_ixor hx hb hd (k ls hl)
  · simp only [zck, beq_iff_eq] at hk; subst hk; have h2 := Option.some.inj h; subst h2; exact lv_ishl hx hb hd (k ls hl)
  · simp only [zck, beq_iff_eq] at hk; subst hk; have h2 := Option.some.inj h; subst h2; exact lv_ishr hx hb hd (k ls hl)
  · simp only [zck, beq_iff_eq] at hk; subst hk; have h2 := Option.some.inj h; subst h2; exact lv_iushr hx hb hd rfl (k ls hl)
  · simp only [zck, beq_iff_eq] at hk; subst hk; have h2 := Option.some.inj h; subst h2; exact lv_idiv hx hb hd (hc _ rfl) (k ls hl)
  · simp only [zck, beq_iff_eq] at hk; subst hk; have h2 := Option.some.inj h; subst h2; exact lv_irem hx hb hd (hc _ rfl) (k ls hl)
  · simp only [zck, beq_iff_eq] at hk; subst hk; have h2 := Option.some.inj h; subst h2; exact lv_ineg hx hb hd (k ls hl)
  · simp only [zck, beq_iff_eq] at hk; subst hk; have h2 := Option.some.inj h; subst h2; exact lv_i2l hx hb hd rfl (k ls hl)
  · simp only [zck, beq_iff_eq] at hk; subst hk; have h2 := Option.some.inj h; subst h2; exact lv_i2b hx hb hd rfl (k ls hl)
  · simp only [zck, beq_iff_eq] at hk; subst hk; have h2 := Option.some.inj h; subst h2; exact lv_i2c hx hb hd rfl (k ls hl)
  · simp only [zck, Bool.and_eq_true, beq_iff_eq, decide_eq_true_eq] at hk
    obtain ⟨⟨⟨rfl, rfl⟩, hi⟩, rfl⟩ := hk
    split at h
    · rename_i x cst hx2 hv
      have h2 := Option.some.inj h; subst h2
      cases hv
      have hm : (a, Value.int x) ∈ zlv ad L := zlv_mem.mpr ⟨.int x, by
        rw [List.getD_eq_getElem?_getD] at hx2
        cases e : L[a]? with
        | none => rw [e] at hx2; cases hx2
        | some w => rw [e] at hx2; simp at hx2; rw [hx2], by simp, rfl⟩
      obtain ⟨j, hj⟩ := List.getElem?_of_mem hm
      exact lv_iinc hx hb hd hl hj rfl hi rfl (fun ls' hl' => k ls' (zlv_less hl' zst1_sub))
    · cases h
  · cases h
theorem zlng_snd (hx : p.tables.exec = Jvm.exec) (hb : c.code = cc) (hd : decode cc e.1 = .ok (e.2.1, e.2.2.1)) (hk : zck o nL e = true) {q} (h : zlng e (e.1 + e.2.2.1) L st S = some q) (hl : lv_has ls nL (zlv ad L)) (k : ∀ ls', lv_has ls' nL (zlv ad q.2.2.1) → W p l e0 R s m args below meth c H locs cells slots Q (F0 m q.2.1 ls' (q.2.2.2.1.map (zcv ad)))) : W p l e0 R s m args below meth c H locs cells slots Q (F0 m e.1 ls (st.map (zcv ad))) := by
  obtain ⟨pc, i, n, v, a, sw, vt⟩ := e
  unfold zlng at h
  simp only at h hd
  split at h
  · simp only [zck, beq_iff_eq] at hk; subst hk; have h2 := Option.some.inj h; subst h2; exact lv_ladd hx hb hd (k ls hl)
  · simp only [zck, beq_iff_eq] at hk; subst hk; have h2 := Option.some.inj h; subst h2; exact lv_lsub hx hb hd (k ls hl)
  · simp only [zck, beq_iff_eq] at hk; subst hk; have h2 := Option.some.inj h; subst h2; exact lv_lmul hx hb hd (k ls hl)
  · simp only [zck, beq_iff_eq] at hk; subst hk; have h2 := Option.some.inj h; subst h2; exact lv_land hx hb hd (k ls hl)
  · simp only [zck, beq_iff_eq] at hk; subst hk; have h2 := Option.some.inj h; subst h2; exact lv_lor hx hb hd (k ls hl)
  · simp only [zck, beq_iff_eq] at hk; subst hk; have h2 := Option.some.inj h; subst h2; exact lv_lneg hx hb hd (k ls hl)
  · simp only [zck, beq_iff_eq] at hk; subst hk; have h2 := Option.some.inj h; subst h2; exact lv_lshl hx hb hd rfl (k ls hl)
  · simp only [zck, beq_iff_eq] at hk; subst hk; have h2 := Option.some.inj h; subst h2; exact lv_lshr hx hb hd rfl (k ls hl)
  · simp only [zck, beq_iff_eq] at hk; subst hk; have h2 := Option.some.inj h; subst h2; exact W.lcmp hx hb hd (k ls hl)
  · simp only [zck, beq_iff_eq] at hk; subst hk; have h2 := Option.some.inj h; subst h2; exact lv_l2i hx hb hd rfl (k ls hl)
  · cases h
theorem zcat_1 {v : Value} (h : zcat v = 1) : (zcv ad v).category = 1 := by rw [zcv_cat]; cases v <;> first | rfl | (simp [zcat] at h)
theorem zTg_eq {pc a : Nat} {off : Int} (h : zTg pc off a = true) : (pc : Int) + off = (a : Int) := of_decide_eq_true h
/-- branches -/
theorem zbop_snd (hx : p.tables.exec = Jvm.exec) (hb : c.code = cc) (hd : decode cc e.1 = .ok (e.2.1, e.2.2.1)) (hk : zck o nL e = true) {q} (h : zbop e st = some q)
    (kt : q.1 → W p l e0 R s m args below meth c H locs cells slots Q (F0 m e.2.2.2.2.1 ls (q.2.map (zcv ad)))) (kf : ¬ q.1 → W p l e0 R s m args below meth c H locs cells slots Q (F0 m (e.1 + e.2.2.1) ls (q.2.map (zcv ad)))) : W p l e0 R s m args below meth c H locs cells slots Q (F0 m e.1 ls (st.map (zcv ad))) := by
  obtain ⟨pc, i, n, v, a, sw, vt⟩ := e
  unfold zbop at h
  simp only at h hd kt kf
  split at h
  · simp only [zck, Bool.and_eq_true, beq_iff_eq] at hk; obtain ⟨rfl, ht⟩ := hk; cases h; exact lv_if_eq hx hb hd (zTg_eq ht) kt kf
  · simp only [zck, Bool.and_eq_true, beq_iff_eq] at hk; obtain ⟨rfl, ht⟩ := hk; cases h; exact lv_if_ne hx hb hd (zTg_eq ht) kt (fun hh => kf (fun hn => hn hh))
  · simp only [zck, Bool.and_eq_true, beq_iff_eq] at hk; obtain ⟨rfl, ht⟩ := hk; cases h; exact lv_if_lt hx hb hd (zTg_eq ht) kt kf
  · simp only [zck, Bool.and_eq_true, beq_iff_eq] at hk; obtain ⟨rfl, ht⟩ := hk; cases h; exact lv_if_ge hx hb hd (zTg_eq ht) kt kf
  · simp only [zck, Bool.and_eq_true, beq_iff_eq] at hk; obtain ⟨rfl, ht⟩ := hk; cases h; exact lv_if_gt hx hb hd (zTg_eq ht) kt kf
  · simp only [zck, Bool.and_eq_true, beq_iff_eq] at hk; obtain ⟨rfl, ht⟩ := hk; cases h; exact lv_if_le hx hb hd (zTg_eq ht) kt kf
  · simp only [zck, Bool.and_eq_true, beq_iff_eq] at hk; obtain ⟨rfl, ht⟩ := hk; cases h; exact lv_icmp_eq hx hb hd (zTg_eq ht) kt kf
  · simp only [zck, Bool.and_eq_true, beq_iff_eq] at hk; obtain ⟨rfl, ht⟩ := hk; cases h; exact lv_icmp_ne hx hb hd (zTg_eq ht) kt (fun hh => kf (fun hn => hn hh))
  · simp only [zck, Bool.and_eq_true, beq_iff_eq] at hk; obtain ⟨rfl, ht⟩ := hk; cases h; exact lv_icmp_lt hx hb hd (zTg_eq ht) kt kf
  · simp only [zck, Bool.and_eq_true, beq_iff_eq] at hk; obtain ⟨rfl, ht⟩ := hk; cases h; exact lv_icmp_ge hx hb hd (zTg_eq ht) kt kf
  · simp only [zck, Bool.and_eq_true, beq_iff_eq] at hk; obtain ⟨rfl, ht⟩ := hk; cases h; exact lv_icmp_gt hx hb hd (zTg_eq ht) kt kf
  · simp only [zck, Bool.and_eq_true, beq_iff_eq] at hk; obtain ⟨rfl, ht⟩ := hk; cases h; exact lv_icmp_le hx hb hd (zTg_eq ht) kt kf
  · cases h
theorem zacm_snd (hx : p.tables.exec = Jvm.exec) (hb : c.code = cc) (hd : decode cc e.1 = .ok (e.2.1, e.2.2.1)) (hk : zck o nL e = true) {off} (hi : e.2.1 = .if_acmp .ne off) {q} (h : zacm e (e.1 + e.2.2.1) L st S = some q) (hc : ∀ c0, q.1 = some c0 → c0) (hadj : ∀ i j : Nat, (Value.ref i) ∈ st → (Value.ref j) ∈ st → ztyp S i = 22 → ztyp S j = 22 → ad i = ad j → i = j)
    (hl : lv_has ls nL (zlv ad L)) (k : ∀ ls', lv_has ls' nL (zlv ad q.2.2.1) → W p l e0 R s m args below meth c H locs cells slots Q (F0 m q.2.1 ls' (q.2.2.2.1.map (zcv ad)))) : W p l e0 R s m args below meth c H locs cells slots Q (F0 m e.1 ls (st.map (zcv ad))) := by
  obtain ⟨pc, i, n, v, a, sw, vt⟩ := e
  simp only at hi
  subst hi
  unfold zacm at h
  simp only at h hd
  split at h
  · rename_i y x r
    simp only [zck, Bool.and_eq_true, beq_iff_eq] at hk; obtain ⟨rfl, ht⟩ := hk
    have h2 := Option.some.inj h; subst h2
    obtain ⟨t1, t2⟩ := hc _ rfl
    have kk := k ls hl
    simp only at kk
    refine lv_acmp_ne (rx := some (ad x)) (ry := some (ad y)) hx hb hd (zTg_eq ht) (fun hh => ?_) (fun hh => ?_)
    · rw [if_neg (fun e => hh (by rw [e]))] at kk
      exact kk
    · rw [if_pos (hadj x y (by simp) (by simp) t1 t2 (Option.some.inj hh))] at kk
      exact kk
  · cases h
theorem znop_snd (hx : p.tables.exec = Jvm.exec) (hb : c.code = cc) (hd : decode cc e.1 = .ok (e.2.1, e.2.2.1)) (hk : zck o nL e = true) {q} (h : znop e st = some q) (k : W p l e0 R s m args below meth c H locs cells slots Q (F0 m (match q.1 with | true => e.2.2.2.2.1 | false => e.1 + e.2.2.1) ls (q.2.map (zcv ad)))) : W p l e0 R s m args below meth c H locs cells slots Q (F0 m e.1 ls (st.map (zcv ad))) := by
  obtain ⟨pc, i, n, v, a, sw, vt⟩ := e
  unfold znop at h
  simp only at h hd k
  split at h
  · simp only [zck, Bool.and_eq_true, beq_iff_eq] at hk; obtain ⟨rfl, ht⟩ := hk; cases h; exact lv_ifnullN hx hb hd (zTg_eq ht) k
  · simp only [zck, Bool.and_eq_true, beq_iff_eq] at hk; obtain ⟨rfl, ht⟩ := hk; cases h; exact lv_ifnull hx hb hd k
  · simp only [zck, Bool.and_eq_true, beq_iff_eq] at hk; obtain ⟨rfl, ht⟩ := hk; cases h; exact lv_ifnonnullN hx hb hd k
  · simp only [zck, Bool.and_eq_true, beq_iff_eq] at hk; obtain ⟨rfl, ht⟩ := hk; cases h; exact lv_ifnonnull hx hb hd (zTg_eq ht) k
  · cases h
theorem zpick_out {k : Int32} {a : Nat} : ∀ (sw : List (Int32 × Nat)), (∀ q ∈ sw, q.1 ≠ k) → zpick sw k a = a := by
  intro sw
  induction sw with
  | nil => exact fun _ => rfl
  | cons q t ih =>
    obtain ⟨c0, t0⟩ := q
    intro h
    unfold zpick
    rw [if_neg (fun e => h (c0, t0) List.mem_cons_self e.symm)]
    exact ih (fun q hq => h q (List.mem_cons_of_mem _ hq))
theorem zlook_pick {k : Int32} {pc a : Nat} {df : Int} (hdf : (pc : Int) + df = (a : Int)) : ∀ (ps : List (Int × Int)), (∀ q ∈ ps, (Int32.ofInt q.1).toInt = q.1 ∧ 0 ≤ (pc : Int) + q.2) → (pc : Int) + Op.lookupswitch.offset ps df k.toInt = ((zpick (ps.map (fun q => (Int32.ofInt q.1, ((pc : Int) + q.2).toNat))) k a : Nat) : Int) := by
  intro ps
  induction ps with
  | nil => intro _; exact hdf
  | cons q t ih =>
    obtain ⟨c0, o0⟩ := q
    intro h
    have h1 := h (c0, o0) List.mem_cons_self
    have ih := ih (fun q hq => h q (List.mem_cons_of_mem _ hq))
    simp only [List.map_cons, zpick]
    by_cases e : k = Int32.ofInt c0
    · rw [if_pos e]
      have : k.toInt = c0 := by rw [e]; exact h1.1
      simp only [Op.lookupswitch.offset, this]
      simp
      omega
    · rw [if_neg e]
      have : ¬ k.toInt = c0 := fun e2 => e (by apply Int32.toInt_inj.mp; rw [h1.1]; exact e2)
      simp only [Op.lookupswitch.offset]
      rw [← ih]
      simp [this, Ne.symm this]
theorem zsop_snd (hx : p.tables.exec = Jvm.exec) (hb : c.code = cc) (hd : decode cc e.1 = .ok (e.2.1, e.2.2.1)) (hk : zck o nL e = true) {q} (h : zsop e st = some q) (k : W p l e0 R s m args below meth c H locs cells slots Q (F0 m (zpick e.2.2.2.2.2.1 q.1 e.2.2.2.2.1) ls (q.2.map (zcv ad)))) : W p l e0 R s m args below meth c H locs cells slots Q (F0 m e.1 ls (st.map (zcv ad))) := by
  obtain ⟨pc, i, n, v, a, sw, vt⟩ := e
  unfold zsop at h
  simp only at h hd k
  split at h
  · rename_i df lo hi offs key r
    simp only [zck, zswT, Bool.and_eq_true, decide_eq_true_eq, List.all_eq_true] at hk
    obtain ⟨⟨⟨h1, h2⟩, h3⟩, h4⟩ := hk
    cases h
    by_cases hin : key.toInt < lo ∨ hi < key.toInt
    · rw [zpick_out sw (fun q hq e => by have := h4 q hq; rw [e] at this; simp only at this; omega)] at k
      exact lv_tableOut hx hb hd hin (zTg_eq h1) k
    · have hj : (key.toInt - lo).toNat < offs.toList.length := by omega
      have h5 := h3 _ (List.mem_range.mpr hj)
      have e1 : lo + (((key.toInt - lo).toNat : Nat) : Int) = key.toInt := by omega
      rw [e1] at h5
      have e2 : Int32.ofInt key.toInt = key := Int32.toInt_inj.mp h5.2
      rw [e2] at h5
      have e3 : offs.toList[(key.toInt - lo).toNat]? = some (offs.toList.getD (key.toInt - lo).toNat 0) := by
        rw [List.getD_eq_getElem?_getD, List.getElem?_eq_getElem hj]; rfl
      exact lv_tableIn hx hb hd (fun q => hin (Or.inl q)) (fun q => hin (Or.inr q)) (by rw [← Array.getElem?_toList]; exact e3) h5.1 k
  · rename_i df ps key r
    simp only [zck, zswL, Bool.and_eq_true, decide_eq_true_eq, List.all_eq_true] at hk
    obtain ⟨⟨⟨h1, h2⟩, h3⟩, h4⟩ := hk
    cases h
    refine lv_lookup (off := Op.lookupswitch.offset ps.toList df key.toInt) hx hb hd ?_ rfl (zlook_pick (zTg_eq h1) ps.toList h3) (by rw [h2]; exact k)
    rw [List.all_eq_true]
    intro x hx3
    have := h4 x hx3
    simpa using this
  · cases h
theorem zstk_snd (hx : p.tables.exec = Jvm.exec) (hb : c.code = cc) (hd : decode cc e.1 = .ok (e.2.1, e.2.2.1)) (hk : zck o nL e = true) (hown : s.vm.findClass (zcn o) = some m.cls) (hts : ∀ w ∈ lw_all, w.before args s = true) (hstr : ∀ idx i, (idx, Value.ref i) ∈ zKL o → ∃ tx, vk_R (zcn o) idx tx (ad i) s)
    {A : Nat → Prop} (hgs : ∀ j, j < 4 → va_Z (zst j).1 (zst j).2.1 (zst j).2.2.1 (zcv ad (zst j).2.2.2) A s s.heap) (hS : va_S A s.heap H locs) {q} (h : zstk e (e.1 + e.2.2.1) L st S = some q) (hl : lv_has ls nL (zlv ad L)) (k : ∀ ls', lv_has ls' nL (zlv ad q.2.2.1) → W p l e0 R s m args below meth c H locs cells slots Q (F0 m q.2.1 ls' (q.2.2.2.1.map (zcv ad)))) : W p l e0 R s m args below meth c H locs cells slots Q (F0 m e.1 ls (st.map (zcv ad))) := by
  obtain ⟨pc, i, n, v, a, sw, vt⟩ := e
  unfold zstk at h
  simp only at h hd
  split at h
  · simp only [zck, beq_iff_eq] at hk; subst hk; have h2 := Option.some.inj h; subst h2; exact lv_null hx hb hd (k ls hl)
  · simp only [zck, Bool.and_eq_true, beq_iff_eq, decide_eq_true_eq] at hk; obtain ⟨rfl, rfl⟩ := hk; have h2 := Option.some.inj h; subst h2; exact lv_iconst hx hb hd rfl (k ls hl)
  · simp only [zck, Bool.and_eq_true, beq_iff_eq, decide_eq_true_eq] at hk; obtain ⟨rfl, rfl⟩ := hk; have h2 := Option.some.inj h; subst h2; exact lv_bipush hx hb hd rfl (k ls hl)
  · simp only [zck, Bool.and_eq_true, beq_iff_eq, decide_eq_true_eq] at hk; obtain ⟨rfl, rfl⟩ := hk; have h2 := Option.some.inj h; subst h2; exact lv_sipush hx hb hd rfl (k ls hl)
  · simp only [zck, Bool.and_eq_true, beq_iff_eq, decide_eq_true_eq] at hk; obtain ⟨rfl, rfl⟩ := hk; have h2 := Option.some.inj h; subst h2; exact lv_lconst hx hb hd rfl (k ls hl)
  · rename_i idx
    simp only [zck, Bool.and_eq_true, beq_iff_eq, decide_eq_true_eq] at hk
    obtain ⟨⟨⟨rfl, ho⟩, hm⟩, hnl⟩ := hk
    have h2 := Option.some.inj h; subst h2
    have hf := zKL_ok o ho _ hm
    cases v with
    | int x => exact lv_ldc hx hb hown (hts _ hf) hd (k ls hl)
    | ref x => obtain ⟨tx, hR⟩ := hstr _ _ hm; exact va_ldcS hx hb hown hR hd (k ls hl)
    | long x => simp at hnl
    | _ => exact (zKL_no o ho _ hm (by simp) (by simp) (by simp)).elim
  · rename_i idx
    simp only [zck, Bool.and_eq_true, beq_iff_eq, decide_eq_true_eq] at hk
    obtain ⟨⟨⟨rfl, ho⟩, hm⟩, hnl⟩ := hk
    have h2 := Option.some.inj h; subst h2
    have hf := zKL_ok o ho _ hm
    cases v with
    | int x => exact lv_ldcw hx hb hown (hts _ hf) hd (k ls hl)
    | ref x =>
      obtain ⟨tx, hR⟩ := hstr _ _ hm
      intro T hT X
      obtain ⟨t, a1, b1⟩ := k ls hl T hT X
      exact ⟨t, X.ldcStringW hx hown (text := tx) hR.1 hR.2 (g := F0 m pc ls _) rfl (by rw [hb]; exact hd) t a1, b1⟩
    | long x => simp at hnl
    | _ => exact (zKL_no o ho _ hm (by simp) (by simp) (by simp)).elim
  · rename_i idx
    simp only [zck, Bool.and_eq_true, beq_iff_eq, decide_eq_true_eq] at hk
    obtain ⟨⟨⟨rfl, ho⟩, hm⟩, hv⟩ := hk
    have h2 := Option.some.inj h; subst h2
    have hf := zKL_ok o ho _ hm
    cases v with
    | long x => exact lv_ldc2 hx hb hown (hts _ hf) hd (k ls hl)
    | _ => simp at hv
  · rename_i idx
    simp only [zck, Bool.and_eq_true, beq_iff_eq, decide_eq_true_eq, List.contains_iff_mem] at hk
    obtain ⟨⟨⟨rfl, ho⟩, hm⟩, rfl⟩ := hk
    have h2 := Option.some.inj h; subst h2
    have hf := zGL_ok o ho _ hm
    have ha : a < 4 := zGL_lt o ho _ hm
    exact va_gets hx hb (hgs a ha) hS hown (hts _ hf) (fun x hx => hx) hd (k ls hl)
  · simp only [zck, Bool.and_eq_true, beq_iff_eq] at hk; obtain ⟨rfl, ht⟩ := hk; have h2 := Option.some.inj h; subst h2; exact lv_goto hx hb hd (zTg_eq ht) (k ls hl)
  · split at h
    · rename_i h1
      simp only [zck, beq_iff_eq] at hk; subst hk; have h2 := Option.some.inj h; subst h2; exact lv_dup hx hb hd (zcat_1 h1) (k ls hl)
    · cases h
  · split at h
    · rename_i h1
      simp only [zck, beq_iff_eq] at hk; subst hk; have h2 := Option.some.inj h; subst h2; exact lv_pop hx hb hd (zcat_1 h1) (k ls hl)
    · cases h
  · split at h
    · rename_i h1 h3
      simp only [zck, beq_iff_eq] at hk; subst hk; have h2 := Option.some.inj h; subst h2; exact lv_dup_x1 hx hb hd (zcat_1 h1) (zcat_1 h3) (k ls hl)
    · cases h
  · split at h
    · rename_i h1 h3
      simp only [zck, beq_iff_eq] at hk; subst hk; have h2 := Option.some.inj h; subst h2; exact lv_dup2_11 hx hb hd (zcat_1 h1) (zcat_1 h3) (k ls hl)
    · cases h
  · cases h
end Z2
