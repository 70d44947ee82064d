/-! ===== one instruction ===== -/
/-- what holds of a state throughout: classes, literals, statics -/
def zCtx (b : Nat) (oa : Nat → Nat) (D : va_G) (dA : Nat → ClassId) (H0 : Heap) (S : zS) (s : State) : Prop :=
  zKx s ∧ va_K D zcls (ztys dA) s ∧ zBk D s ∧ (va_Nc "SpendHouse$Lock" "SpendHouse$Wrapper" s ∧ va_Nc "SpendHouse$Image" "SpendHouse$Wrapper" s) ∧
  (∀ o, o < 32 → ∀ idx i, (idx, Value.ref i) ∈ zKL o → ∃ tx, vk_R (zcn o) idx tx (zad b oa i) s) ∧
  (∀ j, j < 4 → va_Z (zst j).1 (zst j).2.1 (zst j).2.2.1 (zcv (zad b oa) (zst j).2.2.2) (fun q => b ≤ q) s s.heap) ∧
  zLit b (zad b oa) D H0 S s ∧ vx_Zq Bundle.tN "UNASSIGNED_STACK" Bundle.steD (fun q => b ≤ q) s s.heap ∧ vx_Zq Bundle.tN "SUPPRESSED_SENTINEL" Bundle.listD (fun q => b ≤ q) s s.heap ∧
  (∀ i j, zLB ≤ i → zLB ≤ j → ztyp S i = 22 → ztyp S j = 22 → zad b oa i = zad b oa j → i = j)
theorem zCtx.old {b : Nat} {oa : Nat → Nat} {D : va_G} {dA : Nat → ClassId} {H0 : Heap} {S S' : zS} {s : State} (h : zCtx b oa D dA H0 S s) (ho : zOld S S') : zCtx b oa D dA H0 S' s := by
  obtain ⟨h1, h2, h3, h4, h5, h6, h7, h8, h9, h10⟩ := h
  refine ⟨h1, h2, h3, h4, h5, h6, h7.old ho, h8, h9, fun i j hi hj ti tj => ?_⟩
  rw [(ztyp_old ho hi).1] at ti
  rw [(ztyp_old ho hj).1] at tj
  exact h10 i j hi hj ti tj
theorem zarr_L {e : zE} {nx : Nat} {L st : List Value} {S : zS} {q} (h : zarr e nx L st S = some q) : q.2.2.1 = L := by
  unfold zarr at h
  repeat' split at h
  all_goals first | (cases h; done) | (have h2 := Option.some.inj h; rw [← h2])
theorem zmul_L {e : zE} {nx : Nat} {L st : List Value} {S : zS} {q} (h : zmul e nx L st S = some q) : q.2.2.1 = L := by
  unfold zmul at h
  repeat' split at h
  all_goals first | (cases h; done) | (have h2 := Option.some.inj h; rw [← h2])
theorem zfld_L {e : zE} {nx : Nat} {L st : List Value} {S : zS} {q} (h : zfld e nx L st S = some q) : q.2.2.1 = L := by
  unfold zfld at h
  repeat' split at h
  all_goals first | (cases h; done) | (have h2 := Option.some.inj h; rw [← h2])
theorem zcln_L {e : zE} {nx : Nat} {L st : List Value} {S : zS} {q} (h : zcln e nx L st S = some q) : q.2.2.1 = L := by
  unfold zcln at h
  repeat' split at h
  all_goals first | (cases h; done) | (have h2 := Option.some.inj h; rw [← h2])
theorem zfld_ref {e : zE} {nx : Nat} {L st : List Value} {S : zS} {q} (h : zfld e nx L st S = some q) {idx : Nat} (hi : e.2.1 = .getfield idx ∨ e.2.1 = .checkcast idx ∨ e.2.1 = .instanceof idx) : ∃ a r, st = .ref a :: r := by
  obtain ⟨pc, i, n, v, F, sw, vt⟩ := e
  unfold zfld at h
  simp only at hi h
  cases st with
  | nil => rcases hi with rfl | rfl | rfl <;> cases h
  | cons w r => cases w <;> first | exact ⟨_, _, rfl⟩ | (rcases hi with rfl | rfl | rfl <;> cases h)
theorem zfld_put {e : zE} {nx : Nat} {L st : List Value} {S : zS} {q} (h : zfld e nx L st S = some q) {idx : Nat} (hi : e.2.1 = .putfield idx) : (∃ x a r, st = .int x :: .ref a :: r) ∨ (∃ x a r, st = .ref x :: .ref a :: r) ∨ ∃ a r, st = .null :: .ref a :: r := by
  obtain ⟨pc, i, n, v, F, sw, vt⟩ := e
  unfold zfld at h
  simp only at hi h
  subst hi
  cases st with
  | nil => cases h
  | cons w r =>
    cases r with
    | nil => cases w <;> cases h
    | cons w2 r =>
      cases w <;> first
        | (cases w2 <;> first | exact Or.inl ⟨_, _, _, rfl⟩ | exact Or.inr (Or.inl ⟨_, _, _, rfl⟩) | exact Or.inr (Or.inr ⟨_, _, rfl⟩) | cases h)
        | cases h
theorem zfld_sp {e : zE} {nx : Nat} {L st : List Value} {S : zS} {q} (h : zfld e nx L st S = some q) {idx : Nat} (hi : e.2.1 = .invokespecial idx) : ∃ x r t, e.2.2.2.2.2.2 = (x, r) :: t ∧ ((r = 9000 ∧ q.2.2.2.2 = S) ∨ r = 9001) := by
  obtain ⟨pc, i, n, v, F, sw, vt⟩ := e
  unfold zfld at h
  simp only at hi h
  subst hi
  simp only at h
  split at h
  · split at h
    · have h2 := Option.some.inj h; subst h2; exact ⟨_, _, _, rfl, Or.inl ⟨rfl, rfl⟩⟩
    · cases h
  · exact ⟨_, _, _, rfl, Or.inr rfl⟩
  · cases h
theorem zfld_sc {e : zE} {nx : Nat} {L st : List Value} {S : zS} {q} (h : zfld e nx L st S = some q) {idx : Nat} (hi : e.2.1 = .invokestatic idx) : ∃ x r t, e.2.2.2.2.2.2 = (x, r) :: t ∧ (((r = 9000 ∨ r = 9004 ∨ r = 9005 ∨ r = 9006) ∧ q.2.2.2.2 = S) ∨ (r = 9003 ∧ gN q.2.2.2.2 = gN S ∧ gZ q.2.2.2.2 = gZ S)) := by
  obtain ⟨pc, i, n, v, F, sw, vt⟩ := e
  unfold zfld at h
  simp only at hi h
  subst hi
  simp only at h
  split at h
  · split at h
    · have h2 := Option.some.inj h; subst h2; exact ⟨_, _, _, rfl, Or.inr ⟨rfl, rfl, rfl⟩⟩
    · cases h
  · split at h
    · have h2 := Option.some.inj h; subst h2; exact ⟨_, _, _, rfl, Or.inl ⟨Or.inr (Or.inl rfl), rfl⟩⟩
    · cases h
  · split at h
    · have h2 := Option.some.inj h; subst h2; exact ⟨_, _, _, rfl, Or.inl ⟨Or.inr (Or.inr (Or.inr rfl)), rfl⟩⟩
    · cases h
  · split at h
    · have h2 := Option.some.inj h; subst h2; exact ⟨_, _, _, rfl, Or.inl ⟨Or.inr (Or.inr (Or.inl rfl)), rfl⟩⟩
    · cases h
  · cases h
theorem zfld_drop {e : zE} {nx : Nat} {L : List Value} {S : zS} {x a : Nat} {r : List Value} {q} (h : zfld e nx L (.ref x :: .ref a :: r) S = some q) {idx : Nat} (hi : e.2.1 = .putfield idx) (h5 : zfk e.2.2.2.2.1 = 5) : q.2.2.2.2 = S := by
  obtain ⟨pc, i, n, v, F, sw, vt⟩ := e
  unfold zfld at h
  simp only at hi h h5
  subst hi
  simp only at h
  split at h
  · rename_i h4 _; rw [h5] at h4; cases h4
  · rename_i h4 _; rw [h5] at h4; cases h4
  · have h2 := Option.some.inj h; subst h2; rfl
  · cases h
theorem zfld_cast {e : zE} {nx : Nat} {L st : List Value} {S : zS} {q} (h : zfld e nx L st S = some q) {idx : Nat} (hi : e.2.1 = .checkcast idx ∨ e.2.1 = .instanceof idx) : q.2.2.2.2 = S := by
  obtain ⟨a, r, rfl⟩ := zfld_ref h (Or.inr hi)
  obtain ⟨pc, i, n, v, F, sw, vt⟩ := e
  unfold zfld at h
  simp only at hi h
  rcases hi with rfl | rfl
  · simp only at h
    split at h <;> (have h2 := Option.some.inj h; rw [← h2])
  · simp only at h
    have h2 := Option.some.inj h
    rw [← h2]
section ZC
variable {p : Program} {l : Launch} {e0 : Env} {R : Room} {s : State} {m : MethodId} {args : Array Value} {below : List Frame} {meth : Method} {c : Code} {H H0 : Heap} {locs : List Loc} {Q : State → Prop} {cc : ByteArray} {ls : Array Slot} {nL : Nat} {b nE sE : Nat} {oa : Nat → Nat} {D : va_G} {dA : Nat → ClassId} {S : zS} {L st : List Value} {e : zE} {o : Nat}
theorem zcop_snd (hx : p.tables.exec = Jvm.exec) (hl0 : l.stackTraces = false) (hb : c.code = cc) (hd : decode cc e.1 = .ok (e.2.1, e.2.2.1)) (hk : zck o nL e = true) (hke : zchkE o meth.name e = true) (ho : o < 32) (hown : s.vm.findClass (zcn o) = some m.cls) (hts : ∀ w ∈ lw_all, w.before args s = true)
    (hC : zCtx b oa D dA H0 S s) (hI : zInv S) (hL : zvs S L) (hst : zvs S st) (hH : zHp b (zad b oa) D dA H0 S H) (hS : va_S (fun q => b ≤ q) s.heap H locs) (hml : c.maxLocals = nL) (hl : lv_has ls nL (zlv (zad b oa) L)) (hRf : 4 ≤ R.frames) (hRl : 60 ≤ R.locals)
    {q} (h : zcop e L st S = some q) (hc : ∀ c, q.1 = some c → c) (hn : nE ≤ gN S) (hz : sE ≤ gZ S) (hrn : gN q.2.2.2.2 ≤ nE + R.cells) (hrz : gZ q.2.2.2.2 ≤ sE + R.slots)
    (k : ∀ ls' H' locs', lv_has ls' nL (zlv (zad b oa) q.2.2.1) → zHp b (zad b oa) D dA H0 q.2.2.2.2 H' → va_S (fun q => b ≤ q) s.heap H' locs' → W p l e0 R s m args below meth c H' locs' (gN q.2.2.2.2 - nE) (gZ q.2.2.2.2 - sE) Q (F0 m q.2.1 ls' (q.2.2.2.1.map (zcv (zad b oa))))) :
    W p l e0 R s m args below meth c H locs (gN S - nE) (gZ S - sE) Q (F0 m e.1 ls (st.map (zcv (zad b oa)))) := by
  have hgood := zcop_inv hk hke h hc hI hL hst
  have hgN : gN S ≤ nE + R.cells := Nat.le_trans hgood.2.1.2.1 hrn
  have hgZ : gZ S ≤ sE + R.slots := Nat.le_trans hgood.2.1.2.2 hrz
  obtain ⟨hKx, hK, hBk, hNc, hstr, hgs, hLit, hU, hN, hinj⟩ := hC
  have hmls : c.maxLocals = ls.size := by rw [hml]; exact hl.1.symm
  have same : q.2.2.2.2 = S → ∀ ls', lv_has ls' nL (zlv (zad b oa) q.2.2.1) → W p l e0 R s m args below meth c H locs (gN S - nE) (gZ S - sE) Q (F0 m q.2.1 ls' (q.2.2.2.1.map (zcv (zad b oa)))) := by
    intro hq ls' h1
    have := k ls' H locs h1 (by rw [hq]; exact hH) hS
    rw [hq] at this
    exact this
  have kL : q.2.2.1 = L → ∀ H' locs', zHp b (zad b oa) D dA H0 q.2.2.2.2 H' → va_S (fun q => b ≤ q) s.heap H' locs' → W p l e0 R s m args below meth c H' locs' (gN q.2.2.2.2 - nE) (gZ q.2.2.2.2 - sE) Q (F0 m q.2.1 ls (q.2.2.2.1.map (zcv (zad b oa)))) := by
    intro hq H' locs' h1 h2
    exact k ls H' locs' (by rw [hq]; exact hl) h1 h2
  have sameL : q.2.2.2.2 = S → q.2.2.1 = L → W p l e0 R s m args below meth c H locs (gN S - nE) (gZ S - sE) Q (F0 m q.2.1 ls (q.2.2.2.1.map (zcv (zad b oa)))) := fun h1 h2 => same h1 ls (by rw [h2]; exact hl)
  have hTy9 : zTy S := hI.2.1
  have hst9 : ∀ v ∈ st, zvv S v := hst
  unfold zcop at h
  split at h
  all_goals first
    | (cases h; done)
    | with_reducible exact zld_snd hx hb hd hk h hl (same (zld_S h))
    | with_reducible exact zstr_snd hx hb hd hk h hl (same (zstr_S h))
    | with_reducible exact zint_snd hx hb hd hk h hc hl (same (zint_S h))
    | with_reducible exact zlng_snd hx hb hd hk h hl (same (zlng_S h))
    | with_reducible exact zstk_snd hx hb hd hk hown hts (hstr o ho) hgs hS h hl (same (zstk_S h))
    | with_reducible exact zarr_snd hx hb hd hk hown hts hKx hK hLit hTy9 hst9 hH hS h hc hn hz hrn hrz (kL (zarr_L h))
    | skip
  · rename_i idx hi
    obtain ⟨a, r, rfl⟩ := zfld_ref h (Or.inl hi)
    exact zgetf_snd hx hb hd hk hke hi rfl hown hts hKx hK hLit hst hH hS h hc (kL (zfld_L h))
  · rename_i idx hi
    rcases zfld_put h hi with ⟨x, a, r, rfl⟩ | ⟨x, a, r, rfl⟩ | ⟨a, r, rfl⟩
    · exact zputi_snd hx hb hd hk hke hi rfl hown hts hKx hK hst hH hS h hc (kL (zfld_L h))
    · by_cases h5 : zfk e.2.2.2.2.1 = 5
      · have hq := zfld_drop h hi h5
        refine zdrop_snd hx hb hd hk hke hi rfl h5 hown hts hK hI.2.1 hH hS h hc (fun H' locs' h1 h2 => ?_)
        have := kL (zfld_L h) H' locs' h1 h2
        rw [hq] at this
        exact this
      · exact zputr_snd (x := some x) hx hb hd hk hke hi rfl h5 hown hts hKx hK hst hH hS h hc (kL (zfld_L h))
    · refine zputr_snd (x := none) hx hb hd hk hke hi rfl ?_ hown hts hKx hK hst hH hS h hc (kL (zfld_L h))
      intro h5
      obtain ⟨pc, i, n, v, F, sw, vt⟩ := e
      unfold zfld at h
      simp only at hi h h5
      subst hi
      simp only at h
      split at h
      · rename_i h4 _; rw [h5] at h4; cases h4
      · cases h
  · rename_i idx hi
    exact znew_snd hx hb hd hk hi hown hts hK hBk hH hS h hc hn hz hrn hrz (kL (zfld_L h))
  · rename_i idx hi
    obtain ⟨a, r, rfl⟩ := zfld_ref h (Or.inr (Or.inl hi))
    exact zcast_snd hx hb hd hk hi rfl hown hts hK hLit hI.2.1 hst hH h hc (sameL (zfld_cast h (Or.inl hi)) (zfld_L h))
  · rename_i idx hi
    obtain ⟨a, r, rfl⟩ := zfld_ref h (Or.inr (Or.inr hi))
    exact zinst_snd hx hb hd hk hi rfl hown hts hNc hK hLit hI.2.1 hst hH h hc (sameL (zfld_cast h (Or.inr hi)) (zfld_L h))
  · rename_i idx hi
    obtain ⟨x, r, t, hvt, ⟨rfl, hq⟩ | hr⟩ := zfld_sp h hi
    · exact zprim_snd hx hb hmls hd hk hke (Or.inl hi) hvt (Or.inl rfl) hown hts ho (by omega) (by omega) (by omega) (by omega) h (sameL hq (zfld_L h))
    · exact zexc_snd hx hl0 hb hd hk hke hi hvt hr ho hown hts hKx hK hBk hU hN hH hS hmls hRf hRl hgN hgZ h hc (kL (zfld_L h))
  · rename_i idx hi
    obtain ⟨x, r, t, hvt, ⟨hr, hq⟩ | ⟨rfl, hqN, hqZ⟩⟩ := zfld_sc h hi
    · exact zprim_snd hx hb hmls hd hk hke (Or.inr hi) hvt hr hown hts ho (by omega) (by omega) (by omega) (by omega) h (sameL hq (zfld_L h))
    · refine zcopy_snd hx hb hmls hd hk hke hi hvt hown hts ho (by omega) (by omega) hK hLit hI.2.1 hI.2.2.1 hst hH hS h hc (fun H' locs' h1 h2 => ?_)
      have := kL (zfld_L h) H' locs' h1 h2
      rw [hqN, hqZ] at this
      exact this
  · rename_i idx dm hi
    exact zmul_snd hx hb hd hk hke hi hown hts hKx hK hH hS h hc hn hz hrn hrz (kL (zmul_L h))
  · rename_i off hi
    refine zacm_snd hx hb hd hk hi h hc (fun i j mi mj ti tj hij => ?_) hl (same (zacm_S h))
    have lit : ∀ i, zLB ≤ i → ztyp S i = 22 → zad b oa i < b := by
      intro i hi ti
      rcases hLit i hi with ⟨h1, -⟩ | ⟨h1, -⟩ | ⟨-, h2, -⟩ | h1
      · omega
      · omega
      · exact h2
      · omega
    have new : ∀ i, i < gN S → zad b oa i = b + i := fun i h1 => zad_lt (Nat.lt_trans h1 hI.2.2.2.2)
    rcases hst _ mi with h1 | h1 <;> rcases hst _ mj with h2 | h2
    · rw [new i h1, new j h2] at hij; omega
    · have := lit j h2 tj; rw [new i h1] at hij; omega
    · have := lit i h1 ti; rw [new j h2] at hij; omega
    · exact hinj i j h1 h2 ti tj hij
  · rename_i idx hi
    exact zcln_snd hx hb hmls hd hk hke hi hown hts hKx ho (by omega) (by omega) hK hLit hI.2.1 hI.2.2.1 hst hH hS h hc hn hz hrn hrz (kL (zcln_L h))
end ZC
