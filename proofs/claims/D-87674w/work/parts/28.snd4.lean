/-! ===== fields ===== -/
theorem zhas_at {c F : Nat} (h : zhas c F = true) : c < 24 ∧ ∃ j : Nat, (zfl c)[j]? = some F := by
  simp only [zhas, Bool.and_eq_true, decide_eq_true_eq, List.contains_iff_mem] at h
  exact ⟨h.1, List.getElem?_of_mem h.2⟩
theorem zrow_at {c F j : Nat} (hc : c < 24) (hj : (zfl c)[j]? = some F) : ∃ r : vw_C, zcls[c]? = some r ∧ r.1 = zcn c ∧ r.2.2 = (zfl c).length ∧ j < r.2.2 ∧ ((r.2.1 j).1, (r.2.1 j).2.1, (r.2.1 j).2.2.1) = zfd F ∧ (r.2.1 j).2.2.2 = zff F := by
  have h := zcons_ok c hc
  unfold zcons at h
  split at h
  · rename_i r hr
    have hlt : j < (zfl c).length := (List.getElem?_eq_some_iff.mp hj).1
    have hne : (zfl c).isEmpty = false := by
      cases hl : zfl c with
      | nil => rw [hl] at hlt; cases hlt
      | cons x t => rfl
    rw [hne] at h
    simp only [Bool.false_or, Bool.and_eq_true, beq_iff_eq, decide_eq_true_eq, List.all_eq_true, List.mem_range] at h
    obtain ⟨⟨h1, h2⟩, h3⟩ := h
    have h4 := h3 j (by omega)
    have hg : (zfl c).getD j 0 = F := by rw [List.getD_eq_getElem?_getD, hj]; rfl
    rw [hg] at h4
    exact ⟨r, hr, h2, h1, by omega, h4.1, h4.2⟩
  · cases h
theorem zuniq {c F i j : Nat} (hc : c < 24) (hi : (zfl c)[i]? = some F) (hj : (zfl c)[j]? = some F) : i = j := by
  have h := znd_ok c hc
  simp only [zndB, List.all_eq_true, List.mem_range, Bool.or_eq_true, beq_iff_eq, bne_iff_ne] at h
  have li := (List.getElem?_eq_some_iff.mp hi).1
  have lj := (List.getElem?_eq_some_iff.mp hj).1
  rcases h i li j lj with h | h
  · exact h
  · refine absurd ?_ h
    rw [List.getD_eq_getElem?_getD, List.getD_eq_getElem?_getD, hi, hj]
theorem zset_map {c F j : Nat} (hc : c < 24) (hj : (zfl c)[j]? = some F) (V V' : Nat → Value) (hV : ∀ g, g ≠ F → V' g = V g) : (zfl c).map V' = ((zfl c).map V).set j (V' F) := by
  apply List.ext_getElem?
  intro i
  rw [List.getElem?_map, List.getElem?_set, List.getElem?_map]
  have hlt := (List.getElem?_eq_some_iff.mp hj).1
  by_cases e : j = i
  · subst e
    rw [if_pos rfl, if_pos (by simpa using hlt), hj]
    rfl
  · rw [if_neg e]
    cases hi : (zfl c)[i]? with
    | none => rfl
    | some G =>
      have : G ≠ F := fun eG => e (zuniq hc hj (eG ▸ hi))
      simp [hV G this]
theorem zkd_i {F : Nat} (hF : F < 207) (h : zfk F = 0 ∨ zfk F = 6 ∨ zfk F = 8) : parseFieldDescriptor (zfd F).2.2 = some .int := by
  have k := zkd_ok F hF
  unfold zkd at k
  split at k <;> first | assumption | (simp at k; omega) | (simp at k)
theorem zkd_z {F : Nat} (hF : F < 207) (h : zfk F = 1 ∨ zfk F = 7) : parseFieldDescriptor (zfd F).2.2 = some .boolean := by
  have k := zkd_ok F hF
  unfold zkd at k
  split at k <;> first | assumption | (simp at k; omega) | (simp at k)
theorem zkd_b {F : Nat} (hF : F < 207) (h : zfk F = 2) : parseFieldDescriptor (zfd F).2.2 = some .byte := by
  have k := zkd_ok F hF
  unfold zkd at k
  split at k <;> first | assumption | (simp at k; omega) | (simp at k)
theorem zkd_c {F : Nat} (hF : F < 207) (h : zfk F = 3) : parseFieldDescriptor (zfd F).2.2 = some .char := by
  have k := zkd_ok F hF
  unfold zkd at k
  split at k <;> first | assumption | (simp at k; omega) | (simp at k)
theorem zkd_r {F : Nat} (hF : F < 207) (h : zfk F = 4 ∨ zfk F = 5) : ∃ ty, parseFieldDescriptor (zfd F).2.2 = some ty ∧ defaultValue ty = .null ∧ ∀ r, narrow ty (va_rf r) = va_rf r ∧ fits ty (va_rf r) = true := by
  have k := zkd_ok F hF
  unfold zkd at k
  split at k
  · simp at k; omega
  · simp at k; omega
  · simp at k; omega
  · simp at k; omega
  · rename_i C hC
    exact ⟨_, hC, rfl, fun r => by cases r <;> exact ⟨rfl, rfl⟩⟩
  · rename_i C hC
    exact ⟨_, hC, rfl, fun r => by cases r <;> exact ⟨rfl, rfl⟩⟩
  · simp at k
theorem zhas8 {F : Nat} (h : zhas 8 F = true) : zfk F = 8 := by
  obtain ⟨-, j, hj⟩ := zhas_at h
  have : ∀ f ∈ zfl 8, zfk f = 8 := by decide
  exact this F (List.mem_of_getElem? hj)
/-- the slot of the trace -/
def zBk (D : va_G) (s : State) : Prop := ∃ cf kf fi f, s.fieldFound? "java/lang/Throwable" "backtrace" "Ljava/lang/Object;" = some (cf, kf, fi, f) ∧ f.slot = D.2 8 2
section Z4
variable {p : Program} {l : Launch} {e0 : Env} {R : Room} {s : State} {m : MethodId} {args : Array Value} {below : List Frame} {meth : Method} {c : Code} {H H0 : Heap} {locs : List Loc} {cells slots : Nat} {Q : State → Prop} {cc : ByteArray} {ls : Array Slot} {nL : Nat} {b nE sE : Nat} {oa : Nat → Nat} {D : va_G} {dA : Nat → ClassId} {S S' : zS} {L st : List Value} {e : zE} {o pc idx F j c0 : Nat} {rest : List Value} {v : Value}
theorem zget_any (hx : p.tables.exec = Jvm.exec) (hb : c.code = cc) (hown : s.vm.findClass (zcn o) = some m.cls) (hts : ∀ w ∈ lw_all, w.before args s = true) (hKx : zKx s) (hK : va_K D zcls (ztys dA) s) (ho : o < 32) (hF : (idx, F, 0) ∈ zFL o ∨ (idx, F, 1) ∈ zFL o) (hc : c0 < 24) (hj : (zfl c0)[j]? = some F) {a : Nat} {cell : Cell}
    (hcell : H[a]? = some cell) (hkn : cell.vm ≠ .unknown) (hsl : cell.slots[D.2 c0 j]? = some v) (hd : decode cc pc = .ok (.getfield idx, 3)) (kk : W p l e0 R s m args below meth c H locs cells slots Q (F0 m (pc + 3) ls (v :: rest))) : W p l e0 R s m args below meth c H locs cells slots Q (F0 m pc ls (.ref a :: rest)) := by
  obtain ⟨r, hr, hr1, hrl, hjl, hT, hfn⟩ := zrow_at hc hj
  have hz := zcl_ok r (List.mem_of_getElem? hr)
  obtain ⟨hSl, hfc, kC, hkC, hkind⟩ := hK.1 c0 r hr
  obtain ⟨cf, kf, fi, f, hi, hsl2⟩ := hSl j hjl
  have hst := (u_facts hfc hkC (u_lays hts hz.1 hjl) hi).1
  have hi2 : s.fieldFound? (zfd F).1 (zfd F).2.1 (zfd F).2.2 = some (cf, kf, fi, f) := by rw [← hT]; exact hi
  rcases hF with hF | hF
  · have hl := zFL_ok o ho _ hF
    unfold zFF at hl
    rw [if_pos rfl] at hl
    exact W.getf hx hb hown (hts _ hl) hi2 hst hcell hkn (by rw [hsl2]; exact hsl) rfl rfl hd kk
  · have hl := zFL_ok o ho _ hF
    unfold zFF at hl
    rw [if_neg (by simp)] at hl
    exact va_Wgetf hx hb hown (va_Nw.use (A := args) rfl (hKx _ hl rfl)) hi2 hst hcell hkn (by rw [hsl2]; exact hsl) rfl rfl hd kk
theorem zput_any (hx : p.tables.exec = Jvm.exec) (hb : c.code = cc) (hown : s.vm.findClass (zcn o) = some m.cls) (hts : ∀ w ∈ lw_all, w.before args s = true) (hKx : zKx s) (hK : va_K D zcls (ztys dA) s) (ho : o < 32) (hF : (idx, F, 0) ∈ zFL o ∨ (idx, F, 1) ∈ zFL o) (hmn : zff F = true → meth.name = "<init>" ∧ (zfd F).1 = zcn o ∧ (idx, F, 0) ∈ zFL o)
    {a : Nat} (ha : a < gN S) (ht : ztyp S a = c0) (hc : c0 < 24) (hj : (zfl c0)[j]? = some F) (hty : ∃ ty, parseFieldDescriptor (zfd F).2.2 = some ty ∧ narrow ty v = v ∧ fits ty v = true) (hN : gN S' = gN S) (hGT : gT S' = gT S) (h8 : c0 = 8 → zlen S a ≠ 0) (hT' : ztyp S' a = c0) (hso : ∀ k, k < gN S → k ≠ a → zSame S S' k) (hV : ∀ g, g ≠ F → zfv (zad b oa) S' a g = zfv (zad b oa) S a g) (hv : zfv (zad b oa) S' a F = v)
    (hH : zHp b (zad b oa) D dA H0 S H) (hS : va_S (fun q => b ≤ q) s.heap H locs) (hd : decode cc pc = .ok (.putfield idx, 3)) (k : ∀ H' locs', zHp b (zad b oa) D dA H0 S' H' → va_S (fun q => b ≤ q) s.heap H' locs' → W p l e0 R s m args below meth c H' locs' cells slots Q (F0 m (pc + 3) ls rest)) :
    W p l e0 R s m args below meth c H locs cells slots Q (F0 m pc ls (v :: .ref (b + a) :: rest)) := by
  obtain ⟨r, hr, hr1, hrl, hjl, hT, hfn⟩ := zrow_at hc hj
  have hz := zcl_ok r (List.mem_of_getElem? hr)
  obtain ⟨tyf, htyf⟩ := hz.2.2
  have hap := va_apart (own := zcn o) (C := r.1) (T := r.2.1) (N := r.2.2) hts hz.1 tyf htyf hz.2.1 hK hr
  have hat := zcell_of hH ha
  rw [zE1_o ht (by omega)] at hat
  obtain ⟨r', h1, cell, q1, q2, q3, q4⟩ := hat
  cases hr.symm.trans h1
  obtain ⟨hSl, hfc, kC, hkC, hkind⟩ := hK.1 c0 r hr
  obtain ⟨cf, kf, fi, f, hi, hsl⟩ := hSl j hjl
  have hst := (u_facts hfc hkC (u_lays hts hz.1 hjl) hi).1
  obtain ⟨ty, hd1, hn1, hf1⟩ := hty
  have hd2 : parseFieldDescriptor (r.2.1 j).2.2.1 = some ty := by
    have e : (r.2.1 j).2.2.1 = (zfd F).2.2 := congrArg (fun t => t.2.2) hT
    rw [e]; exact hd1
  have hi2 : s.fieldFound? (zfd F).1 (zfd F).2.1 (zfd F).2.2 = some (cf, kf, fi, f) := by rw [← hT]; exact hi
  have fin : ∀ H' : Heap, H'[b + a]? = some (cell.setSlot f.slot v) → H'.size = H.size → (∀ q, q ≠ b + a → H'[q]? = H[q]?) → W p l e0 R s m args below meth c H' (locs ++ [⟨b + a, f.slot⟩]) cells slots Q (F0 m (pc + 3) ls rest) := by
    intro H' e1 e2 e3
    refine k H' _ (hH.upd hN hGT (fun j hj hne => zE1_same (hso j hj hne)) ?_ (fun _ => ⟨_, _, q1, e1, by simp [Cell.setSlot]⟩) (fun h => h8 (by rw [← ht]; exact h)) e2 e3) (hS.put e2 e3 (Nat.le_add_right _ _))
    rw [zE1_o hT' (by omega), zset_map hc hj (zfv (zad b oa) S a) (zfv (zad b oa) S' a) hV, hv]
    rw [hsl] at e1
    exact ⟨r, hr, t_OB.to (V := updV (vp_V ((zfl c0).map (zfv (zad b oa) S a))) j v) ⟨_, e1, q2, q3, t_set q4 hap hjl v⟩ (fun i _ => vp_updV_set (by rw [List.length_map, ← hrl]; exact hjl) v i)⟩
  have hlay := hts _ (hz.1 _ (u_in_lay hjl))
  unfold u_lay at hlay
  cases hff : zff F with
  | true =>
    obtain ⟨hm1, hm2, hm3⟩ := hmn hff
    rw [if_pos (by rw [hfn]; exact hff)] at hlay
    have hdecl : (r.2.1 j).1 = zcn o := (congrArg (fun t => t.1) hT).trans hm2
    have hcf : m.cls = cf := by
      obtain ⟨_, _, c', _, _, _, -, -, hf', -, -, -, hown2, -⟩ := Cond.laysFinal_spec hlay
      have e1 : c' = cf := by have := hi.symm.trans hf'; simp at this; exact this.1.symm
      rw [hdecl] at hown2
      rw [← e1]; exact Option.some.inj (hown.symm.trans hown2)
    have h6 := u_fits hfc hkC hkind (Or.inr hlay) hi hd2 hn1 hf1
    have hl := zFL_ok o ho _ hm3
    unfold zFF at hl
    rw [if_pos rfl] at hl
    exact W.putFinK hx hb hown (hts _ hl) hi2 hst hcf hm1 (by rw [q2]; exact h6) q1 q3 (by rw [hsl]; exact k2_hasslot (q4 j hjl)) rfl rfl hd fin
  | false =>
    rw [if_neg (by rw [hfn, hff]; decide)] at hlay
    have h6 := u_store hfc hkC hkind hlay hi hd2 hn1 hf1
    rcases hF with hF | hF
    · have hl := zFL_ok o ho _ hF
      unfold zFF at hl
      rw [if_pos rfl] at hl
      exact W.putK hx hb (f := f) ⟨hown, hts _ hl, ⟨_, _, _, hi2⟩, hst⟩ (by rw [q2]; exact h6) q1 q3 (by rw [hsl]; exact k2_hasslot (q4 j hjl)) rfl rfl hd fin
    · have hl := zFL_ok o ho _ hF
      unfold zFF at hl
      rw [if_neg (by simp)] at hl
      exact va_WputK hx hb (f := f) hown (va_Nw.use (A := args) rfl (hKx _ hl rfl)) hi2 hst (by rw [q2]; exact h6) q1 q3 (by rw [hsl]; exact k2_hasslot (q4 j hjl)) rfl rfl hd fin
/-- a field of an object, wherever it lies -/
theorem zget_at (hx : p.tables.exec = Jvm.exec) (hb : c.code = cc) (hown : s.vm.findClass (zcn o) = some m.cls) (hts : ∀ w ∈ lw_all, w.before args s = true) (hKx : zKx s) (hK : va_K D zcls (ztys dA) s) (ho : o < 32) (hF : (idx, F, 0) ∈ zFL o ∨ (idx, F, 1) ∈ zFL o) {a : Nat} (hva : zvr S a) (hh : zhas (ztyp S a) F = true) (h67 : zLB ≤ a → zfk F ≠ 6 ∧ zfk F ≠ 7)
    (hLit : zLit b (zad b oa) D H0 S s) (hH : zHp b (zad b oa) D dA H0 S H) (hd : decode cc pc = .ok (.getfield idx, 3)) (kk : W p l e0 R s m args below meth c H locs cells slots Q (F0 m (pc + 3) ls (zfv (zad b oa) S a F :: rest))) : W p l e0 R s m args below meth c H locs cells slots Q (F0 m pc ls (.ref (zad b oa a) :: rest)) := by
  obtain ⟨hc, j, hj⟩ := zhas_at hh
  rcases hva with hva | hva
  · rw [zad_lt (Nat.lt_trans hva hH.2.1)]
    have hat := zcell_of hH hva
    rw [zE1_o rfl (by omega)] at hat
    obtain ⟨r, hr, cell, q1, q2, q3, q4⟩ := hat
    obtain ⟨r', hr', -, -, hjl, -⟩ := zrow_at hc hj
    cases hr.symm.trans hr'
    refine zget_any hx hb hown hts hKx hK ho hF hc hj q1 (by rw [q3]; exact fun h => by cases h) ?_ hd kk
    rw [q4 j hjl]
    simp [vp_V, List.getElem?_map, hj]
  · rcases hLit a hva with ⟨h1, -⟩ | ⟨h1, -⟩ | ⟨h1, h2, cell, g1, g2, g3, g4, g5, g6⟩ | h1
    · rw [h1] at hc; omega
    · rw [h1] at hc; omega
    · have hj' : (zfl 22)[j]? = some F := by rw [← h1]; exact hj
      have e22 : zfl 22 = [199, 200, 201, 202] := rfl
      rw [e22] at hj'
      have hcell : H[zad b oa a]? = some cell := by rw [hH.2.2.2.1 _ h2]; exact g1
      match j, hj', hj with
      | 0, hj', hj => cases hj'; exact zget_any hx hb hown hts hKx hK ho hF hc hj hcell g3 (by rw [h1]; exact g5) hd kk
      | 1, hj', hj => cases hj'; exact zget_any hx hb hown hts hKx hK ho hF hc hj hcell g3 (by rw [h1]; exact g6) hd kk
      | 2, hj', hj => cases hj'; exact absurd rfl (h67 hva).1
      | 3, hj', hj => cases hj'; exact absurd rfl (h67 hva).2
    · rw [h1] at hc; omega
end Z4
