/-! ===== instructions on objects ===== -/
theorem zfv_cv {ad : Nat → Nat} {S : zS} {F a : Nat} : zcv ad (match zfk F with | 4 => zrf (gP S F a) | _ => .int (gI S F a)) = zfv ad S a F := by
  unfold zfv
  split
  · rename_i h4; simp only [h4]; cases gP S F a <;> rfl
  · rename_i h4
    split
    · exact absurd (by assumption) h4
    · rfl
theorem zfv_sI {ad : Nat → Nat} {S : zS} {F a g : Nat} {x : Int32} (hg : g ≠ F) : zfv ad (sI S F a x) a g = zfv ad S a g := by
  unfold zfv
  have e : gI (sI S F a x) g a = gI S g a := zu_ne1 hg
  rw [e]
  rfl
theorem zfv_sP {ad : Nat → Nat} {S : zS} {F a g : Nat} {x : Option Nat} (hg : g ≠ F) : zfv ad (sP S F a x) a g = zfv ad S a g := by
  unfold zfv
  have e : gP (sP S F a x) g a = gP S g a := zu_ne1 hg
  rw [e]
  rfl
theorem zfv_sI_at {ad : Nat → Nat} {S : zS} {F a : Nat} {x : Int32} (h4 : zfk F ≠ 4) : zfv ad (sI S F a x) a F = .int x := by
  unfold zfv
  have e : gI (sI S F a x) F a = x := zu_eq
  split
  · exact absurd (by assumption) h4
  · rw [e]
theorem zfv_sP_at {ad : Nat → Nat} {S : zS} {F a : Nat} {x : Option Nat} (h4 : zfk F = 4) : zfv ad (sP S F a x) a F = va_rf (x.map ad) := by
  unfold zfv
  have e : gP (sP S F a x) F a = x := zu_eq
  simp only [h4, e]
theorem zown_t {vt : List (Nat × Nat)} {a : Nat} (h : zown vt a = some true) : ∃ q t, vt = (a, q) :: t := by
  unfold zown at h
  split at h
  · cases h
  · rename_i i q t
    have := Nat.eq_of_beq_eq_true (Option.some.inj h)
    subst this
    exact ⟨_, _, rfl⟩
theorem zc1_typ {S : zS} {a : Nat} (h : a < zD0) : ztyp S a = zc1 a := if_pos h
theorem znar_z {x : Int32} (h : x = 0 ∨ x = 1) : narrow .boolean (.int x) = .int x ∧ fits .boolean (.int x) = true := by
  rcases h with rfl | rfl <;> exact ⟨by decide, by decide⟩
theorem znar_b {x : Int32} (h : x.toInt8.toInt32 = x) : narrow .byte (.int x) = .int x ∧ fits .byte (.int x) = true := by
  refine ⟨congrArg Value.int h, ?_⟩
  have e : x.toInt = x.toInt8.toInt := by
    have := congrArg Int32.toInt h
    rw [Int8.toInt_toInt32] at this
    exact this.symm
  have h1 := Int8.le_toInt x.toInt8
  have h2 := Int8.toInt_lt x.toInt8
  show (decide (-128 ≤ x) && decide (x ≤ 127)) = true
  rw [Bool.and_eq_true, decide_eq_true_eq, decide_eq_true_eq, Int32.le_iff_toInt_le, Int32.le_iff_toInt_le, e]
  have e1 : (-128 : Int32).toInt = -128 := by decide
  have e2 : (127 : Int32).toInt = 127 := by decide
  rw [e1, e2]
  omega
theorem znar_c {x : Int32} (h : (x.toUInt32 % 65536).toInt32 = x) : narrow .char (.int x) = .int x ∧ fits .char (.int x) = true := by
  have hu : (x.toUInt32 % 65536).toNat < 65536 := by
    rw [UInt32.toNat_mod]
    exact Nat.mod_lt _ (by decide)
  have e : x.toInt = ((x.toUInt32 % 65536).toNat : Int) := by
    have h1 : x.toInt = (x.toUInt32 % 65536).toInt32.toInt := by rw [h]
    rw [h1]
    show (x.toUInt32 % 65536).toBitVec.toInt = _
    rw [BitVec.toInt_eq_toNat_of_lt (by show 2 * (x.toUInt32 % 65536).toNat < 2 ^ 32; omega)]
    rfl
  refine ⟨?_, ?_⟩
  · show Value.int x.toUInt32.toUInt16.toUInt32.toInt32 = Value.int x
    rw [UInt32.toUInt32_toUInt16, h]
  · show (decide (0 ≤ x) && decide (x ≤ 65535)) = true
    rw [Bool.and_eq_true, decide_eq_true_eq, decide_eq_true_eq, Int32.le_iff_toInt_le, Int32.le_iff_toInt_le, e]
    have e1 : (0 : Int32).toInt = 0 := by decide
    have e2 : (65535 : Int32).toInt = 65535 := by decide
    rw [e1, e2]
    omega
section Z5
variable {p : Program} {l : Launch} {e0 : Env} {R : Room} {s : State} {m : MethodId} {args : Array Value} {below : List Frame} {meth : Method} {c : Code} {H H0 : Heap} {locs : List Loc} {Q : State → Prop} {cc : ByteArray} {ls : Array Slot} {nL : Nat} {b nE sE : Nat} {oa : Nat → Nat} {D : va_G} {dA : Nat → ClassId} {S : zS} {L st : List Value} {e : zE} {o idx : Nat}
theorem zgetf_snd (hx : p.tables.exec = Jvm.exec) (hb : c.code = cc) (hd : decode cc e.1 = .ok (e.2.1, e.2.2.1)) (hk : zck o nL e = true) {nm : String} (hke : zchkE o nm e = true) (hi : e.2.1 = .getfield idx) {a : Nat} {r : List Value} (hst : st = .ref a :: r) (hown : s.vm.findClass (zcn o) = some m.cls) (hts : ∀ w ∈ lw_all, w.before args s = true) (hKx : zKx s)
    (hK : va_K D zcls (ztys dA) s) (hLit : zLit b (zad b oa) D H0 S s) (hstv : ∀ v ∈ st, zvv S v) (hH : zHp b (zad b oa) D dA H0 S H) (hS : va_S (fun q => b ≤ q) s.heap H locs)
    {q} (h : zfld e (e.1 + e.2.2.1) L st S = some q) (hc : ∀ c, q.1 = some c → c)
    (k : ∀ H' locs', zHp b (zad b oa) D dA H0 q.2.2.2.2 H' → va_S (fun q => b ≤ q) s.heap H' locs' → W p l e0 R s m args below meth c H' locs' (gN q.2.2.2.2 - nE) (gZ q.2.2.2.2 - sE) Q (F0 m q.2.1 ls (q.2.2.2.1.map (zcv (zad b oa))))) :
    W p l e0 R s m args below meth c H locs (gN S - nE) (gZ S - sE) Q (F0 m e.1 ls (st.map (zcv (zad b oa)))) := by
  subst hst
  obtain ⟨pc, i, n, v, F, sw, vt⟩ := e
  simp only at hi
  subst hi
  simp only [zck, zckF, Bool.and_eq_true, beq_iff_eq, decide_eq_true_eq, Bool.or_eq_true, List.contains_iff_mem] at hk
  obtain ⟨rfl, ⟨⟨hF, ho⟩, hF2⟩, -⟩ := hk
  unfold zfld at h
  simp only at h hd
  have hva : zvr S a := hstv (.ref a) (by simp)
  split at h
  · rename_i hw
    obtain ⟨q0, t0, rfl⟩ := zown_t hw
    simp only [zchkE, Bool.and_eq_true, decide_eq_true_eq] at hke
    have h2 := Option.some.inj h; subst h2
    have kk := k H locs hH hS
    refine zget_at hx hb hown hts hKx hK ho hF hva (by rw [zc1_typ hke.1]; exact hke.2) (fun hh => by have := zD0_LB; omega) hLit hH hd ?_
    rw [← zfv_cv]
    exact kk
  · cases h
  · split at h
    · rename_i h6
      have h2 := Option.some.inj h; subst h2
      obtain ⟨g1, g2⟩ := hc _ rfl
      have kk := k H locs hH hS
      have ev : zfv (zad b oa) S a F = .int (gI S F a) := by unfold zfv; simp only [h6]
      refine zget_at hx hb hown hts hKx hK ho hF hva g1 (fun hh => absurd (Nat.lt_trans g2 hH.2.1) (Nat.not_lt.mpr hh)) hLit hH hd ?_
      rw [ev]
      exact kk
    · rename_i h6
      have h2 := Option.some.inj h; subst h2
      obtain ⟨g1, g2⟩ := hc _ rfl
      have kk := k H locs hH hS
      have ev : zfv (zad b oa) S a F = .int (gI S F a) := by unfold zfv; simp only [h6]
      refine zget_at hx hb hown hts hKx hK ho hF hva g1 (fun hh => absurd (Nat.lt_trans g2 hH.2.1) (Nat.not_lt.mpr hh)) hLit hH hd ?_
      rw [ev]
      exact kk
    · rename_i n6 n7
      have h2 := Option.some.inj h; subst h2
      have g1 := hc _ rfl
      have kk := k H locs hH hS
      refine zget_at hx hb hown hts hKx hK ho hF hva g1 (fun _ => ⟨n6, n7⟩) hLit hH hd ?_
      rw [← zfv_cv]
      exact kk
theorem zputi_snd (hx : p.tables.exec = Jvm.exec) (hb : c.code = cc) (hd : decode cc e.1 = .ok (e.2.1, e.2.2.1)) (hk : zck o nL e = true) (hke : zchkE o meth.name e = true) (hi : e.2.1 = .putfield idx) {x : Int32} {a : Nat} {r : List Value} (hst : st = .int x :: .ref a :: r) (hown : s.vm.findClass (zcn o) = some m.cls) (hts : ∀ w ∈ lw_all, w.before args s = true) (hKx : zKx s)
    (hK : va_K D zcls (ztys dA) s) (hstv : ∀ v ∈ st, zvv S v) (hH : zHp b (zad b oa) D dA H0 S H) (hS : va_S (fun q => b ≤ q) s.heap H locs)
    {q} (h : zfld e (e.1 + e.2.2.1) L st S = some q) (hc : ∀ c, q.1 = some c → c)
    (k : ∀ H' locs', zHp b (zad b oa) D dA H0 q.2.2.2.2 H' → va_S (fun q => b ≤ q) s.heap H' locs' → W p l e0 R s m args below meth c H' locs' (gN q.2.2.2.2 - nE) (gZ q.2.2.2.2 - sE) Q (F0 m q.2.1 ls (q.2.2.2.1.map (zcv (zad b oa))))) :
    W p l e0 R s m args below meth c H locs (gN S - nE) (gZ S - sE) Q (F0 m e.1 ls (st.map (zcv (zad b oa)))) := by
  subst hst
  obtain ⟨pc, i, n, v, F, sw, vt⟩ := e
  simp only at hi
  subst hi
  simp only [zck, zckF, Bool.and_eq_true, beq_iff_eq, decide_eq_true_eq, Bool.or_eq_true, List.contains_iff_mem] at hk
  obtain ⟨rfl, ⟨⟨hF, ho⟩, hF2⟩, -⟩ := hk
  have hva : zvr S a := hstv (.ref a) (by simp)
  have hmn : zff F = true → meth.name = "<init>" ∧ (zfd F).1 = zcn o ∧ (idx, F, 0) ∈ zFL o := by
    intro hf
    simp only [zchkE, hf, Bool.and_eq_true, Bool.or_eq_true, decide_eq_true_eq, List.contains_iff_mem] at hke
    have h1 := hke.1
    simp at h1
    exact ⟨h1.1.1, h1.1.2, h1.2⟩
  have hvt : ∀ id q0 t0, vt = (id, q0) :: t0 → id < zD0 ∧ zhas (zc1 id) F = true := by
    intro id q0 t0 hv
    simp only [zchkE, hv, Bool.and_eq_true, decide_eq_true_eq] at hke
    exact hke.2
  have main : (zfk F = 8 → zlen S a ≠ 0) → zfk F ≠ 4 → a < gN S → zhas (ztyp S a) F = true → (∃ ty, parseFieldDescriptor (zfd F).2.2 = some ty ∧ narrow ty (.int x) = .int x ∧ fits ty (.int x) = true) → q = (q.1, pc + 3, L, r, sI S F a x) → W p l e0 R s m args below meth c H locs (gN S - nE) (gZ S - sE) Q (F0 m pc ls ((.int x :: .ref a :: r).map (zcv (zad b oa)))) := by
    intro h8 h4 ha hh hty hq
    rw [hq] at k
    obtain ⟨hc0, j, hj⟩ := zhas_at hh
    show W p l e0 R s m args below meth c H locs _ _ Q (F0 m pc ls (.int x :: .ref (zad b oa a) :: r.map (zcv (zad b oa))))
    rw [zad_lt (Nat.lt_trans ha hH.2.1)]
    exact zput_any (S' := sI S F a x) hx hb hown hts hKx hK ho hF hmn ha rfl hc0 hj hty rfl rfl (fun e => h8 (zhas8 (e ▸ hh))) rfl (fun k _ hne => zSame.sI hne) (fun g hg => zfv_sI hg) (zfv_sI_at h4) hH hS hd k
  unfold zfld at h
  simp only at h hd
  split at h
  · rename_i hw
    obtain ⟨q0, t0, rfl⟩ := zown_t hw
    obtain ⟨g1, g2⟩ := hvt _ _ _ rfl
    have ha : a < gN S := by
      rcases hva with h | h
      · exact h
      · have := zD0_LB; omega
    have hh : zhas (ztyp S a) F = true := by rw [zc1_typ g1]; exact g2
    split at h
    · rename_i h0
      have h2 := Option.some.inj h; subst h2
      exact main (by rw [h0]; exact fun h => absurd h (by decide)) (by rw [h0]; decide) ha hh ⟨_, zkd_i hF2 (Or.inl h0), rfl, rfl⟩ rfl
    · rename_i h0
      have h2 := Option.some.inj h; subst h2
      exact main (by rw [h0]; exact fun h => absurd h (by decide)) (by rw [h0]; decide) ha hh ⟨_, zkd_z hF2 (Or.inl h0), znar_z (hc _ rfl)⟩ rfl
    · cases h
  · cases h
  · split at h
    · rename_i h0
      have h2 := Option.some.inj h; subst h2
      obtain ⟨g1, g2⟩ := hc _ rfl
      exact main (by rw [h0]; exact fun h => absurd h (by decide)) (by rw [h0]; decide) g2 g1 ⟨_, zkd_i hF2 (Or.inl h0), rfl, rfl⟩ rfl
    · rename_i h0
      have h2 := Option.some.inj h; subst h2
      obtain ⟨⟨g1, g2⟩, g3⟩ := hc _ rfl
      exact main (by rw [h0]; exact fun h => absurd h (by decide)) (by rw [h0]; decide) g2 g1 ⟨_, zkd_z hF2 (Or.inl h0), znar_z g3⟩ rfl
    · rename_i h0
      have h2 := Option.some.inj h; subst h2
      obtain ⟨⟨g1, g2⟩, g3⟩ := hc _ rfl
      exact main (by rw [h0]; exact fun h => absurd h (by decide)) (by rw [h0]; decide) g2 g1 ⟨_, zkd_b hF2 h0, znar_b g3⟩ rfl
    · rename_i h0
      have h2 := Option.some.inj h; subst h2
      obtain ⟨⟨g1, g2⟩, g3⟩ := hc _ rfl
      exact main (by rw [h0]; exact fun h => absurd h (by decide)) (by rw [h0]; decide) g2 g1 ⟨_, zkd_c hF2 h0, znar_c g3⟩ rfl
    · rename_i h0
      have h2 := Option.some.inj h; subst h2
      obtain ⟨g1, g2⟩ := hc _ rfl
      exact main (by rw [h0]; exact fun h => absurd h (by decide)) (by rw [h0]; decide) g2 g1 ⟨_, zkd_i hF2 (Or.inr (Or.inl h0)), rfl, rfl⟩ rfl
    · rename_i h0
      have h2 := Option.some.inj h; subst h2
      obtain ⟨⟨g1, g2⟩, g3⟩ := hc _ rfl
      exact main (fun _ => by rw [g3]; decide) (by rw [h0]; decide) g2 g1 ⟨_, zkd_i hF2 (Or.inr (Or.inr h0)), rfl, rfl⟩ rfl
    · rename_i h0
      have h2 := Option.some.inj h; subst h2
      obtain ⟨⟨g1, g2⟩, g3⟩ := hc _ rfl
      exact main (by rw [h0]; exact fun h => absurd h (by decide)) (by rw [h0]; decide) g2 g1 ⟨_, zkd_z hF2 (Or.inr h0), znar_z g3⟩ rfl
    · cases h
theorem zputr_snd (hx : p.tables.exec = Jvm.exec) (hb : c.code = cc) (hd : decode cc e.1 = .ok (e.2.1, e.2.2.1)) (hk : zck o nL e = true) (hke : zchkE o meth.name e = true) (hi : e.2.1 = .putfield idx) {x : Option Nat} {a : Nat} {r : List Value} (hst : st = zrf x :: .ref a :: r) (h5 : zfk e.2.2.2.2.1 ≠ 5) (hown : s.vm.findClass (zcn o) = some m.cls) (hts : ∀ w ∈ lw_all, w.before args s = true) (hKx : zKx s)
    (hK : va_K D zcls (ztys dA) s) (hstv : ∀ v ∈ st, zvv S v) (hH : zHp b (zad b oa) D dA H0 S H) (hS : va_S (fun q => b ≤ q) s.heap H locs)
    {q} (h : zfld e (e.1 + e.2.2.1) L st S = some q) (hc : ∀ c, q.1 = some c → c)
    (k : ∀ H' locs', zHp b (zad b oa) D dA H0 q.2.2.2.2 H' → va_S (fun q => b ≤ q) s.heap H' locs' → W p l e0 R s m args below meth c H' locs' (gN q.2.2.2.2 - nE) (gZ q.2.2.2.2 - sE) Q (F0 m q.2.1 ls (q.2.2.2.1.map (zcv (zad b oa))))) :
    W p l e0 R s m args below meth c H locs (gN S - nE) (gZ S - sE) Q (F0 m e.1 ls (st.map (zcv (zad b oa)))) := by
  subst hst
  obtain ⟨pc, i, n, v, F, sw, vt⟩ := e
  simp only at hi h5
  subst hi
  simp only [zck, zckF, Bool.and_eq_true, beq_iff_eq, decide_eq_true_eq, Bool.or_eq_true, List.contains_iff_mem] at hk
  obtain ⟨rfl, ⟨⟨hF, ho⟩, hF2⟩, -⟩ := hk
  have hva : zvr S a := hstv (.ref a) (by simp)
  have hmn : zff F = true → meth.name = "<init>" ∧ (zfd F).1 = zcn o ∧ (idx, F, 0) ∈ zFL o := by
    intro hf
    simp only [zchkE, hf, Bool.and_eq_true, Bool.or_eq_true, decide_eq_true_eq, List.contains_iff_mem] at hke
    have h1 := hke.1
    simp at h1
    exact ⟨h1.1.1, h1.1.2, h1.2⟩
  have hvt : ∀ id q0 t0, vt = (id, q0) :: t0 → id < zD0 ∧ zhas (zc1 id) F = true := by
    intro id q0 t0 hv
    simp only [zchkE, hv, Bool.and_eq_true, decide_eq_true_eq] at hke
    exact hke.2
  have one : a < zD0 → zhas (zc1 a) F = true → a < gN S ∧ zhas (ztyp S a) F = true := by
    intro g1 g2
    refine ⟨?_, by rw [zc1_typ g1]; exact g2⟩
    rcases hva with h | h
    · exact h
    · have := zD0_LB; omega
  have main : zfk F = 4 → a < gN S ∧ zhas (ztyp S a) F = true → q = (q.1, pc + 3, L, r, sP S F a x) → W p l e0 R s m args below meth c H locs (gN S - nE) (gZ S - sE) Q (F0 m pc ls ((zrf x :: .ref a :: r).map (zcv (zad b oa)))) := by
    intro h4 ⟨ha, hh⟩ hq
    rw [hq] at k
    obtain ⟨hc0, j, hj⟩ := zhas_at hh
    have ev : zcv (zad b oa) (zrf x) = va_rf (x.map (zad b oa)) := by cases x <;> rfl
    obtain ⟨ty, hp, -, hn⟩ := zkd_r hF2 (Or.inl h4)
    show W p l e0 R s m args below meth c H locs _ _ Q (F0 m pc ls (zcv (zad b oa) (zrf x) :: .ref (zad b oa a) :: r.map (zcv (zad b oa))))
    rw [zad_lt (Nat.lt_trans ha hH.2.1), ev]
    exact zput_any (S' := sP S F a x) hx hb hown hts hKx hK ho hF hmn ha rfl hc0 hj ⟨ty, hp, hn _⟩ rfl rfl (fun e => absurd (zhas8 (e ▸ hh)) (by rw [h4]; decide)) rfl (fun k _ hne => zSame.sP hne) (fun g hg => zfv_sP hg) (zfv_sP_at h4) hH hS hd k
  unfold zfld at h
  cases x with
  | none =>
    simp only [zrf] at h hd
    split at h
    · rename_i h4 hfn
      split at h
      · rename_i hw
        obtain ⟨q0, t0, rfl⟩ := zown_t hw
        obtain ⟨g1, g2⟩ := hvt _ _ _ rfl
        have h2 := Option.some.inj h; subst h2
        exact main h4 (one g1 g2) rfl
      · cases h
      · have h2 := Option.some.inj h; subst h2
        obtain ⟨g1, g2⟩ := hc _ rfl
        exact main h4 ⟨g2, g1⟩ rfl
    · cases h
  | some x =>
    simp only [zrf] at h hd
    split at h
    · rename_i i0 q0 h4 hfn
      split at h
      · rename_i b1 b2
        have e1 := Nat.eq_of_beq_eq_true b1
        have e2 := Nat.eq_of_beq_eq_true b2
        have h2 := Option.some.inj h; subst h2
        have hz := zfin_has _ (zfin_in hfn)
        exact main h4 (one (by rw [e1]; exact hz.2) (by rw [e1]; exact hz.1)) rfl
      · cases h
    · rename_i h4 hfn
      split at h
      · rename_i hw
        obtain ⟨q0, t0, rfl⟩ := zown_t hw
        obtain ⟨g1, g2⟩ := hvt _ _ _ rfl
        have h2 := Option.some.inj h; subst h2
        exact main h4 (one g1 g2) rfl
      · cases h
      · have h2 := Option.some.inj h; subst h2
        obtain ⟨g1, g2⟩ := hc _ rfl
        exact main h4 ⟨g2, g1⟩ rfl
    · rename_i h4; exact absurd h4 h5
    · cases h
theorem znew_snd (hx : p.tables.exec = Jvm.exec) (hb : c.code = cc) (hd : decode cc e.1 = .ok (e.2.1, e.2.2.1)) (hk : zck o nL e = true) (hi : e.2.1 = .new idx) (hown : s.vm.findClass (zcn o) = some m.cls) (hts : ∀ w ∈ lw_all, w.before args s = true)
    (hK : va_K D zcls (ztys dA) s) (hBk : zBk D s) (hH : zHp b (zad b oa) D dA H0 S H) (hS : va_S (fun q => b ≤ q) s.heap H locs)
    {q} (h : zfld e (e.1 + e.2.2.1) L st S = some q) (hc : ∀ c, q.1 = some c → c) (hn : nE ≤ gN S) (hz : sE ≤ gZ S) (hrn : gN q.2.2.2.2 ≤ nE + R.cells) (hrz : gZ q.2.2.2.2 ≤ sE + R.slots)
    (k : ∀ H' locs', zHp b (zad b oa) D dA H0 q.2.2.2.2 H' → va_S (fun q => b ≤ q) s.heap H' locs' → W p l e0 R s m args below meth c H' locs' (gN q.2.2.2.2 - nE) (gZ q.2.2.2.2 - sE) Q (F0 m q.2.1 ls (q.2.2.2.1.map (zcv (zad b oa))))) :
    W p l e0 R s m args below meth c H locs (gN S - nE) (gZ S - sE) Q (F0 m e.1 ls (st.map (zcv (zad b oa)))) := by
  obtain ⟨pc, i, n, v, C, sw, vt⟩ := e
  simp only at hi
  subst hi
  simp only [zck, Bool.and_eq_true, beq_iff_eq, decide_eq_true_eq, List.contains_iff_mem, bne_iff_ne] at hk
  obtain ⟨⟨⟨⟨⟨rfl, ho⟩, hm⟩, hC⟩, h10⟩, h12⟩ := hk
  unfold zfld at h
  simp only at h hd
  have h2 := Option.some.inj h; subst h2
  have hnew := hc _ rfl
  have hrn' : gN S + 1 ≤ nE + R.cells := hrn
  have hrz' : gZ S + zslots C ≤ sE + R.slots := hrz
  have hty := znew_typ (sl := zslots C) hnew
  obtain ⟨w1, w2⟩ := zNew_ok C (zNewL_in C hC h10 h12)
  have hne : ∃ j F : Nat, (zfl C)[j]? = some F := by
    have : ∀ C, C < 24 → C ≠ 10 → C ≠ 12 → (zfl C)[0]?.isSome = true := by decide
    exact ⟨0, _, (Option.some_get (this C hC h10 h12)).symm⟩
  obtain ⟨j0, F0', hj0⟩ := hne
  obtain ⟨r, hr, hr1, hrl, -⟩ := zrow_at hC hj0
  have hz1 := zcl_ok r (List.mem_of_getElem? hr)
  obtain ⟨tyf, htyf⟩ := hz1.2.2
  have hKn := hK.1 C r hr
  have kk : ∀ H', zHp b (zad b oa) D dA H0 (sNew S C 0 (zslots C)) H' → va_S (fun q => b ≤ q) s.heap H' locs → W p l e0 R s m args below meth c H' locs (gN S - nE + 1) (gZ S - sE + zslots C) Q (F0 m (pc + 3) ls (.ref (b + gN S) :: st.map (zcv (zad b oa)))) := by
    intro H' g1 g2
    have := k H' locs g1 g2
    have e1 : gN S + 1 - nE = gN S - nE + 1 := by omega
    have e2 : gZ S + zslots C - sE = gZ S - sE + zslots C := by omega
    have e3 := zad_lt (b := b) (oa := oa) hH.2.1
    rw [← e1, ← e2, ← e3]
    exact this
  refine W.newcK (g := F0 m pc ls (st.map (zcv (zad b oa)))) hx hb hown (hts _ (zCL_ok o ho _ hm)) (hts _ w1) (hts _ w2) rfl hd (by omega) (by omega) (cC := D.1 C) (by rw [← hr1]; exact hKn.2.1) hH.1 fun H1 kC hkC f1 f2 f3 => ?_
  refine kk H1 ?_ ⟨Nat.le_trans hS.1 (by rw [f2, hH.1]; omega), fun x h1 h2 => (f3 x (by have := hS.1; rw [hH.1] at this; omega)).trans (hS.2.1 x h1 h2), hS.2.2⟩
  refine hH.push rfl (by have := hnew.2; unfold zLB; omega) (fun j hj => (zSame.sNew (by omega)).typ) (fun j hj => zE1_same (zSame.sNew (by omega))) ?_ (fun _ cell hcell => by
    rw [hty.1]
    cases hcell.symm.trans f1
    obtain ⟨c9, k9, g1, g2, -, -, -, g6⟩ := Cond.instantiable_spec (hts _ w1)
    have ec : c9 = D.1 C := Option.some.inj (g1.symm.trans (by rw [← hr1]; exact hKn.2.1))
    rw [ec] at g2
    cases hkC.symm.trans g2
    simpa [blank] using g6) (fun h8 _ => by
    rw [hty.1] at h8
    subst h8
    obtain ⟨cf, kf, fi, f, hfi, hsl⟩ := hBk
    obtain ⟨ty8, -⟩ := Cond.laysAt (by have h := hKn.2.1; rw [hr1] at h; exact h) hkC hfi (hts _ q637)
    refine ⟨_, f1, rfl, rfl, ?_⟩
    have hft := State.fieldFound?_type hfi (t := .object "java/lang/Object") (by decide +kernel)
    rw [← hsl]
    simp [blank, ty8, hft.2, defaultValue]) (by rw [f2, hH.1]) (fun q hq => f3 q (by rw [← hH.1]; exact hq))
  rw [zE1_o hty.1 (by omega)]
  refine ⟨r, hr, (u_born tyf hts hz1.1 hKn hkC f1 htyf).to (fun j hj => ?_)⟩
  have hjl : j < (zfl C).length := by omega
  obtain ⟨F, hF⟩ : ∃ F, (zfl C)[j]? = some F := ⟨_, List.getElem?_eq_getElem hjl⟩
  obtain ⟨r', hr', -, -, -, hT, -⟩ := zrow_at hC hF
  cases hr.symm.trans hr'
  have hd2 : parseFieldDescriptor (zfd F).2.2 = some (tyf j) := by
    have e : (r.2.1 j).2.2.1 = (zfd F).2.2 := congrArg (fun t => t.2.2) hT
    rw [← e]; exact htyf j hj
  have hF2 : F < 207 := by
    have : ∀ C, C < 24 → (zfl C).all (fun f => decide (f < 207)) = true := by decide
    exact of_decide_eq_true (List.all_eq_true.mp (this C hC) F (List.mem_of_getElem? hF))
  have hF5 : zfk F ≠ 5 := by
    have : ∀ C, C < 24 → (zfl C).all (fun f => zfk f != 5) = true := by decide +kernel
    exact bne_iff_ne.mp (List.all_eq_true.mp (this C hC) F (List.mem_of_getElem? hF))
  have ev : vp_V ((zfl C).map (zfv (zad b oa) (sNew S C 0 (zslots C)) (gN S))) j = zfv (zad b oa) (sNew S C 0 (zslots C)) (gN S) F := by
    simp [vp_V, List.getElem?_map, hF]
  rw [ev]
  have eI : gI (sNew S C 0 (zslots C)) F (gN S) = 0 := if_pos rfl
  have eP : gP (sNew S C 0 (zslots C)) F (gN S) = none := if_pos rfl
  unfold zfv
  rw [eI, eP]
  have k0 := zkd_ok F hF2
  unfold zkd at k0
  rw [hd2] at k0
  split
  · rename_i h4
    obtain ⟨ty, hp, hdf, -⟩ := zkd_r hF2 (Or.inl h4)
    cases hd2.symm.trans hp
    exact hdf
  · rename_i h4
    have h4' : zfk F ≠ 4 := h4
    cases ht : tyf j <;> rw [ht] at k0 <;> first | rfl | (simp only [Bool.or_eq_true, beq_iff_eq] at k0; omega) | (simp at k0; done)
end Z5
