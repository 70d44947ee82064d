/-! ===== steps of the abstract machine, one by one ===== -/
section ZV
variable {T : Bool} {tb : List (Nat × List zE)} {me d : Nat} {post : Outcome × zS → Prop} {pc pc' : Nat} {L L' st st' r : List Value} {S S' : zS} {e : zE} {c : Option Prop} {cc : Prop} {v : Option Nat} {q a j me' : Nat} {i x : Int32} {y : Int64} {as : List Value}
theorem zv_c1 (ht : ztab me = tb) (hl : zlk tb pc = some e) (hc : zcop e L st S = some (none, pc', L, st', S')) (h : zEv d me pc' L st' S' post) : zEv d me pc L st S post := by
  rw [← ht] at hl
  exact zEv.step hl hc h
theorem zv_c2 (ht : ztab me = tb) (hl : zlk tb pc = some e) (hc : zcop e L st S = some (none, pc', L', st', S)) (h : zEv d me pc' L' st' S post) : zEv d me pc L st S post := by
  rw [← ht] at hl
  exact zEv.step hl hc h
theorem zv_ci (ht : ztab me = tb) (hl : zlk tb pc = some e) (hc : zcop e L st S = some (some cc, pc', L, st', S')) (h1 : cc) (h : zEv d me pc' L st' S' post) : zEv d me pc L st S post := by
  rw [← ht] at hl
  exact zEv.stepC hl hc h1 h
theorem zv_gl (ht : ztab me = tb) (hl : zlk tb pc = some e) (hF : zFin T S) (hg : zgl T e st S = some (c, true, v, r)) (hp : e.1 + e.2.2.1 = pc') (hs : zrf v :: r = st') (h : zEv d me pc' L st' S post) : zEv d me pc L st S post := by
  rw [← ht] at hl
  obtain ⟨h1, h2⟩ := zgl_cop (L := L) hg hF
  rw [h2 rfl, hp, hs] at h1
  exact zEv.step hl h1 h
theorem zv_g2 (ht : ztab me = tb) (hl : zlk tb pc = some e) (hF : zFin T S) (hg : zgl T e st S = some (none, false, v, r)) (hp : e.1 + e.2.2.1 = pc') (hq : v = some q) (h : zEv d me pc' L (.ref q :: r) S post) : zEv d me pc L st S post := by
  rw [← ht] at hl
  obtain ⟨h1, -⟩ := zgl_cop (L := L) hg hF
  rw [hp, hq] at h1
  exact zEv.step hl h1 h
theorem zv_g3 (ht : ztab me = tb) (hl : zlk tb pc = some e) (hF : zFin T S) (hg : zgl T e st S = some (some cc, false, v, r)) (hp : e.1 + e.2.2.1 = pc') (h1 : cc) (hq : v = some q) (h : zEv d me pc' L (.ref q :: r) S post) : zEv d me pc L st S post := by
  rw [← ht] at hl
  obtain ⟨h2, -⟩ := zgl_cop (L := L) hg hF
  rw [hp, hq] at h2
  exact zEv.stepC hl h2 h1 h
theorem zv_n2 (ht : ztab me = tb) (hl : zlk tb pc = some e) (hF : zFin T S) (hg : zgl T e st S = some (none, false, v, r)) (hp : e.1 + e.2.2.1 = pc') (hq : v = none) (h : zEv d me pc' L (.null :: r) S post) : zEv d me pc L st S post := by
  rw [← ht] at hl
  obtain ⟨h1, -⟩ := zgl_cop (L := L) hg hF
  rw [hp, hq] at h1
  exact zEv.step hl h1 h
theorem zv_ia (ht : ztab me = tb) (hl : zlk tb pc = some e) (ho : e.2.1 = .iaload) (hp : e.1 + e.2.2.1 = pc') (hst : st = .int i :: .ref a :: r) (hj : i.toNatClampNeg = j) (hc : (ztyp S a = 100 ∨ ztyp S a = 120) ∧ vp_in i (zlen S a)) (h : zEv d me pc' L (.int (gA S a j) :: r) S post) : zEv d me pc L st S post := by
  rw [← ht] at hl
  obtain ⟨p0, i0, n0, v0, a0, w0, t0⟩ := e
  simp only at ho hp
  subst ho
  subst hst
  subst hp
  subst hj
  exact zEv.stepC hl rfl hc h
theorem zv_ba (ht : ztab me = tb) (hl : zlk tb pc = some e) (ho : e.2.1 = .baload) (hp : e.1 + e.2.2.1 = pc') (hst : st = .int i :: .ref a :: r) (hj : i.toNatClampNeg = j) (hc : (ztyp S a = 101 ∨ ztyp S a = 102 ∨ ztyp S a = 121) ∧ vp_in i (zlen S a)) (h : zEv d me pc' L (.int (gA S a j) :: r) S post) : zEv d me pc L st S post := by
  rw [← ht] at hl
  obtain ⟨p0, i0, n0, v0, a0, w0, t0⟩ := e
  simp only at ho hp
  subst ho
  subst hst
  subst hp
  subst hj
  exact zEv.stepC hl rfl hc h
theorem zv_la (ht : ztab me = tb) (hl : zlk tb pc = some e) (ho : e.2.1 = .laload) (hp : e.1 + e.2.2.1 = pc') (hst : st = .int i :: .ref a :: r) (hj : i.toNatClampNeg = j) (hc : ztyp S a = 103 ∧ vp_in i (zlen S a)) (h : zEv d me pc' L (.long (gL S a j) :: r) S post) : zEv d me pc L st S post := by
  rw [← ht] at hl
  obtain ⟨p0, i0, n0, v0, a0, w0, t0⟩ := e
  simp only at ho hp
  subst ho
  subst hst
  subst hp
  subst hj
  exact zEv.stepC hl rfl hc h
theorem zv_is (ht : ztab me = tb) (hl : zlk tb pc = some e) (ho : e.2.1 = .iastore) (hp : e.1 + e.2.2.1 = pc') (hst : st = .int x :: .int i :: .ref a :: r) (hj : i.toNatClampNeg = j) (hc : ztyp S a = 100 ∧ vp_in i (zlen S a)) (h : zEv d me pc' L r (sA S a j x) post) : zEv d me pc L st S post := by
  rw [← ht] at hl
  obtain ⟨p0, i0, n0, v0, a0, w0, t0⟩ := e
  simp only at ho hp
  subst ho
  subst hst
  subst hp
  subst hj
  exact zEv.stepC hl rfl hc h
theorem zv_bs (ht : ztab me = tb) (hl : zlk tb pc = some e) (ho : e.2.1 = .bastore) (hp : e.1 + e.2.2.1 = pc') (hst : st = .int x :: .int i :: .ref a :: r) (hj : i.toNatClampNeg = j) (hc : ((ztyp S a = 101 ∧ x.toInt8.toInt32 = x) ∨ (ztyp S a = 102 ∧ (x = 0 ∨ x = 1))) ∧ vp_in i (zlen S a)) (h : zEv d me pc' L r (sA S a j x) post) : zEv d me pc L st S post := by
  rw [← ht] at hl
  obtain ⟨p0, i0, n0, v0, a0, w0, t0⟩ := e
  simp only at ho hp
  subst ho
  subst hst
  subst hp
  subst hj
  exact zEv.stepC hl rfl hc h
theorem zv_ls (ht : ztab me = tb) (hl : zlk tb pc = some e) (ho : e.2.1 = .lastore) (hp : e.1 + e.2.2.1 = pc') (hst : st = .long y :: .int i :: .ref a :: r) (hj : i.toNatClampNeg = j) (hc : ztyp S a = 103 ∧ vp_in i (zlen S a)) (h : zEv d me pc' L r (sL S a j y) post) : zEv d me pc L st S post := by
  rw [← ht] at hl
  obtain ⟨p0, i0, n0, v0, a0, w0, t0⟩ := e
  simp only at ho hp
  subst ho
  subst hst
  subst hp
  subst hj
  exact zEv.stepC hl rfl hc h
theorem zv_as (ht : ztab me = tb) (hl : zlk tb pc = some e) (ho : e.2.1 = .aastore) (hp : e.1 + e.2.2.1 = pc') (hst : st = .ref q :: .int i :: .ref a :: r) (hj : i.toNatClampNeg = j) (hc : (zput (ztyp S a) (ztyp S q) = true ∧ q < gN S) ∧ vp_in i (zlen S a)) (h : zEv d me pc' L r (sQ S a j (some q)) post) : zEv d me pc L st S post := by
  rw [← ht] at hl
  obtain ⟨p0, i0, n0, v0, a0, w0, t0⟩ := e
  simp only at ho hp
  subst ho
  subst hst
  subst hp
  subst hj
  exact zEv.stepC hl rfl hc h
theorem zv_aa (ht : ztab me = tb) (hl : zlk tb pc = some e) (ho : e.2.1 = .aaload) (hp : e.1 + e.2.2.1 = pc') (hst : st = .int i :: .ref a :: r) (hj : i.toNatClampNeg = j) (hc : (110 ≤ ztyp S a ∧ ztyp S a ≤ 114) ∧ vp_in i (zlen S a)) (hq : gQ S a j = some q) (h : zEv d me pc' L (.ref q :: r) S post) : zEv d me pc L st S post := by
  rw [← ht] at hl
  obtain ⟨p0, i0, n0, v0, a0, w0, t0⟩ := e
  simp only at ho hp
  subst ho
  subst hst
  subst hp
  subst hj
  have hc2 : zcop (p0, .aaload, n0, v0, a0, w0, t0) L (.int i :: .ref a :: r) S = some (some ((110 ≤ ztyp S a ∧ ztyp S a ≤ 114) ∧ vp_in i (zlen S a)), p0 + n0, L, zrf (gQ S a i.toNatClampNeg) :: r, S) := rfl
  rw [hq] at hc2
  exact zEv.stepC hl hc2 hc h
theorem zv_br (ht : ztab me = tb) (hl : zlk tb pc = some e) (hc : zcop e L st S = none) (hb : zbop e st = some (cc, st')) (k1 : cc → zEv d me e.2.2.2.2.1 L st' S post) (k2 : ¬ cc → zEv d me (pc + e.2.2.1) L st' S post) : zEv d me pc L st S post := by
  by_cases hcc : cc
  · rw [← ht] at hl
    obtain ⟨n, x, h1, h2⟩ := k1 hcc
    refine ⟨n + 1, x, ?_, h2⟩
    rw [zrun]
    simp only [hl, hc, hb]
    rw [if_pos hcc]
    exact h1
  · rw [← ht] at hl
    obtain ⟨n, x, h1, h2⟩ := k2 hcc
    refine ⟨n + 1, x, ?_, h2⟩
    rw [zrun]
    simp only [hl, hc, hb]
    rw [if_neg hcc]
    exact h1
theorem zv_nt (ht : ztab me = tb) (hl : zlk tb pc = some e) (hc : zcop e L st S = none) (hb : zbop e st = none) (hz : znop e st = some (true, st')) (h : zEv d me e.2.2.2.2.1 L st' S post) : zEv d me pc L st S post := by
  rw [← ht] at hl
  obtain ⟨n, x, h1, h2⟩ := h
  refine ⟨n + 1, x, ?_, h2⟩
  rw [zrun]
  simp only [hl, hc, hb, hz]
  exact h1
theorem zv_nf (ht : ztab me = tb) (hl : zlk tb pc = some e) (hc : zcop e L st S = none) (hb : zbop e st = none) (hz : znop e st = some (false, st')) (h : zEv d me (pc + e.2.2.1) L st' S post) : zEv d me pc L st S post := by
  rw [← ht] at hl
  obtain ⟨n, x, h1, h2⟩ := h
  refine ⟨n + 1, x, ?_, h2⟩
  rw [zrun]
  simp only [hl, hc, hb, hz]
  exact h1
theorem zv_sw (ht : ztab me = tb) (hl : zlk tb pc = some e) (hc : zcop e L st S = none) (hb : zbop e st = none) (hz : znop e st = none) (hs : zsop e st = some (i, st')) (h : zswp (fun pc' => zEv d me pc' L st' S post) i e.2.2.2.2.2.1 e.2.2.2.2.1) : zEv d me pc L st S post := by
  rw [← ht] at hl
  obtain ⟨n, x, h1, h2⟩ := zswp_pick (W := fun pc' => zEv d me pc' L st' S post) _ _ h
  refine ⟨n + 1, x, ?_, h2⟩
  rw [zrun]
  simp only [hl, hc, hb, hz, hs]
  exact h1
theorem zv_rt {w : Option Value} (ht : ztab me = tb) (hl : zlk tb pc = some e) (hc : zcop e L st S = none) (hr : zret e st = some w) (hg : zrg (zrk me) w = none) (h : post (.returned w, S)) : zEv d me pc L st S post := by
  rw [← ht] at hl
  have hb : zbop e st = none ∧ znop e st = none ∧ zsop e st = none := by
    obtain ⟨p0, i0, n0, v0, a0, w0, t0⟩ := e
    unfold zret at hr
    simp only at hr
    split at hr
    all_goals first
      | exact ⟨rfl, rfl, rfl⟩
      | cases hr
  refine ⟨1, _, ?_, h⟩
  rw [zrun]
  simp only [hl, hc, hb.1, hb.2.1, hb.2.2, hr, hg]
theorem zv_rc {w : Option Value} (ht : ztab me = tb) (hl : zlk tb pc = some e) (hc : zcop e L st S = none) (hr : zret e st = some w) (hg : zrg (zrk me) w = some cc) (h1 : cc) (h : post (.returned w, S)) : zEv d me pc L st S post := by
  rw [← ht] at hl
  have hb : zbop e st = none ∧ znop e st = none ∧ zsop e st = none := by
    obtain ⟨p0, i0, n0, v0, a0, w0, t0⟩ := e
    unfold zret at hr
    simp only at hr
    split at hr
    all_goals first
      | exact ⟨rfl, rfl, rfl⟩
      | cases hr
  refine ⟨1, _, ?_, h⟩
  rw [zrun]
  simp only [hl, hc, hb.1, hb.2.1, hb.2.2, hr, hg]
  rw [if_pos h1]
theorem zv_th (ht : ztab me = tb) (hl : zlk tb pc = some e) (ho : e.2.1 = .athrow) (hst : st = .ref q :: r) (h8 : ztyp S q = 8 ∧ q < gN S) (hh : zhnd me pc = some none) (h : post (.threw q, S)) : zEv d me pc L st S post := by
  rw [← ht] at hl
  obtain ⟨p0, i0, n0, v0, a0, w0, t0⟩ := e
  simp only at ho
  subst ho
  subst hst
  refine ⟨1, _, ?_, h⟩
  rw [zrun]
  simp only [hl]
  have e1 : zcop (p0, Instr.athrow, n0, v0, a0, w0, t0) L (.ref q :: r) S = none := rfl
  have e2 : zbop (p0, Instr.athrow, n0, v0, a0, w0, t0) (.ref q :: r) = none := rfl
  have e3 : znop (p0, Instr.athrow, n0, v0, a0, w0, t0) (.ref q :: r) = none := rfl
  have e4 : zsop (p0, Instr.athrow, n0, v0, a0, w0, t0) (.ref q :: r) = none := rfl
  have e5 : zret (p0, Instr.athrow, n0, v0, a0, w0, t0) (.ref q :: r) = none := rfl
  have e6 : zthr (p0, Instr.athrow, n0, v0, a0, w0, t0) (.ref q :: r) = some q := rfl
  simp only [e1, e2, e3, e4, e5, e6]
  rw [if_pos h8]
  simp only [hh]
/-- behind a call -/
def zAf (d me pc : Nat) (L st : List Value) (post : Outcome × zS → Prop) (x : Outcome × zS) : Prop := match x with
  | (.returned v, S') => zEv d me (pc + 3) L (v.toList ++ st) S' post
  | (.threw q, S') => match zhnd me pc with
    | some (some h) => zEv d me h L [.ref q] S' post
    | some none => post (.threw q, S')
    | none => False
theorem zv_cl (ht : ztab me = tb) (hl : zlk tb pc = some e) (hc : zcop e L st S = none) (hk : zcall e st = some (as, st')) (hg : ztgt e as S = some me') (hd : 1 ≤ d) (hs : zsum as ≤ zmaxL me') (h : zCall (d - 1) me' as S (zAf d me pc L st' post)) : zEv d me pc L st S post := by
  have hb : zbop e st = none ∧ znop e st = none ∧ zsop e st = none ∧ zret e st = none ∧ zthr e st = none := by
    obtain ⟨p0, i0, n0, v0, a0, w0, t0⟩ := e
    unfold zcall at hk
    simp only at hk
    split at hk
    all_goals first
      | exact ⟨rfl, rfl, rfl, rfl, rfl⟩
      | cases hk
  obtain ⟨n1, ⟨o, S'⟩, h1, h2⟩ := h
  obtain ⟨d1, rfl⟩ : ∃ d1, d = d1 + 1 := ⟨d - 1, by omega⟩
  rw [← ht] at hl
  have h1' : zrun n1 d1 me' 0 (zpad as (zmaxL me')) [] S = some (o, S') := h1
  cases o with
  | returned v =>
    obtain ⟨n2, x, h3, h4⟩ := h2
    refine ⟨max n1 n2 + 1, x, ?_, h4⟩
    rw [zrun]
    simp only [hl, hc, hb.1, hb.2.1, hb.2.2.1, hb.2.2.2.1, hb.2.2.2.2, hk, hg, decide_eq_true hs]
    rw [zrun_mono _ _ _ _ _ _ _ _ h1' (max n1 n2) d1 (Nat.le_max_left _ _) (Nat.le_refl _)]
    simp only
    exact zrun_mono _ _ _ _ _ _ _ _ h3 _ _ (Nat.le_max_right _ _) (Nat.le_refl _)
  | threw q =>
    have h2 : (match zhnd me pc with
      | some (some h) => zEv (d1 + 1) me h L [.ref q] S' post
      | some none => post (.threw q, S')
      | none => False) := h2
    split at h2
    · rename_i h0 hh
      obtain ⟨n2, x, h3, h4⟩ := h2
      refine ⟨max n1 n2 + 1, x, ?_, h4⟩
      rw [zrun]
      simp only [hl, hc, hb.1, hb.2.1, hb.2.2.1, hb.2.2.2.1, hb.2.2.2.2, hk, hg, decide_eq_true hs]
      rw [zrun_mono _ _ _ _ _ _ _ _ h1' (max n1 n2) d1 (Nat.le_max_left _ _) (Nat.le_refl _)]
      simp only [hh]
      exact zrun_mono _ _ _ _ _ _ _ _ h3 _ _ (Nat.le_max_right _ _) (Nat.le_refl _)
    · rename_i hh
      refine ⟨n1 + 1, _, ?_, h2⟩
      rw [zrun]
      simp only [hl, hc, hb.1, hb.2.1, hb.2.2.1, hb.2.2.2.1, hb.2.2.2.2, hk, hg, decide_eq_true hs]
      rw [h1']
      simp only [hh]
    · exact h2.elim
end ZV
