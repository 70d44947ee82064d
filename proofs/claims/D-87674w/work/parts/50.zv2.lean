/-! ===== more steps ===== -/
section ZV2
variable {T : Bool} {tb : List (Nat × List zE)} {me d : Nat} {post : Outcome × zS → Prop} {pc pc' : Nat} {L L' st st' r : List Value} {S S' : zS} {e : zE} {c : Option Prop} {cc : Prop} {v : Option Nat} {q a j me' : Nat} {i x w : Int32} {y z : Int64} {as : List Value}
theorem zv_e1 (ht : ztab me = tb) (hl : zlk tb pc = some e) (hc : zcop e L st S = some (none, pc', L, .int w :: r, S)) (hw : w = x) (h : zEv d me pc' L (.int x :: r) S post) : zEv d me pc L st S post := by
  subst hw
  exact zv_c1 ht hl hc h
theorem zv_el (ht : ztab me = tb) (hl : zlk tb pc = some e) (hc : zcop e L st S = some (none, pc', L, .long z :: r, S)) (hw : z = y) (h : zEv d me pc' L (.long y :: r) S post) : zEv d me pc L st S post := by
  subst hw
  exact zv_c1 ht hl hc h
theorem zv_ei (ht : ztab me = tb) (hl : zlk tb pc = some e) (hc : zcop e L st S = some (some cc, pc', L, .int w :: r, S)) (h1 : cc) (hw : w = x) (h : zEv d me pc' L (.int x :: r) S post) : zEv d me pc L st S post := by
  subst hw
  exact zv_ci ht hl hc h1 h
theorem zv_iaE (ht : ztab me = tb) (hl : zlk tb pc = some e) (ho : e.2.1 = .iaload) (hp : e.1 + e.2.2.1 = pc') (hst : st = .int i :: .ref a :: r) (hj : i.toNatClampNeg = j) (hc : (ztyp S a = 100 ∨ ztyp S a = 120) ∧ vp_in i (zlen S a)) (hv : gA S a j = x) (h : zEv d me pc' L (.int x :: r) S post) : zEv d me pc L st S post := by
  subst hv
  exact zv_ia ht hl ho hp hst hj hc h
theorem zv_baE (ht : ztab me = tb) (hl : zlk tb pc = some e) (ho : e.2.1 = .baload) (hp : e.1 + e.2.2.1 = pc') (hst : st = .int i :: .ref a :: r) (hj : i.toNatClampNeg = j) (hc : (ztyp S a = 101 ∨ ztyp S a = 102 ∨ ztyp S a = 121) ∧ vp_in i (zlen S a)) (hv : gA S a j = x) (h : zEv d me pc' L (.int x :: r) S post) : zEv d me pc L st S post := by
  subst hv
  exact zv_ba ht hl ho hp hst hj hc h
theorem zv_n3 (ht : ztab me = tb) (hl : zlk tb pc = some e) (hF : zFin T S) (hg : zgl T e st S = some (some cc, false, v, r)) (hp : e.1 + e.2.2.1 = pc') (h1 : cc) (hq : v = none) (h : zEv d me pc' L (.null :: r) S post) : zEv d me pc L st S post := by
  rw [← ht] at hl
  obtain ⟨h2, -⟩ := zgl_cop (L := L) hg hF
  rw [hp, hq] at h2
  exact zEv.stepC hl h2 h1 h
theorem zv_s2 (ht : ztab me = tb) (hl : zlk tb pc = some e) (hF : zFin T S) (hg : zgl T e st S = some (none, false, v, r)) (hp : e.1 + e.2.2.1 = pc') (k1 : v = none → zEv d me pc' L (.null :: r) S post) (k2 : ∀ q, v = some q → zEv d me pc' L (.ref q :: r) S post) : zEv d me pc L st S post := by
  cases hv : v with
  | none => exact zv_n2 ht hl hF hg hp hv (k1 hv)
  | some q => exact zv_g2 ht hl hF hg hp hv (k2 q hv)
theorem zv_s3 (ht : ztab me = tb) (hl : zlk tb pc = some e) (hF : zFin T S) (hg : zgl T e st S = some (some cc, false, v, r)) (hp : e.1 + e.2.2.1 = pc') (h1 : cc) (k1 : v = none → zEv d me pc' L (.null :: r) S post) (k2 : ∀ q, v = some q → zEv d me pc' L (.ref q :: r) S post) : zEv d me pc L st S post := by
  cases hv : v with
  | none => exact zv_n3 ht hl hF hg hp h1 hv (k1 hv)
  | some q => exact zv_g3 ht hl hF hg hp h1 hv (k2 q hv)
theorem zv_an (ht : ztab me = tb) (hl : zlk tb pc = some e) (ho : e.2.1 = .aaload) (hp : e.1 + e.2.2.1 = pc') (hst : st = .int i :: .ref a :: r) (hj : i.toNatClampNeg = j) (hc : (110 ≤ ztyp S a ∧ ztyp S a ≤ 114) ∧ vp_in i (zlen S a)) (hq : gQ S a j = none) (h : zEv d me pc' L (.null :: r) S post) : zEv d me pc L st S post := by
  rw [← ht] at hl
  obtain ⟨p0, i0, n0, v0, a0, w0, t0⟩ := e
  simp only at ho hp
  subst ho
  subst hst
  subst hp
  subst hj
  have hc2 : zcop (p0, .aaload, n0, v0, a0, w0, t0) L (.int i :: .ref a :: r) S = some (some ((110 ≤ ztyp S a ∧ ztyp S a ≤ 114) ∧ vp_in i (zlen S a)), p0 + n0, L, zrf (gQ S a i.toNatClampNeg) :: r, S) := rfl
  rw [hq] at hc2
  exact zEv.stepC hl hc2 hc h
theorem zv_asp (ht : ztab me = tb) (hl : zlk tb pc = some e) (ho : e.2.1 = .aaload) (hp : e.1 + e.2.2.1 = pc') (hst : st = .int i :: .ref a :: r) (hj : i.toNatClampNeg = j) (hc : (110 ≤ ztyp S a ∧ ztyp S a ≤ 114) ∧ vp_in i (zlen S a)) (k1 : gQ S a j = none → zEv d me pc' L (.null :: r) S post) (k2 : ∀ q, gQ S a j = some q → zEv d me pc' L (.ref q :: r) S post) : zEv d me pc L st S post := by
  cases hv : gQ S a j with
  | none => exact zv_an ht hl ho hp hst hj hc hv (k1 hv)
  | some q => exact zv_aa ht hl ho hp hst hj hc hv (k2 q hv)
/-- a call by the receiver's class -/
def zVir (l : List (Nat × Nat)) (d : Nat) (as : List Value) (S : zS) (post : Outcome × zS → Prop) : Prop := match as with
  | .ref a :: _ => ∃ me', zvt l (ztyp S a) = some me' ∧ zsum as ≤ zmaxL me' ∧ zCall d me' as S post
  | _ => False
theorem zv_vc {ix : Nat} {p1 p2 : Nat × Nat} {l : List (Nat × Nat)} (ht : ztab me = tb) (hl : zlk tb pc = some e) (hi : e.2.1 = .invokevirtual ix) (hv : e.2.2.2.2.2.2 = p1 :: p2 :: l) (hc : zcop e L st S = none) (hk : zcall e st = some (as, st')) (hd : 1 ≤ d) (h : zVir (p1 :: p2 :: l) (d - 1) as S (zAf d me pc L st' post)) : zEv d me pc L st S post := by
  unfold zVir at h
  split at h
  · rename_i a as' 
    obtain ⟨me', h1, h2, h3⟩ := h
    refine zv_cl ht hl hc hk ?_ hd h2 h3
    obtain ⟨p0, i0, n0, v0, a0, w0, t0⟩ := e
    simp only at hi hv
    subst hi
    subst hv
    exact h1
  · exact h.elim
theorem zv_tc {h0 : Nat} (ht : ztab me = tb) (hl : zlk tb pc = some e) (ho : e.2.1 = .athrow) (hst : st = .ref q :: r) (h8 : ztyp S q = 8 ∧ q < gN S) (hh : zhnd me pc = some (some h0)) (h : zEv d me h0 L [.ref q] S post) : zEv d me pc L st S post := by
  rw [← ht] at hl
  obtain ⟨p0, i0, n0, v0, a0, w0, t0⟩ := e
  simp only at ho
  subst ho
  subst hst
  obtain ⟨n, x, h1, h2⟩ := h
  refine ⟨n + 1, x, ?_, h2⟩
  rw [zrun]
  simp only [hl]
  have e1 : zcop (p0, Instr.athrow, n0, v0, a0, w0, t0) L (.ref q :: r) S = none := rfl
  have e2 : zbop (p0, Instr.athrow, n0, v0, a0, w0, t0) (.ref q :: r) = none := rfl
  have e3 : znop (p0, Instr.athrow, n0, v0, a0, w0, t0) (.ref q :: r) = none := rfl
  have e4 : zsop (p0, Instr.athrow, n0, v0, a0, w0, t0) (.ref q :: r) = none := rfl
  have e5 : zret (p0, Instr.athrow, n0, v0, a0, w0, t0) (.ref q :: r) = none := rfl
  have e6 : zthr (p0, Instr.athrow, n0, v0, a0, w0, t0) (.ref q :: r) = some q := rfl
  simp only [e1, e2, e3, e4, e5, e6]
  rw [if_pos h8]
  simp only [hh]
  exact h1
end ZV2
/-- a loop that counts -/
theorem zLoop {d me pc : Nat} {post : Outcome × zS → Prop} (n : Nat) (Inv : Nat → zS → Prop) (L : Nat → List Value)
    (step : ∀ k S, k < n → Inv k S → (∀ S', Inv (k + 1) S' → zEv d me pc (L (k + 1)) [] S' post) → zEv d me pc (L k) [] S post)
    (last : ∀ S, Inv n S → zEv d me pc (L n) [] S post) : ∀ (k : Nat) (S : zS), k ≤ n → Inv k S → zEv d me pc (L k) [] S post := by
  have : ∀ m k S, k + m = n → Inv k S → zEv d me pc (L k) [] S post := by
    intro m
    induction m with
    | zero => intro k S hk hI; rw [Nat.add_zero] at hk; subst hk; exact last S hI
    | succ m ih => intro k S hk hI; exact step k S (by omega) hI (fun S' h => ih (k + 1) S' (by omega) h)
  intro k S hk hI
  exact this (n - k) k S (by omega) hI
/-- a loop with a measure -/
theorem zLoopM {d me pc : Nat} {post : Outcome × zS → Prop} {α : Type} (mu : α → Nat) (Inv : α → zS → Prop) (L : α → List Value)
    (step : ∀ k S, Inv k S → (∀ k' S', mu k' < mu k → Inv k' S' → zEv d me pc (L k') [] S' post) → zEv d me pc (L k) [] S post) (k : α) (S : zS) (h : Inv k S) : zEv d me pc (L k) [] S post := by
  have : ∀ m k S, mu k ≤ m → Inv k S → zEv d me pc (L k) [] S post := by
    intro m
    induction m with
    | zero => intro k S hk hI; exact step k S hI (fun k' S' hm _ => absurd hm (by omega))
    | succ m ih => intro k S hk hI; exact step k S hI (fun k' S' hm h => ih k' S' (by omega) h)
  exact this (mu k) k S (Nat.le_refl _) h
/-- other numbers in fields and arrays, all else the same -/
def zM (S : zS) (I A : Nat → Nat → Int32) : zS := (I, S.2.1, A, S.2.2.2)
theorem zM_self (S : zS) : zM S (gI S) (gA S) = S := rfl
/-- what is the same: fields of one object but these, arrays but these -/
def zfr (o : Nat) (fs as : List Nat) (S : zS) (I A : Nat → Nat → Int32) : Prop := (∀ f a, (f ∈ fs → a ≠ o) → I f a = gI S f a) ∧ ∀ a, a ∉ as → A a = gA S a
theorem zfr.rf (o : Nat) (fs as : List Nat) (S : zS) : zfr o fs as S (gI S) (gA S) := ⟨fun _ _ _ => rfl, fun _ _ => rfl⟩
theorem zfr.tr {o : Nat} {fs as fs' as' fs2 as2 : List Nat} {S : zS} {I A I' A' : Nat → Nat → Int32} (h : zfr o fs as S I A) (h' : zfr o fs' as' (zM S I A) I' A') (s1 : ∀ f, f ∈ fs → f ∈ fs2) (s2 : ∀ f, f ∈ as → f ∈ as2) (s3 : ∀ f, f ∈ fs' → f ∈ fs2) (s4 : ∀ f, f ∈ as' → f ∈ as2) : zfr o fs2 as2 S I' A' :=
  ⟨fun f a hf => (h'.1 f a (fun h0 => hf (s3 f h0))).trans (h.1 f a (fun h0 => hf (s1 f h0))), fun a ha => (h'.2 a (fun h0 => ha (s4 a h0))).trans (h.2 a (fun h0 => ha (s2 a h0)))⟩
theorem zfr.w {o : Nat} {fs as fs2 as2 : List Nat} {S : zS} {I A : Nat → Nat → Int32} (h : zfr o fs as S I A) (s1 : ∀ f, f ∈ fs → f ∈ fs2) (s2 : ∀ f, f ∈ as → f ∈ as2) : zfr o fs2 as2 S I A :=
  ⟨fun f a hf => h.1 f a (fun h0 => hf (s1 f h0)), fun a ha => h.2 a (fun h0 => ha (s2 a h0))⟩
theorem zfr.uI {o : Nat} {fs as : List Nat} {S : zS} {I A : Nat → Nat → Int32} (h : zfr o fs as S I A) {f : Nat} (hf : f ∈ fs) (v : Int32) : zfr o fs as S (zu I f o v) A := by
  refine ⟨fun g a hg => ?_, h.2⟩
  unfold zu
  by_cases e : g = f
  · rw [if_pos e, if_neg (hg (e ▸ hf))]
    exact h.1 g a hg
  · rw [if_neg e]
    exact h.1 g a hg
theorem zfr.uA {o : Nat} {fs as : List Nat} {S : zS} {I A : Nat → Nat → Int32} (h : zfr o fs as S I A) {a : Nat} (ha : a ∈ as) (j : Nat) (v : Int32) : zfr o fs as S I (zu A a j v) := by
  refine ⟨h.1, fun b hb => ?_⟩
  funext i
  unfold zu
  have e : b ≠ a := fun e => hb (e ▸ ha)
  rw [if_neg e, h.2 b hb]
theorem zu_ne {α : Type} {m : Nat → Nat → α} {f a : Nat} {v : α} {g c : Nat} (h : g ≠ f) : zu m f a v g c = m g c := by unfold zu; rw [if_neg h]
theorem zu_ne' {α : Type} {m : Nat → Nat → α} {f a : Nat} {v : α} {g : Nat} (h : g ≠ f) : zu m f a v g = m g := by funext c; exact zu_ne h
theorem zu_at {α : Type} {m : Nat → Nat → α} {f a : Nat} {v : α} : zu m f a v f a = v := by unfold zu; rw [if_pos rfl, if_pos rfl]
theorem zu_n2 {α : Type} {m : Nat → Nat → α} {f a : Nat} {v : α} {c : Nat} (h : c ≠ a) : zu m f a v f c = m f c := by unfold zu; rw [if_pos rfl, if_neg h]
theorem zv_st {me d pc : Nat} {post : Outcome × zS → Prop} {L st st' : List Value} {S : zS} (h : st = st') (k : zEv d me pc L st' S post) : zEv d me pc L st S post := by rw [h]; exact k
theorem zv_tgv {p n v a0 w : _} {ix c t a : Nat} {r : List Value} {S : zS} (h : ztyp S a = c) (hc : Nat.ble 1000 c = false) : ztgt (p, Instr.invokevirtual ix, n, v, a0, w, [(c, t)]) (.ref a :: r) S = some t := by
  have h1 : ¬ 1000 ≤ c := fun h => by rw [Nat.ble_eq_true_of_le h] at hc; cases hc
  show (if 1000 ≤ c then (if a = c - 1000 then some t else none) else zvt [(c, t)] (ztyp S a)) = some t
  rw [if_neg h1]
  show (if ztyp S a = c then some t else none) = some t
  rw [if_pos h]
theorem zv_tgs {p n v a0 w : _} {ix c t a : Nat} {l : List (Nat × Nat)} {r : List Value} {S : zS} (h : ztyp S a = c + 1) : ztgt (p, Instr.invokespecial ix, n, v, a0, w, (c + 1, t) :: l) (.ref a :: r) S = some t := by
  show (if ztyp S a = c + 1 then some t else none) = some t
  rw [if_pos h]
theorem zhas_of {S : zS} {a c F : Nat} (h : ztyp S a = c) (h2 : zhas c F = true) : zhas (ztyp S a) F = true := by rw [h]; exact h2
theorem zv_b2 {S : zS} {a : Nat} (h : ztyp S a = 101 ∨ ztyp S a = 121) : ztyp S a = 101 ∨ ztyp S a = 102 ∨ ztyp S a = 121 := h.elim Or.inl (fun h => Or.inr (Or.inr h))
theorem zv_l2 {S : zS} {a : Nat} (h : ztyp S a = 101 ∨ ztyp S a = 121) : 100 ≤ ztyp S a := by omega
theorem zv_le {S : zS} {a c : Nat} (h : ztyp S a = c) (h2 : Nat.ble 100 c = true) : 100 ≤ ztyp S a := by rw [h]; exact Nat.le_of_ble_eq_true h2
theorem zv_aty {S : zS} {a c : Nat} (h : ztyp S a = c) (h2 : Nat.ble 110 c = true) (h3 : Nat.ble c 114 = true) : 110 ≤ ztyp S a ∧ ztyp S a ≤ 114 := by rw [h]; exact ⟨Nat.le_of_ble_eq_true h2, Nat.le_of_ble_eq_true h3⟩
theorem zv_pt {S : zS} {a v c e : Nat} (h : ztyp S a = c) (h2 : ztyp S v = e) (h3 : zput c e = true) : zput (ztyp S a) (ztyp S v) = true := by rw [h, h2]; exact h3
