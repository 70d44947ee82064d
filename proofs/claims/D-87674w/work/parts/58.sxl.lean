set_option maxRecDepth 100000
/-! ===== what the second symbolic runner leans on ===== -/
noncomputable def zbo (P : Prop) : Int32 := @ite _ P (Classical.propDecidable P) 1 0
theorem zbo_pos {P : Prop} (h : P) : zbo P = 1 := if_pos h
theorem zbo_neg {P : Prop} (h : ¬ P) : zbo P = 0 := if_neg h
theorem zbo_eq0 {P : Prop} : zbo P = 0 ↔ ¬ P := ⟨fun h hp => absurd ((zbo_pos hp).symm.trans h) (by decide), zbo_neg⟩
theorem zbo_eq1 {P : Prop} : zbo P = 1 ↔ P := ⟨fun h => Classical.byContradiction fun hp => absurd ((zbo_neg hp).symm.trans h) (by decide), zbo_pos⟩
theorem zbo_rng {P : Prop} : zbo P = 0 ∨ zbo P = 1 := by
  by_cases h : P
  · exact Or.inr (zbo_pos h)
  · exact Or.inl (zbo_neg h)
theorem zbo_congr {P Q : Prop} (h : P ↔ Q) : zbo P = zbo Q := by rw [propext h]
theorem zbo_and {P Q : Prop} : zbo P &&& zbo Q = zbo (P ∧ Q) := by
  by_cases h : P <;> by_cases g : Q <;> simp [zbo, h, g]
theorem zbo_or {P Q : Prop} : zbo P ||| zbo Q = zbo (P ∨ Q) := by
  by_cases h : P <;> by_cases g : Q <;> simp [zbo, h, g]
noncomputable def zbn (P : Prop) : Nat := @ite _ P (Classical.propDecidable P) 1 0
theorem zbn_pos {P : Prop} (h : P) : zbn P = 1 := if_pos h
theorem zbn_neg {P : Prop} (h : ¬ P) : zbn P = 0 := if_neg h
theorem zbo_nat {P : Prop} : zbo P = Int32.ofNat (zbn P) := by
  by_cases h : P
  · rw [zbo_pos h, zbn_pos h]; rfl
  · rw [zbo_neg h, zbn_neg h]; rfl
noncomputable def zit (P : Prop) (a b : Int32) : Int32 := @ite _ P (Classical.propDecidable P) a b
theorem zit_pos {P : Prop} {a b : Int32} (h : P) : zit P a b = a := if_pos h
theorem zit_neg {P : Prop} {a b : Int32} (h : ¬ P) : zit P a b = b := if_neg h
noncomputable def znt (P : Prop) (a b : Nat) : Nat := @ite _ P (Classical.propDecidable P) a b
theorem znt_pos {P : Prop} {a b : Nat} (h : P) : znt P a b = a := if_pos h
theorem znt_neg {P : Prop} {a b : Nat} (h : ¬ P) : znt P a b = b := if_neg h
theorem zv_sub {α : Type} {zz zy : α} {p : α → Prop} (h : zz = zy) (k : p zz) : p zy := h ▸ k
/-! reading what was written -/
theorem gI_sI_at {S : zS} {f a : Nat} {v : Int32} : gI (sI S f a v) f a = v := zu_at
theorem gI_sI_ne {S : zS} {f a c : Nat} {v : Int32} (h : c ≠ a) : gI (sI S f a v) f c = gI S f c := zu_n2 h
theorem gP_sP_at {S : zS} {f a : Nat} {v : Option Nat} : gP (sP S f a v) f a = v := zu_at
theorem gP_sP_ne {S : zS} {f a c : Nat} {v : Option Nat} (h : c ≠ a) : gP (sP S f a v) f c = gP S f c := zu_n2 h
theorem gA_sA_at {S : zS} {a j : Nat} {v : Int32} : gA (sA S a j v) a j = v := zu_at
theorem gA_sA_nj {S : zS} {a j i : Nat} {v : Int32} (h : i ≠ j) : gA (sA S a j v) a i = gA S a i := zu_n2 h
theorem gA_sA_ne {S : zS} {a b j i : Nat} {v : Int32} (h : b ≠ a) : gA (sA S a j v) b i = gA S b i := zu_ne h
theorem gL_sL_at {S : zS} {a j : Nat} {v : Int64} : gL (sL S a j v) a j = v := zu_at
theorem gL_sL_nj {S : zS} {a j i : Nat} {v : Int64} (h : i ≠ j) : gL (sL S a j v) a i = gL S a i := zu_n2 h
theorem gL_sL_ne {S : zS} {a b j i : Nat} {v : Int64} (h : b ≠ a) : gL (sL S a j v) b i = gL S b i := zu_ne h
theorem gQ_sQ_at {S : zS} {a j : Nat} {v : Option Nat} : gQ (sQ S a j v) a j = v := zu_at
theorem gQ_sQ_nj {S : zS} {a j i : Nat} {v : Option Nat} (h : i ≠ j) : gQ (sQ S a j v) a i = gQ S a i := zu_n2 h
theorem gQ_sQ_ne {S : zS} {a b j i : Nat} {v : Option Nat} (h : b ≠ a) : gQ (sQ S a j v) b i = gQ S b i := zu_ne h
theorem gI_new_at {S : zS} {t n s f : Nat} : gI (sNew S t n s) f (gN S) = 0 := if_pos rfl
theorem gI_new {S : zS} {t n s f a : Nat} (h : a ≠ gN S) : gI (sNew S t n s) f a = gI S f a := if_neg h
theorem gP_new_at {S : zS} {t n s f : Nat} : gP (sNew S t n s) f (gN S) = none := if_pos rfl
theorem gP_new {S : zS} {t n s f a : Nat} (h : a ≠ gN S) : gP (sNew S t n s) f a = gP S f a := if_neg h
theorem gA_new_at {S : zS} {t n s j : Nat} : gA (sNew S t n s) (gN S) j = 0 := if_pos rfl
theorem gA_new {S : zS} {t n s a j : Nat} (h : a ≠ gN S) : gA (sNew S t n s) a j = gA S a j := if_neg h
theorem gL_new_at {S : zS} {t n s j : Nat} : gL (sNew S t n s) (gN S) j = 0 := if_pos rfl
theorem gL_new {S : zS} {t n s a j : Nat} (h : a ≠ gN S) : gL (sNew S t n s) a j = gL S a j := if_neg h
theorem gQ_new_at {S : zS} {t n s j : Nat} : gQ (sNew S t n s) (gN S) j = none := if_pos rfl
theorem gQ_new {S : zS} {t n s a j : Nat} (h : a ≠ gN S) : gQ (sNew S t n s) a j = gQ S a j := if_neg h
theorem gT_new_at {S : zS} {t n s : Nat} : gT (sNew S t n s) (gN S) = (t, n) := if_pos rfl
theorem gT_new {S : zS} {t n s a : Nat} (h : a ≠ gN S) : gT (sNew S t n s) a = gT S a := if_neg h
theorem ztyp_new_at {S : zS} {t n s : Nat} (h : 1639 ≤ gN S) : ztyp (sNew S t n s) (gN S) = t := by
  have h1 : ¬ gN S < zD0 := by unfold zD0; omega
  unfold ztyp
  rw [if_neg h1, gT_new_at]
theorem zlen_new_at {S : zS} {t n s : Nat} (h : 1639 ≤ gN S) : zlen (sNew S t n s) (gN S) = n := by
  have h1 : ¬ gN S < zD0 := by unfold zD0; omega
  unfold zlen
  rw [if_neg h1, gT_new_at]
theorem ztyp_new {S : zS} {t n s a : Nat} (h : a ≠ gN S) : ztyp (sNew S t n s) a = ztyp S a := by unfold ztyp; rw [gT_new h]
theorem zlen_new {S : zS} {t n s a : Nat} (h : a ≠ gN S) : zlen (sNew S t n s) a = zlen S a := by unfold zlen; rw [gT_new h]
theorem ztyp_sT1 {S : zS} {a t n : Nat} (h : 1639 ≤ a) : ztyp (sT S a t n) a = t := by
  have h1 : ¬ a < zD0 := by unfold zD0; omega
  unfold ztyp
  rw [if_neg h1]
  show (if a = a then (t, n) else _).1 = t
  rw [if_pos rfl]
theorem zlen_sT1 {S : zS} {a t n : Nat} (h : 1639 ≤ a) : zlen (sT S a t n) a = n := by
  have h1 : ¬ a < zD0 := by unfold zD0; omega
  unfold zlen
  rw [if_neg h1]
  show (if a = a then (t, n) else _).2 = n
  rw [if_pos rfl]
theorem zFin_new {S : zS} {B : Bool} {t n s : Nat} (h : zFin B S) : zFin B (sNew S t n s) := h.of (fun f a ha => gP_new (by omega)) (Nat.le_succ _)
theorem zfinL_none {f : Nat} (h : zfin f = none) : ∀ q ∈ zfinL, q.1 = f → False := by
  intro q hq e
  have := zfinL_in q hq
  rw [e, h] at this
  cases this
theorem zFin_sP {S : zS} {B : Bool} {f a : Nat} {v : Option Nat} (h : zFin B S) (hf : zfin f = none) : zFin B (sP S f a v) :=
  h.put (fun i r e => by rw [hf] at e; cases e) (fun _ => zfinL_none hf)
theorem znew_ok {S : zS} {t n : Nat} (h : 1639 ≤ gN S) (h2 : gN S < 2000000) : znew S t n := ⟨fun h1 => by unfold zD0 at h1; omega, h2⟩
theorem znew_okE {S : zS} {t a : Nat} {x : Int32} (hx : x = Int32.ofNat a) (ha : a < 2147483648) (h : 1639 ≤ gN S) (h2 : gN S < 2000000) : znew S t x.toNatClampNeg := znew_ok h h2
theorem zi_len {x : Int32} {a : Nat} (hx : x = Int32.ofNat a) (ha : a ≤ 1000000) : ¬ x < 0 ∧ x.toNatClampNeg ≤ 1000000 := by
  rw [hx]
  exact ⟨zi_neg (by omega), by rw [zi_nat (by omega)]; exact ha⟩
theorem zi_decE {x k : Int32} {n c : Nat} (h : x = Int32.ofNat n) (hc : c ≤ n) (hk : k = -(Int32.ofNat c)) : x + k = Int32.ofNat (n - c) := by
  have e : x + k = x - Int32.ofNat c := by rw [hk, Int32.sub_eq_add_neg]
  rw [e]
  exact zi_subE h rfl hc
theorem zi_inL {S : zS} {b a m : Nat} {x : Int32} (hl : zlen S b = m) (h1 : x = Int32.ofNat a) (ha : a < 2147483648) (h : a < m) : vp_in x (zlen S b) := by rw [hl]; exact zi_inE h1 ha h
theorem zi_nneg {x k : Int32} {n : Nat} (h : x = Int32.ofNat n) (hn : n < 2147483648) (hk : k < 0) : ¬ x = k := by
  intro e
  rw [← e, h] at hk
  exact zi_neg hn hk
theorem zi_nltneg {x k : Int32} {n : Nat} (h : x = Int32.ofNat n) (hn : n < 2147483648) (hk : k < 0) : ¬ x < k := by
  intro e
  have : x < 0 := Int32.lt_trans e hk
  rw [h] at this
  exact zi_neg hn this
theorem zi_nleneg {x k : Int32} {n : Nat} (h : x = Int32.ofNat n) (hn : n < 2147483648) (hk : k < 0) : ¬ x ≤ k := by
  intro e
  have : x < 0 := Int32.lt_of_le_of_lt e hk
  rw [h] at this
  exact zi_neg hn this
theorem zi_negn {x k : Int32} {n : Nat} (h : x = Int32.ofNat n) (hn : n < 2147483648) (hk : k < 0) : k < x := by
  have h1 : ¬ x < 0 := by rw [h]; exact zi_neg hn
  have h2 : 0 ≤ x := Int32.not_lt.mp h1
  exact Int32.lt_of_lt_of_le hk h2
theorem zi_negle {x k : Int32} {n : Nat} (h : x = Int32.ofNat n) (hn : n < 2147483648) (hk : k < 0) : k ≤ x := Int32.le_of_lt (zi_negn h hn hk)
theorem zi_maxE {x y : Int32} {a b : Nat} (h1 : x = Int32.ofNat a) (h2 : y = Int32.ofNat b) (ha : a < 2147483648) (hb : b < 2147483648) : (if x < y then y else x) = Int32.ofNat (max a b) := by
  by_cases h : a < b
  · rw [if_pos ((zi_ltE h1 h2 ha hb).mpr h), h2, Nat.max_eq_right (by omega)]
  · rw [if_neg (fun e => h ((zi_ltE h1 h2 ha hb).mp e)), h1, Nat.max_eq_left (by omega)]
theorem zi_minE {x y : Int32} {a b : Nat} (h1 : x = Int32.ofNat a) (h2 : y = Int32.ofNat b) (ha : a < 2147483648) (hb : b < 2147483648) : (if y < x then y else x) = Int32.ofNat (min a b) := by
  by_cases h : b < a
  · rw [if_pos ((zi_ltE h2 h1 hb ha).mpr h), h2, Nat.min_eq_right (by omega)]
  · rw [if_neg (fun e => h ((zi_ltE h2 h1 hb ha).mp e)), h1, Nat.min_eq_left (by omega)]
theorem zinst_of {S : zS} {a c C : Nat} (h : ztyp S a = c) (h2 : zinst c C = true) : zinst (ztyp S a) C = true := by rw [h]; exact h2
theorem zinst_v {S : zS} {a c C : Nat} {v : Int32} (h : ztyp S a = c) (h2 : (if c = C then (1 : Int32) else 0) = v) : (if ztyp S a = C then (1 : Int32) else 0) = v := by rw [h]; exact h2
theorem zk5 {S : zS} {F a c v g : Nat} (h : ztyp S a = c) (h1 : zdr F c = true) (h2 : a < gN S) (h3 : zt0 c = g) (h4 : gP S g a = some v) : zdr F (ztyp S a) = true ∧ a < gN S ∧ gP S (zt0 (ztyp S a)) a = some v := by rw [h, h3]; exact ⟨h1, h2, h4⟩
section SXL
variable {T : Bool} {tb : List (Nat × List zE)} {me d : Nat} {post : Outcome × zS → Prop} {pc pc' : Nat} {L L' st st' r : List Value} {S S' : zS} {e : zE} {c : Option Prop} {cc : Prop} {v : Option Nat} {q a j me' ty : Nat} {i x w : Int32} {y z : Int64} {as : List Value}
theorem zv_iinc {i : Nat} (ht : ztab me = tb) (hl : zlk tb pc = some e) (hc : zcop e L st S = some (none, pc', zst1 L i (.int w), st, S)) (hw : w = x) (hL : zst1 L i (.int x) = L') (h : zEv d me pc' L' st S post) : zEv d me pc L st S post := by
  subst hw
  subst hL
  exact zv_c2 ht hl hc h
theorem zv_laE (ht : ztab me = tb) (hl : zlk tb pc = some e) (ho : e.2.1 = .laload) (hp : e.1 + e.2.2.1 = pc') (hst : st = .int i :: .ref a :: r) (hj : i.toNatClampNeg = j) (hc : ztyp S a = 103 ∧ vp_in i (zlen S a)) (hv : gL S a j = y) (h : zEv d me pc' L (.long y :: r) S post) : zEv d me pc L st S post := by
  subst hv
  exact zv_la ht hl ho hp hst hj hc h
theorem zv_na (ht : ztab me = tb) (hl : zlk tb pc = some e) (hc : zcop e L (.int i :: r) S = some (some ((¬ i < 0 ∧ i.toNatClampNeg ≤ 1000000) ∧ znew S ty i.toNatClampNeg), pc', L, .ref (gN S) :: r, sNew S ty i.toNatClampNeg i.toNatClampNeg)) (hp : e.1 + e.2.2.1 = pc') (hst : st = .int i :: r) (hj : i.toNatClampNeg = j) (h1 : (¬ i < 0 ∧ i.toNatClampNeg ≤ 1000000) ∧ znew S ty i.toNatClampNeg) (h : zEv d me pc' L (.ref (gN S) :: r) (sNew S ty j j) post) : zEv d me pc L st S post := by
  subst hj
  subst hst
  exact zv_ci ht hl hc h1 h
theorem zv_tgm {p n v a0 w : _} {ix c t a : Nat} {p1 p2 : Nat × Nat} {l : List (Nat × Nat)} {r : List Value} {S : zS} (h : ztyp S a = c) (hc : zvt (p1 :: p2 :: l) c = some t) : ztgt (p, Instr.invokevirtual ix, n, v, a0, w, p1 :: p2 :: l) (.ref a :: r) S = some t := by
  show zvt (p1 :: p2 :: l) (ztyp S a) = some t
  rw [h]; exact hc
end SXL
