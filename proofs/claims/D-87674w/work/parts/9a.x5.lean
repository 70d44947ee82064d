set_option maxRecDepth 100000
/-! ===== the house judges: nodes with one, two or three parts ===== -/
/-- the fields of a type -/
def nFl : List Nat := [145, 146, 147, 148, 149, 150, 151, 152, 153, 154, 155, 156]
/-- only the type of n is new -/
def xJd (S : zS) (n : Nat) (S' : zS) : Prop := S'.2 = S.2 ∧ ∀ f a, (a ≠ n ∨ f ∉ nFl) → gI S' f a = gI S f a
/-- the house's node has this type -/
def xTy (S : zS) (a : Nat) (t : t3) : Prop := gI S 145 a = t.1 + 1 ∧ (gI S 147 a = zbo (bt 0 t.2.1) ∧ gI S 148 a = zbo (bt 1 t.2.1) ∧ gI S 149 a = zbo (bt 2 t.2.1) ∧ gI S 150 a = zbo (bt 3 t.2.1) ∧ gI S 151 a = zbo (bt 4 t.2.1) ∧ gI S 152 a = zbo (bt 5 t.2.1) ∧ gI S 153 a = zbo (bt 6 t.2.1) ∧ gI S 154 a = zbo (bt 7 t.2.1) ∧ gI S 155 a = zbo (bt 8 t.2.1) ∧ gI S 156 a = zbo (bt 9 t.2.1)) ∧ gI S 146 a = t.2.2
/-- bases are four -/
def tB4 (p : Int32) : Prop := p = 0 ∨ p = 1 ∨ p = 2 ∨ p = 3
theorem xJd.rf {S : zS} {n : Nat} : xJd S n S := ⟨rfl, fun _ _ _ => rfl⟩
theorem xJd.tr {S S' S'' : zS} {n : Nat} (h : xJd S n S') (k : xJd S' n S'') : xJd S n S'' := ⟨k.1.trans h.1, fun f a hf => (k.2 f a hf).trans (h.2 f a hf)⟩
theorem xJd_sI {S : zS} {n f : Nat} {v : Int32} (h : f ∈ nFl) : xJd S n (sI S f n v) := by
  refine ⟨rfl, fun g a hg => ?_⟩
  by_cases e : g = f
  · subst e
    exact gI_sI_ne (hg.elim id (fun x => absurd h x))
  · exact zu_ne e
/-- kept, but for n -/
def xFn (S : zS) (n : Nat) (S' : zS) : Prop := zKE (gN S) [n] xFs S S'
theorem xFr.n {S S' : zS} {n : Nat} (h : xFr S S') : xFn S n S' := zKE.w h (Nat.le_refl _) (fun _ h => by cases h) (fun _ h => h)
theorem xJd_s {S S' : zS} {n f : Nat} {v : Int32} (k : xJd S n S') (h : f ∈ nFl) : xJd S n (sI S' f n v) := k.tr (xJd_sI h)
theorem gI_sI_nf {S : zS} {f g a b : Nat} {v : Int32} (h : g ≠ f) : gI (sI S f a v) g b = gI S g b := zu_ne h
theorem xTy_mk {T : zS} {n : Nat} {b f l lk : Int32} {P0 P1 P2 P3 P4 P5 P6 P7 P8 P9 MX : Prop} (hb : gI T 145 n = b + 1) (h0 : gI T 147 n = zbo P0) (h1 : gI T 148 n = zbo P1) (h2 : gI T 149 n = zbo P2) (h3 : gI T 150 n = zbo P3) (h4 : gI T 151 n = zbo P4) (h5 : gI T 152 n = zbo P5) (h6 : gI T 153 n = zbo P6) (h7 : gI T 154 n = zbo P7) (h8 : gI T 155 n = zbo P8) (h9 : gI T 156 n = zbo P9) (hl : gI T 146 n = l)
    (e0 : P0 ↔ bt 0 f) (e1 : P1 ↔ bt 1 f) (e2 : P2 ↔ bt 2 f) (e3 : P3 ↔ bt 3 f) (e4 : P4 ↔ bt 4 f) (e5 : P5 ↔ bt 5 f) (e6 : P6 ↔ bt 6 f) (e7 : P7 ↔ bt 7 f) (e8 : P8 ↔ bt 8 f) (e9 : ¬ bt 9 f) (em : P9 ↔ MX) (el : l = lk) : xTy T n (b, f ||| zit MX 512 0, lk) := by
  have q : ∀ i, i < 9 → (bt i (f ||| zit MX 512 0) ↔ bt i f) := by
    intro i hi
    rw [bt_or, bt_zit]
    have k5 : ∀ i, i < 9 → ¬ bt i 512 := by unfold bt; decide
    have k0 : ¬ bt i 0 := by
      unfold bt
      show ¬ (0#32).getLsbD i = true
      simp
    constructor
    · rintro (h | ⟨_, h⟩ | ⟨_, h⟩)
      · exact h
      · exact absurd h (k5 i hi)
      · exact absurd h k0
    · exact Or.inl
  have q9 : bt 9 (f ||| zit MX 512 0) ↔ MX := by
    rw [bt_or, bt_zit]
    have k0 : ¬ bt 9 0 := by unfold bt; decide
    have k5 : bt 9 512 := by unfold bt; decide
    constructor
    · rintro (h | ⟨h, _⟩ | ⟨_, h⟩)
      · exact absurd h e9
      · exact h
      · exact absurd h k0
    · intro h; exact Or.inr (Or.inl ⟨h, k5⟩)
  exact ⟨hb, ⟨h0.trans (zbo_congr (e0.trans (q 0 (by omega)).symm)), h1.trans (zbo_congr (e1.trans (q 1 (by omega)).symm)), h2.trans (zbo_congr (e2.trans (q 2 (by omega)).symm)), h3.trans (zbo_congr (e3.trans (q 3 (by omega)).symm)), h4.trans (zbo_congr (e4.trans (q 4 (by omega)).symm)), h5.trans (zbo_congr (e5.trans (q 5 (by omega)).symm)), h6.trans (zbo_congr (e6.trans (q 6 (by omega)).symm)), h7.trans (zbo_congr (e7.trans (q 7 (by omega)).symm)), h8.trans (zbo_congr (e8.trans (q 8 (by omega)).symm)), h9.trans (zbo_congr (em.trans q9.symm))⟩, hl.trans el⟩
theorem tyB_P {k v : Nat} (h : 11 ≤ k ∧ k < 17) (x y : t3) : tyB k v [x, y] = tyP k x.1 y.1 x.2.1 y.2.1 := by unfold tyB; rw [if_neg (by omega), if_neg (by omega), if_pos h.2]
theorem tyB_W {k v : Nat} (h : 19 ≤ k ∧ k < 26) (x : t3) : tyB k v [x] = tyW k x.1 x.2.1 := by unfold tyB; rw [if_neg (by omega), if_neg (by omega), if_neg (by omega), if_neg (by omega), if_pos h.2]
theorem tyN_some {k v : Nat} {l : List t3} {q : Int32 × Int32} (h : tyB k v l = some q) : tyN k v l = some (q.1, q.2 ||| zit (tyMx k v l) 512 0, lkL k v ||| lkAll l) := by unfold tyN; rw [h]; rfl
/-- a new fault -/
theorem xF_new {S : zS} (hF : zFin true S) (h0 : 1639 ≤ gN S) (hN2 : gN S < 1900000) (k : Int32) (kn p : Nat) (hk : k = Int32.ofNat kn) {v : Int32} (hv : v = Int32.ofNat p) : zFin true (sI (sI (sT (sNew S 8 0 (zslots 8)) (gN S) 8 1) 136 (gN S) k) 137 (gN S) v) ∧ xFr S (sI (sI (sT (sNew S 8 0 (zslots 8)) (gN S) 8 1) 136 (gN S) k) 137 (gN S) v) ∧ xFl (sI (sI (sT (sNew S 8 0 (zslots 8)) (gN S) 8 1) 136 (gN S) k) 137 (gN S) v) (gN S) kn p ∧ gN S + 1 = gN (sI (sI (sT (sNew S 8 0 (zslots 8)) (gN S) 8 1) 136 (gN S) k) 137 (gN S) v) ∧ gZ (sI (sI (sT (sNew S 8 0 (zslots 8)) (gN S) 8 1) 136 (gN S) k) 137 (gN S) v) ≤ gZ S + 3 := by
  subst hk
  subst hv
  have hLB : zLB = 4294967296 := rfl
  refine ⟨by first | exact zFin_new hF | exact hF, ((zKE_new ⟨Nat.le_refl _, by omega⟩).tr (zKE_sT ⟨Nat.le_refl _, by omega⟩)).tr ((zKE_sI (Or.inr (Or.inr ⟨Nat.le_refl _, by omega⟩))).tr (zKE_sI (Or.inr (Or.inr ⟨Nat.le_refl _, by omega⟩)))), ⟨ztyp_sT1 (by omega), ?_, gI_sI_at, Nat.lt_succ_self _, by omega⟩, rfl, Nat.le_refl _⟩
  show gI (sI (sT (sNew S 8 0 (zslots 8)) (gN S) 8 1) 136 (gN S) (Int32.ofNat kn)) 136 (gN S) = _
  exact gI_sI_at
theorem pj_0 {d : Nat} {S : zS} (hF : zFin true S) (hd : 2 ≤ d) (n x y : Nat) (p q a b tx ty : Int32) (hn0 : 1639 ≤ n) (hn : n < gN S) (hx : x < gN S) (hxn : x ≠ n) (hy : y < gN S) (hyn : y ≠ n) (hcx : zNc (ztyp S x) = true) (hcy : zNc (ztyp S y) = true) (hN2 : gN S < 1900000) (htn : ztyp S n = 20) (how : gI S 187 n = Int32.ofNat 0) (hpx : gP S 188 n = some x) (hpy : gP S 189 n = some y) (hbx : gI S 145 x = p + 1) (hzx : gI S 147 x = zbo (bt 0 a)) (hox : gI S 148 x = zbo (bt 1 a)) (hnx : gI S 149 x = zbo (bt 2 a)) (hdx : gI S 150 x = zbo (bt 3 a)) (hux : gI S 151 x = zbo (bt 4 a)) (hsx : gI S 152 x = zbo (bt 5 a)) (hfx : gI S 153 x = zbo (bt 6 a)) (hex : gI S 154 x = zbo (bt 7 a)) (hmx : gI S 155 x = zbo (bt 8 a)) (hmixedx : gI S 156 x = zbo (bt 9 a)) (htx : gI S 146 x = tx) (hby : gI S 145 y = q + 1) (hzy : gI S 147 y = zbo (bt 0 b)) (hoy : gI S 148 y = zbo (bt 1 b)) (hny : gI S 149 y = zbo (bt 2 b)) (hdy : gI S 150 y = zbo (bt 3 b)) (huy : gI S 151 y = zbo (bt 4 b)) (hsy : gI S 152 y = zbo (bt 5 b)) (hfy : gI S 153 y = zbo (bt 6 b)) (hey : gI S 154 y = zbo (bt 7 b)) (hmy : gI S 155 y = zbo (bt 8 b)) (hmixedy : gI S 156 y = zbo (bt 9 b)) (hty : gI S 146 y = ty) (hm0 : gI S 156 n = zbo False) (ht0 : gI S 146 n = 0) {post : Outcome × zS → Prop} (h1 : (((p + 1) = 2) ∧ (¬ ((q + 1) = 4))) → post (.returned none, sI (sI (sI (sI (sI (sI (sI (sI (sI (sI (sI (sI (sI (sI (sI S 145 n (q + 1)) 147 n (zbo ((bt 0 a) ∧ (bt 0 b)))) 148 n (zbo (((bt 1 a) ∧ (bt 0 b)) ∨ ((bt 0 a) ∧ (bt 1 b))))) 149 n (zbo ((bt 2 a) ∨ ((bt 0 a) ∧ (bt 2 b))))) 150 n 0) 151 n (zbo (bt 4 b))) 152 n (zbo ((bt 5 a) ∨ (bt 5 b)))) 153 n (zbo ((bt 5 a) ∨ (bt 6 b)))) 154 n 0) 155 n (zbo ((bt 8 a) ∧ (bt 8 b)))) 156 n (zbo (bt 9 a))) 146 n ((0 : Int32) ||| tx)) 156 n (zbo ((bt 9 a) ∨ (((¬ ((((0 : Int32) ||| tx) &&& (1 : Int32)) = 0)) ∧ (¬ ((ty &&& (2 : Int32)) = 0))) ∨ ((¬ ((((0 : Int32) ||| tx) &&& (2 : Int32)) = 0)) ∧ (¬ ((ty &&& (1 : Int32)) = 0)))) ∨ ((¬ ((((0 : Int32) ||| tx) &&& (4 : Int32)) = 0)) ∧ (¬ ((ty &&& (8 : Int32)) = 0))) ∨ ((¬ ((((0 : Int32) ||| tx) &&& (8 : Int32)) = 0)) ∧ (¬ ((ty &&& (4 : Int32)) = 0)))))) 156 n (zbo (((bt 9 a) ∨ (((¬ ((((0 : Int32) ||| tx) &&& (1 : Int32)) = 0)) ∧ (¬ ((ty &&& (2 : Int32)) = 0))) ∨ ((¬ ((((0 : Int32) ||| tx) &&& (2 : Int32)) = 0)) ∧ (¬ ((ty &&& (1 : Int32)) = 0)))) ∨ ((¬ ((((0 : Int32) ||| tx) &&& (4 : Int32)) = 0)) ∧ (¬ ((ty &&& (8 : Int32)) = 0))) ∨ ((¬ ((((0 : Int32) ||| tx) &&& (8 : Int32)) = 0)) ∧ (¬ ((ty &&& (4 : Int32)) = 0)))) ∨ (bt 9 b)))) 146 n (((0 : Int32) ||| tx) ||| ty))) (h2 : (¬ (((p + 1) = 2) ∧ (¬ ((q + 1) = 4)))) → post (.threw (gN S), sI (sI (sT (sNew S 8 0 (zslots 8)) (gN S) 8 1) 136 (gN S) 3) 137 (gN S) (gI S 144 n))) : zCall d 371 [.ref n] S post := by
  have ht : ztab 371 = ztb371 := rfl
  show zEv d 371 0 [.ref n, .retAddr 0, .retAddr 0, .retAddr 0, .retAddr 0, .retAddr 0, .retAddr 0] [] S post
  refine zv_c1 ht rfl rfl ?_
  have C2 : ∀ (pst1 : Outcome × zS → Prop), (pst1 (.returned (some (.int (zbo (((p + 1) = 2) ∧ (¬ ((q + 1) = 4)))))), S)) → zCall (d - 1) 372 [.ref n] S pst1 := by
    intro pst1 k10
    have ht3 : ztab 372 = ztb372 := rfl
    show zEv (d - 1) 372 0 [.ref n] [] S pst1
    refine zv_c1 ht3 rfl rfl ?_
    refine zv_ei (x := 0) ht3 rfl rfl (zhas_of (htn) rfl) how ?_
    refine zv_sw ht3 rfl rfl rfl rfl rfl ?_
    refine And.intro (fun _ => ?_) (fun h => absurd (by decide) h)
    refine zv_c1 ht3 rfl rfl ?_
    refine zv_g3 (q := x) ht3 rfl hF rfl rfl (zhas_of (htn) rfl) hpx ?_
    refine zv_ei (x := p + 1) ht3 rfl rfl (zhas_nc hcx (by decide)) hbx ?_
    refine zv_c1 ht3 rfl rfl ?_
    have J8 : zEv (d - 1) 372 67 [.retAddr 0] [.int (zbo (((p + 1) = 2) ∧ (¬ ((q + 1) = 4))))] S pst1 := by
      exact zv_rc ht3 rfl rfl rfl rfl zbo_rng k10
    have J6 : ((¬ ((p + 1) = 2)) ∨ ((q + 1) = 4)) → zEv (d - 1) 372 66 [.retAddr 0] [] S pst1 := by
      intro b7
      refine zv_c1 ht3 rfl rfl ?_
      exact (zv_sub (zz := zbo (((p + 1) = 2) ∧ (¬ ((q + 1) = 4)))) (zy := 0) (p := fun zz => zEv (d - 1) 372 67 [.retAddr 0] [.int zz] S pst1) (zbo_neg (b7.elim (fun y1 => (fun h => y1 h.1)) (fun y1 => (fun h => (fun h => h y1) h.2)))) J8)
    refine zv_br ht3 rfl rfl rfl (fun b4 => ?_) (fun b4 => ?_)
    · exact zEv.wk (L := [.retAddr 0]) (L' := [.ref n]) (And.intro (Or.inr rfl) trivial) (J6 (Or.inl b4))
    · replace b4 : (p + 1) = 2 := Classical.not_not.mp b4
      refine zv_c1 ht3 rfl rfl ?_
      refine zv_g3 (q := y) ht3 rfl hF rfl rfl (zhas_of (htn) rfl) hpy ?_
      refine zv_ei (x := q + 1) ht3 rfl rfl (zhas_nc hcy (by decide)) hby ?_
      refine zv_c1 ht3 rfl rfl ?_
      refine zv_br ht3 rfl rfl rfl (fun b5 => ?_) (fun b5 => ?_)
      · exact zEv.wk (L := [.retAddr 0]) (L' := [.ref n]) (And.intro (Or.inr rfl) trivial) (J6 (Or.inr b5))
      · refine zv_c1 ht3 rfl rfl (zv_c1 ht3 rfl rfl ?_)
        exact zEv.wk (L := [.retAddr 0]) (L' := [.ref n]) (And.intro (Or.inr rfl) trivial) (zv_sub (zz := zbo (((p + 1) = 2) ∧ (¬ ((q + 1) = 4)))) (zy := 1) (p := fun zz => zEv (d - 1) 372 67 [.retAddr 0] [.int zz] S pst1) (zbo_pos ⟨b4, b5⟩) J8)
  refine zv_cl ht rfl rfl rfl (zv_tgv (htn) rfl) (by omega) (Nat.le_of_ble_eq_true rfl) (C2 _ ?_)
  show zEv d 371 4 [.ref n, .retAddr 0, .retAddr 0, .retAddr 0, .retAddr 0, .retAddr 0, .retAddr 0] [.int (zbo (((p + 1) = 2) ∧ (¬ ((q + 1) = 4))))] S post
  refine zv_br ht rfl rfl rfl (fun b11 => ?_) (fun b11 => ?_)
  · replace b11 : ((p + 1) = 2) ∧ (¬ ((q + 1) = 4)) := Classical.byContradiction (fun h => b11 ((zbo_eq0 : (zbo (((p + 1) = 2) ∧ (¬ ((q + 1) = 4)))) = 0 ↔ ¬ (((p + 1) = 2) ∧ (¬ ((q + 1) = 4)))).mpr h))
    refine zv_c1 ht rfl rfl ?_
    refine zv_g3 (q := x) ht rfl hF rfl rfl (zhas_of (htn) rfl) hpx ?_
    refine zv_ei (x := zbo (bt 0 a)) ht rfl rfl (zhas_nc hcx (by decide)) hzx ?_
    have J16 : zEv d 371 37 [.ref n, .retAddr 0, .retAddr 0, .retAddr 0, .retAddr 0, .retAddr 0, .retAddr 0] [.int (zbo ((bt 0 a) ∧ (bt 0 b)))] S post := by
      refine zv_c2 (L' := [.ref n, .int (zbo ((bt 0 a) ∧ (bt 0 b))), .retAddr 0, .retAddr 0, .retAddr 0, .retAddr 0, .retAddr 0]) ht rfl rfl ?_
      refine zv_c1 ht rfl rfl ?_
      refine zv_g3 (q := x) ht rfl hF rfl rfl (zhas_of (htn) rfl) hpx ?_
      refine zv_ei (x := zbo (bt 1 a)) ht rfl rfl (zhas_nc hcx (by decide)) hox ?_
      have J22 : zEv d 371 63 [.ref n, .int (zbo ((bt 0 a) ∧ (bt 0 b))), .retAddr 0, .retAddr 0, .retAddr 0, .retAddr 0, .retAddr 0] [.int (zbo ((bt 1 a) ∧ (bt 0 b)))] S post := by
        refine zv_c2 (L' := [.ref n, .int (zbo ((bt 0 a) ∧ (bt 0 b))), .int (zbo ((bt 1 a) ∧ (bt 0 b))), .retAddr 0, .retAddr 0, .retAddr 0, .retAddr 0]) ht rfl rfl ?_
        refine zv_c1 ht rfl rfl ?_
        have J31 : zEv d 371 93 [.ref n, .int (zbo ((bt 0 a) ∧ (bt 0 b))), .int (zbo ((bt 1 a) ∧ (bt 0 b))), .retAddr 0, .retAddr 0, .retAddr 0, .retAddr 0] [.int (zbo (((bt 1 a) ∧ (bt 0 b)) ∨ ((bt 0 a) ∧ (bt 1 b))))] S post := by
          refine zv_c2 (L' := [.ref n, .int (zbo ((bt 0 a) ∧ (bt 0 b))), .int (zbo ((bt 1 a) ∧ (bt 0 b))), .int (zbo (((bt 1 a) ∧ (bt 0 b)) ∨ ((bt 0 a) ∧ (bt 1 b)))), .retAddr 0, .retAddr 0, .retAddr 0]) ht rfl rfl ?_
          refine zv_c1 ht rfl rfl ?_
          refine zv_g3 (q := x) ht rfl hF rfl rfl (zhas_of (htn) rfl) hpx ?_
          refine zv_ei (x := zbo (bt 8 a)) ht rfl rfl (zhas_nc hcx (by decide)) hmx ?_
          have J37 : zEv d 371 119 [.ref n, .int (zbo ((bt 0 a) ∧ (bt 0 b))), .int (zbo ((bt 1 a) ∧ (bt 0 b))), .int (zbo (((bt 1 a) ∧ (bt 0 b)) ∨ ((bt 0 a) ∧ (bt 1 b)))), .retAddr 0, .retAddr 0, .retAddr 0] [.int (zbo ((bt 8 a) ∧ (bt 8 b)))] S post := by
            refine zv_c2 (L' := [.ref n, .int (zbo ((bt 0 a) ∧ (bt 0 b))), .int (zbo ((bt 1 a) ∧ (bt 0 b))), .int (zbo (((bt 1 a) ∧ (bt 0 b)) ∨ ((bt 0 a) ∧ (bt 1 b)))), .int (zbo ((bt 8 a) ∧ (bt 8 b))), .retAddr 0, .retAddr 0]) ht rfl rfl ?_
            refine zv_c1 ht rfl rfl ?_
            refine zv_g3 (q := x) ht rfl hF rfl rfl (zhas_of (htn) rfl) hpx ?_
            refine zv_ei (x := zbo (bt 5 a)) ht rfl rfl (zhas_nc hcx (by decide)) hsx ?_
            have J43 : zEv d 371 146 [.ref n, .int (zbo ((bt 0 a) ∧ (bt 0 b))), .int (zbo ((bt 1 a) ∧ (bt 0 b))), .int (zbo (((bt 1 a) ∧ (bt 0 b)) ∨ ((bt 0 a) ∧ (bt 1 b)))), .int (zbo ((bt 8 a) ∧ (bt 8 b))), .retAddr 0, .retAddr 0] [.int (zbo ((bt 5 a) ∨ (bt 5 b)))] S post := by
              refine zv_c2 (L' := [.ref n, .int (zbo ((bt 0 a) ∧ (bt 0 b))), .int (zbo ((bt 1 a) ∧ (bt 0 b))), .int (zbo (((bt 1 a) ∧ (bt 0 b)) ∨ ((bt 0 a) ∧ (bt 1 b)))), .int (zbo ((bt 8 a) ∧ (bt 8 b))), .int (zbo ((bt 5 a) ∨ (bt 5 b))), .retAddr 0]) ht rfl rfl ?_
              refine zv_c1 ht rfl rfl ?_
              refine zv_g3 (q := x) ht rfl hF rfl rfl (zhas_of (htn) rfl) hpx ?_
              refine zv_ei (x := zbo (bt 5 a)) ht rfl rfl (zhas_nc hcx (by decide)) hsx ?_
              have J49 : zEv d 371 173 [.ref n, .int (zbo ((bt 0 a) ∧ (bt 0 b))), .int (zbo ((bt 1 a) ∧ (bt 0 b))), .int (zbo (((bt 1 a) ∧ (bt 0 b)) ∨ ((bt 0 a) ∧ (bt 1 b)))), .int (zbo ((bt 8 a) ∧ (bt 8 b))), .int (zbo ((bt 5 a) ∨ (bt 5 b))), .retAddr 0] [.int (zbo ((bt 5 a) ∧ (bt 5 b)))] S post := by
                refine zv_c2 (L' := [.ref n, .int (zbo ((bt 0 a) ∧ (bt 0 b))), .int (zbo ((bt 1 a) ∧ (bt 0 b))), .int (zbo (((bt 1 a) ∧ (bt 0 b)) ∨ ((bt 0 a) ∧ (bt 1 b)))), .int (zbo ((bt 8 a) ∧ (bt 8 b))), .int (zbo ((bt 5 a) ∨ (bt 5 b))), .int (zbo ((bt 5 a) ∧ (bt 5 b)))]) ht rfl rfl ?_
                refine zv_c1 ht rfl rfl ?_
                refine zv_ei (x := 0) ht rfl rfl (zhas_of (htn) rfl) how ?_
                refine zv_sw ht rfl rfl rfl rfl rfl ?_
                refine And.intro (fun _ => ?_) (fun h => absurd (by decide) h)
                refine zv_c1 ht rfl rfl (zv_c1 ht rfl rfl ?_)
                refine zv_g3 (q := y) ht rfl hF rfl rfl (zhas_of (htn) rfl) hpy ?_
                refine zv_ei (x := q + 1) ht rfl rfl (zhas_nc hcy (by decide)) hby ?_
                refine zv_c1 ht rfl rfl (zv_c1 ht rfl rfl (zv_c1 ht rfl rfl ?_))
                refine zv_g3 (q := x) ht rfl hF rfl rfl (zhas_of (htn) rfl) hpx ?_
                refine zv_ei (x := zbo (bt 2 a)) ht rfl rfl (zhas_nc hcx (by decide)) hnx ?_
                have J58 : zEv d 371 257 [.ref n, .retAddr 0, .retAddr 0, .retAddr 0, .int (zbo ((bt 8 a) ∧ (bt 8 b))), .int (zbo ((bt 5 a) ∨ (bt 5 b))), .retAddr 0] [.int (zbo ((bt 2 a) ∨ ((bt 0 a) ∧ (bt 2 b)))), .int (zbo (((bt 1 a) ∧ (bt 0 b)) ∨ ((bt 0 a) ∧ (bt 1 b)))), .int (zbo ((bt 0 a) ∧ (bt 0 b))), .int (q + 1), .ref n] S post := by
                  refine zv_c1 ht rfl rfl (zv_c1 ht rfl rfl ?_)
                  refine zv_g3 (q := y) ht rfl hF rfl rfl (zhas_of (htn) rfl) hpy ?_
                  refine zv_ei (x := zbo (bt 4 b)) ht rfl rfl (zhas_nc hcy (by decide)) huy ?_
                  have C61 : ∀ (pst60 : Outcome × zS → Prop), (pst60 (.returned none, sI (sI (sI (sI (sI (sI S 145 n (q + 1)) 147 n (zbo ((bt 0 a) ∧ (bt 0 b)))) 148 n (zbo (((bt 1 a) ∧ (bt 0 b)) ∨ ((bt 0 a) ∧ (bt 1 b))))) 149 n (zbo ((bt 2 a) ∨ ((bt 0 a) ∧ (bt 2 b))))) 150 n 0) 151 n (zbo (bt 4 b)))) → zCall (d - 1) 284 [.ref n, .int (q + 1), .int (zbo ((bt 0 a) ∧ (bt 0 b))), .int (zbo (((bt 1 a) ∧ (bt 0 b)) ∨ ((bt 0 a) ∧ (bt 1 b)))), .int (zbo ((bt 2 a) ∨ ((bt 0 a) ∧ (bt 2 b)))), .int 0, .int (zbo (bt 4 b))] S pst60 := by
                    intro pst60 k63
                    have ht62 : ztab 284 = ztb284 := rfl
                    show zEv (d - 1) 284 0 [.ref n, .int (q + 1), .int (zbo ((bt 0 a) ∧ (bt 0 b))), .int (zbo (((bt 1 a) ∧ (bt 0 b)) ∨ ((bt 0 a) ∧ (bt 1 b)))), .int (zbo ((bt 2 a) ∨ ((bt 0 a) ∧ (bt 2 b)))), .int 0, .int (zbo (bt 4 b))] [] S pst60
                    refine zv_c1 ht62 rfl rfl (zv_c1 ht62 rfl rfl ?_)
                    refine zv_ci (S' := sI S 145 n (q + 1)) ht62 rfl rfl ⟨(zhas_of (htn) rfl), (show n < gN S from by omega)⟩ ?_
                    refine zv_c1 ht62 rfl rfl (zv_c1 ht62 rfl rfl ?_)
                    refine zv_ci (S' := sI (sI S 145 n (q + 1)) 147 n (zbo ((bt 0 a) ∧ (bt 0 b)))) ht62 rfl rfl ⟨⟨(zhas_of (htn) rfl), (show n < gN S from by omega)⟩, zbo_rng⟩ ?_
                    refine zv_c1 ht62 rfl rfl (zv_c1 ht62 rfl rfl ?_)
                    refine zv_ci (S' := sI (sI (sI S 145 n (q + 1)) 147 n (zbo ((bt 0 a) ∧ (bt 0 b)))) 148 n (zbo (((bt 1 a) ∧ (bt 0 b)) ∨ ((bt 0 a) ∧ (bt 1 b))))) ht62 rfl rfl ⟨⟨(zhas_of (htn) rfl), (show n < gN S from by omega)⟩, zbo_rng⟩ ?_
                    refine zv_c1 ht62 rfl rfl (zv_c1 ht62 rfl rfl ?_)
                    refine zv_ci (S' := sI (sI (sI (sI S 145 n (q + 1)) 147 n (zbo ((bt 0 a) ∧ (bt 0 b)))) 148 n (zbo (((bt 1 a) ∧ (bt 0 b)) ∨ ((bt 0 a) ∧ (bt 1 b))))) 149 n (zbo ((bt 2 a) ∨ ((bt 0 a) ∧ (bt 2 b))))) ht62 rfl rfl ⟨⟨(zhas_of (htn) rfl), (show n < gN S from by omega)⟩, zbo_rng⟩ ?_
                    refine zv_c1 ht62 rfl rfl (zv_c1 ht62 rfl rfl ?_)
                    refine zv_ci (S' := sI (sI (sI (sI (sI S 145 n (q + 1)) 147 n (zbo ((bt 0 a) ∧ (bt 0 b)))) 148 n (zbo (((bt 1 a) ∧ (bt 0 b)) ∨ ((bt 0 a) ∧ (bt 1 b))))) 149 n (zbo ((bt 2 a) ∨ ((bt 0 a) ∧ (bt 2 b))))) 150 n 0) ht62 rfl rfl ⟨⟨(zhas_of (htn) rfl), (show n < gN S from by omega)⟩, (by decide)⟩ ?_
                    refine zv_c1 ht62 rfl rfl (zv_c1 ht62 rfl rfl ?_)
                    refine zv_ci (S' := sI (sI (sI (sI (sI (sI S 145 n (q + 1)) 147 n (zbo ((bt 0 a) ∧ (bt 0 b)))) 148 n (zbo (((bt 1 a) ∧ (bt 0 b)) ∨ ((bt 0 a) ∧ (bt 1 b))))) 149 n (zbo ((bt 2 a) ∨ ((bt 0 a) ∧ (bt 2 b))))) 150 n 0) 151 n (zbo (bt 4 b))) ht62 rfl rfl ⟨⟨(zhas_of (htn) rfl), (show n < gN S from by omega)⟩, zbo_rng⟩ ?_
                    exact zv_rt ht62 rfl rfl rfl rfl k63
                  refine zv_cl ht rfl rfl rfl (zv_tgv (htn) rfl) (by omega) (Nat.le_of_ble_eq_true rfl) (C61 _ ?_)
                  show zEv d 371 268 [.ref n, .retAddr 0, .retAddr 0, .retAddr 0, .int (zbo ((bt 8 a) ∧ (bt 8 b))), .int (zbo ((bt 5 a) ∨ (bt 5 b))), .retAddr 0] [] (sI (sI (sI (sI (sI (sI S 145 n (q + 1)) 147 n (zbo ((bt 0 a) ∧ (bt 0 b)))) 148 n (zbo (((bt 1 a) ∧ (bt 0 b)) ∨ ((bt 0 a) ∧ (bt 1 b))))) 149 n (zbo ((bt 2 a) ∨ ((bt 0 a) ∧ (bt 2 b))))) 150 n 0) 151 n (zbo (bt 4 b))) post
                  refine zv_c1 ht rfl rfl (zv_c1 ht rfl rfl (zv_c1 ht rfl rfl ?_))
                  refine zv_g3 (q := x) ht rfl hF rfl rfl (zhas_of (htn) rfl) hpx ?_
                  refine zv_ei (x := zbo (bt 5 a)) ht rfl rfl (zhas_nc hcx (by decide)) hsx ?_
                  have J68 : zEv d 371 296 [.ref n, .retAddr 0, .retAddr 0, .retAddr 0, .int (zbo ((bt 8 a) ∧ (bt 8 b))), .retAddr 0, .retAddr 0] [.int (zbo ((bt 5 a) ∨ (bt 6 b))), .int (zbo ((bt 5 a) ∨ (bt 5 b))), .ref n] (sI (sI (sI (sI (sI (sI S 145 n (q + 1)) 147 n (zbo ((bt 0 a) ∧ (bt 0 b)))) 148 n (zbo (((bt 1 a) ∧ (bt 0 b)) ∨ ((bt 0 a) ∧ (bt 1 b))))) 149 n (zbo ((bt 2 a) ∨ ((bt 0 a) ∧ (bt 2 b))))) 150 n 0) 151 n (zbo (bt 4 b))) post := by
                    refine zv_c1 ht rfl rfl (zv_c1 ht rfl rfl ?_)
                    have C71 : ∀ (pst70 : Outcome × zS → Prop), (pst70 (.returned none, sI (sI (sI (sI (sI (sI (sI (sI (sI (sI S 145 n (q + 1)) 147 n (zbo ((bt 0 a) ∧ (bt 0 b)))) 148 n (zbo (((bt 1 a) ∧ (bt 0 b)) ∨ ((bt 0 a) ∧ (bt 1 b))))) 149 n (zbo ((bt 2 a) ∨ ((bt 0 a) ∧ (bt 2 b))))) 150 n 0) 151 n (zbo (bt 4 b))) 152 n (zbo ((bt 5 a) ∨ (bt 5 b)))) 153 n (zbo ((bt 5 a) ∨ (bt 6 b)))) 154 n 0) 155 n (zbo ((bt 8 a) ∧ (bt 8 b))))) → zCall (d - 1) 285 [.ref n, .int (zbo ((bt 5 a) ∨ (bt 5 b))), .int (zbo ((bt 5 a) ∨ (bt 6 b))), .int 0, .int (zbo ((bt 8 a) ∧ (bt 8 b)))] (sI (sI (sI (sI (sI (sI S 145 n (q + 1)) 147 n (zbo ((bt 0 a) ∧ (bt 0 b)))) 148 n (zbo (((bt 1 a) ∧ (bt 0 b)) ∨ ((bt 0 a) ∧ (bt 1 b))))) 149 n (zbo ((bt 2 a) ∨ ((bt 0 a) ∧ (bt 2 b))))) 150 n 0) 151 n (zbo (bt 4 b))) pst70 := by
                      intro pst70 k73
                      have ht72 : ztab 285 = ztb285 := rfl
                      show zEv (d - 1) 285 0 [.ref n, .int (zbo ((bt 5 a) ∨ (bt 5 b))), .int (zbo ((bt 5 a) ∨ (bt 6 b))), .int 0, .int (zbo ((bt 8 a) ∧ (bt 8 b)))] [] (sI (sI (sI (sI (sI (sI S 145 n (q + 1)) 147 n (zbo ((bt 0 a) ∧ (bt 0 b)))) 148 n (zbo (((bt 1 a) ∧ (bt 0 b)) ∨ ((bt 0 a) ∧ (bt 1 b))))) 149 n (zbo ((bt 2 a) ∨ ((bt 0 a) ∧ (bt 2 b))))) 150 n 0) 151 n (zbo (bt 4 b))) pst70
                      refine zv_c1 ht72 rfl rfl (zv_c1 ht72 rfl rfl ?_)
                      refine zv_ci (S' := sI (sI (sI (sI (sI (sI (sI S 145 n (q + 1)) 147 n (zbo ((bt 0 a) ∧ (bt 0 b)))) 148 n (zbo (((bt 1 a) ∧ (bt 0 b)) ∨ ((bt 0 a) ∧ (bt 1 b))))) 149 n (zbo ((bt 2 a) ∨ ((bt 0 a) ∧ (bt 2 b))))) 150 n 0) 151 n (zbo (bt 4 b))) 152 n (zbo ((bt 5 a) ∨ (bt 5 b)))) ht72 rfl rfl ⟨⟨(zhas_of (htn) rfl), (show n < gN S from by omega)⟩, zbo_rng⟩ ?_
                      refine zv_c1 ht72 rfl rfl (zv_c1 ht72 rfl rfl ?_)
                      refine zv_ci (S' := sI (sI (sI (sI (sI (sI (sI (sI S 145 n (q + 1)) 147 n (zbo ((bt 0 a) ∧ (bt 0 b)))) 148 n (zbo (((bt 1 a) ∧ (bt 0 b)) ∨ ((bt 0 a) ∧ (bt 1 b))))) 149 n (zbo ((bt 2 a) ∨ ((bt 0 a) ∧ (bt 2 b))))) 150 n 0) 151 n (zbo (bt 4 b))) 152 n (zbo ((bt 5 a) ∨ (bt 5 b)))) 153 n (zbo ((bt 5 a) ∨ (bt 6 b)))) ht72 rfl rfl ⟨⟨(zhas_of (htn) rfl), (show n < gN S from by omega)⟩, zbo_rng⟩ ?_
                      refine zv_c1 ht72 rfl rfl (zv_c1 ht72 rfl rfl ?_)
                      refine zv_ci (S' := sI (sI (sI (sI (sI (sI (sI (sI (sI S 145 n (q + 1)) 147 n (zbo ((bt 0 a) ∧ (bt 0 b)))) 148 n (zbo (((bt 1 a) ∧ (bt 0 b)) ∨ ((bt 0 a) ∧ (bt 1 b))))) 149 n (zbo ((bt 2 a) ∨ ((bt 0 a) ∧ (bt 2 b))))) 150 n 0) 151 n (zbo (bt 4 b))) 152 n (zbo ((bt 5 a) ∨ (bt 5 b)))) 153 n (zbo ((bt 5 a) ∨ (bt 6 b)))) 154 n 0) ht72 rfl rfl ⟨⟨(zhas_of (htn) rfl), (show n < gN S from by omega)⟩, (by decide)⟩ ?_
                      refine zv_c1 ht72 rfl rfl (zv_c1 ht72 rfl rfl ?_)
                      refine zv_ci (S' := sI (sI (sI (sI (sI (sI (sI (sI (sI (sI S 145 n (q + 1)) 147 n (zbo ((bt 0 a) ∧ (bt 0 b)))) 148 n (zbo (((bt 1 a) ∧ (bt 0 b)) ∨ ((bt 0 a) ∧ (bt 1 b))))) 149 n (zbo ((bt 2 a) ∨ ((bt 0 a) ∧ (bt 2 b))))) 150 n 0) 151 n (zbo (bt 4 b))) 152 n (zbo ((bt 5 a) ∨ (bt 5 b)))) 153 n (zbo ((bt 5 a) ∨ (bt 6 b)))) 154 n 0) 155 n (zbo ((bt 8 a) ∧ (bt 8 b)))) ht72 rfl rfl ⟨⟨(zhas_of (htn) rfl), (show n < gN S from by omega)⟩, zbo_rng⟩ ?_
                      exact zv_rt ht72 rfl rfl rfl rfl k73
                    refine zv_cl ht rfl rfl rfl (zv_tgv (htn) rfl) (by omega) (Nat.le_of_ble_eq_true rfl) (C71 _ ?_)
                    show zEv d 371 302 [.ref n, .retAddr 0, .retAddr 0, .retAddr 0, .int (zbo ((bt 8 a) ∧ (bt 8 b))), .retAddr 0, .retAddr 0] [] (sI (sI (sI (sI (sI (sI (sI (sI (sI (sI S 145 n (q + 1)) 147 n (zbo ((bt 0 a) ∧ (bt 0 b)))) 148 n (zbo (((bt 1 a) ∧ (bt 0 b)) ∨ ((bt 0 a) ∧ (bt 1 b))))) 149 n (zbo ((bt 2 a) ∨ ((bt 0 a) ∧ (bt 2 b))))) 150 n 0) 151 n (zbo (bt 4 b))) 152 n (zbo ((bt 5 a) ∨ (bt 5 b)))) 153 n (zbo ((bt 5 a) ∨ (bt 6 b)))) 154 n 0) 155 n (zbo ((bt 8 a) ∧ (bt 8 b)))) post
                    refine zv_c1 ht rfl rfl (zv_c1 ht rfl rfl (zv_c1 ht rfl rfl ?_))
                    refine zv_g3 (q := x) ht rfl hF rfl rfl (zhas_of (htn) rfl) hpx ?_
                    refine zv_c1 ht rfl rfl ?_
                    have C75 : ∀ (pst74 : Outcome × zS → Prop), (pst74 (.returned none, sI (sI (sI (sI (sI (sI (sI (sI (sI (sI (sI (sI S 145 n (q + 1)) 147 n (zbo ((bt 0 a) ∧ (bt 0 b)))) 148 n (zbo (((bt 1 a) ∧ (bt 0 b)) ∨ ((bt 0 a) ∧ (bt 1 b))))) 149 n (zbo ((bt 2 a) ∨ ((bt 0 a) ∧ (bt 2 b))))) 150 n 0) 151 n (zbo (bt 4 b))) 152 n (zbo ((bt 5 a) ∨ (bt 5 b)))) 153 n (zbo ((bt 5 a) ∨ (bt 6 b)))) 154 n 0) 155 n (zbo ((bt 8 a) ∧ (bt 8 b)))) 156 n (zbo (bt 9 a))) 146 n ((0 : Int32) ||| tx))) → zCall (d - 1) 286 [.ref n, .ref x, .int 0] (sI (sI (sI (sI (sI (sI (sI (sI (sI (sI S 145 n (q + 1)) 147 n (zbo ((bt 0 a) ∧ (bt 0 b)))) 148 n (zbo (((bt 1 a) ∧ (bt 0 b)) ∨ ((bt 0 a) ∧ (bt 1 b))))) 149 n (zbo ((bt 2 a) ∨ ((bt 0 a) ∧ (bt 2 b))))) 150 n 0) 151 n (zbo (bt 4 b))) 152 n (zbo ((bt 5 a) ∨ (bt 5 b)))) 153 n (zbo ((bt 5 a) ∨ (bt 6 b)))) 154 n 0) 155 n (zbo ((bt 8 a) ∧ (bt 8 b)))) pst74 := by
                      intro pst74 k81
                      have ht76 : ztab 286 = ztb286 := rfl
                      show zEv (d - 1) 286 0 [.ref n, .ref x, .int 0] [] (sI (sI (sI (sI (sI (sI (sI (sI (sI (sI S 145 n (q + 1)) 147 n (zbo ((bt 0 a) ∧ (bt 0 b)))) 148 n (zbo (((bt 1 a) ∧ (bt 0 b)) ∨ ((bt 0 a) ∧ (bt 1 b))))) 149 n (zbo ((bt 2 a) ∨ ((bt 0 a) ∧ (bt 2 b))))) 150 n 0) 151 n (zbo (bt 4 b))) 152 n (zbo ((bt 5 a) ∨ (bt 5 b)))) 153 n (zbo ((bt 5 a) ∨ (bt 6 b)))) 154 n 0) 155 n (zbo ((bt 8 a) ∧ (bt 8 b)))) pst74
                      refine zv_c1 ht76 rfl rfl ?_
                      refine zv_br ht76 rfl rfl rfl (fun _ => ?_) (fun h => absurd (by decide) h)
                      refine zv_c1 ht76 rfl rfl (zv_c1 ht76 rfl rfl ?_)
                      refine zv_ei (x := zbo False) ht76 rfl rfl (zhas_of (htn) rfl) hm0 ?_
                      refine zv_br ht76 rfl rfl rfl (fun b77 => (b77 ((zbo_eq0 : (zbo False) = 0 ↔ ¬ False).mpr trivial)).elim) (fun b77 => ?_)
                      refine zv_c1 ht76 rfl rfl ?_
                      refine zv_ei (x := zbo (bt 9 a)) ht76 rfl rfl (zhas_nc hcx (by decide)) hmixedx ?_
                      have J79 : zEv (d - 1) 286 73 [.ref n, .ref x, .retAddr 0] [.int (zbo (bt 9 a)), .ref n] (sI (sI (sI (sI (sI (sI (sI (sI (sI (sI S 145 n (q + 1)) 147 n (zbo ((bt 0 a) ∧ (bt 0 b)))) 148 n (zbo (((bt 1 a) ∧ (bt 0 b)) ∨ ((bt 0 a) ∧ (bt 1 b))))) 149 n (zbo ((bt 2 a) ∨ ((bt 0 a) ∧ (bt 2 b))))) 150 n 0) 151 n (zbo (bt 4 b))) 152 n (zbo ((bt 5 a) ∨ (bt 5 b)))) 153 n (zbo ((bt 5 a) ∨ (bt 6 b)))) 154 n 0) 155 n (zbo ((bt 8 a) ∧ (bt 8 b)))) pst74 := by
                        refine zv_ci (S' := sI (sI (sI (sI (sI (sI (sI (sI (sI (sI (sI S 145 n (q + 1)) 147 n (zbo ((bt 0 a) ∧ (bt 0 b)))) 148 n (zbo (((bt 1 a) ∧ (bt 0 b)) ∨ ((bt 0 a) ∧ (bt 1 b))))) 149 n (zbo ((bt 2 a) ∨ ((bt 0 a) ∧ (bt 2 b))))) 150 n 0) 151 n (zbo (bt 4 b))) 152 n (zbo ((bt 5 a) ∨ (bt 5 b)))) 153 n (zbo ((bt 5 a) ∨ (bt 6 b)))) 154 n 0) 155 n (zbo ((bt 8 a) ∧ (bt 8 b)))) 156 n (zbo (bt 9 a))) ht76 rfl rfl ⟨⟨(zhas_of (htn) rfl), (show n < gN S from by omega)⟩, zbo_rng⟩ ?_
                        refine zv_c1 ht76 rfl rfl (zv_c1 ht76 rfl rfl ?_)
                        refine zv_ei (x := 0) ht76 rfl rfl (zhas_of (htn) rfl) ht0 ?_
                        refine zv_c1 ht76 rfl rfl ?_
                        refine zv_ei (x := tx) ht76 rfl rfl (zhas_nc hcx (by decide)) htx ?_
                        refine zv_c1 (st' := [.int ((0 : Int32) ||| tx), .ref n]) (S' := sI (sI (sI (sI (sI (sI (sI (sI (sI (sI (sI S 145 n (q + 1)) 147 n (zbo ((bt 0 a) ∧ (bt 0 b)))) 148 n (zbo (((bt 1 a) ∧ (bt 0 b)) ∨ ((bt 0 a) ∧ (bt 1 b))))) 149 n (zbo ((bt 2 a) ∨ ((bt 0 a) ∧ (bt 2 b))))) 150 n 0) 151 n (zbo (bt 4 b))) 152 n (zbo ((bt 5 a) ∨ (bt 5 b)))) 153 n (zbo ((bt 5 a) ∨ (bt 6 b)))) 154 n 0) 155 n (zbo ((bt 8 a) ∧ (bt 8 b)))) 156 n (zbo (bt 9 a))) ht76 rfl rfl ?_
                        refine zv_ci (S' := sI (sI (sI (sI (sI (sI (sI (sI (sI (sI (sI (sI S 145 n (q + 1)) 147 n (zbo ((bt 0 a) ∧ (bt 0 b)))) 148 n (zbo (((bt 1 a) ∧ (bt 0 b)) ∨ ((bt 0 a) ∧ (bt 1 b))))) 149 n (zbo ((bt 2 a) ∨ ((bt 0 a) ∧ (bt 2 b))))) 150 n 0) 151 n (zbo (bt 4 b))) 152 n (zbo ((bt 5 a) ∨ (bt 5 b)))) 153 n (zbo ((bt 5 a) ∨ (bt 6 b)))) 154 n 0) 155 n (zbo ((bt 8 a) ∧ (bt 8 b)))) 156 n (zbo (bt 9 a))) 146 n ((0 : Int32) ||| tx)) ht76 rfl rfl ⟨(zhas_of (htn) rfl), (show n < gN S from by omega)⟩ ?_
                        exact zv_rt ht76 rfl rfl rfl rfl k81
                      refine zv_br ht76 rfl rfl rfl (fun b78 => ?_) (fun b78 => ?_)
                      · replace b78 : ¬ (bt 9 a) := (zbo_eq0 : (zbo (bt 9 a)) = 0 ↔ ¬ (bt 9 a)).mp b78
                        refine zv_c1 ht76 rfl rfl ?_
                        exact zEv.wk (L := [.ref n, .ref x, .retAddr 0]) (L' := [.ref n, .ref x, .int 0]) (And.intro (Or.inl rfl) (And.intro (Or.inl rfl) (And.intro (Or.inr rfl) trivial))) (zv_sub (zz := zbo (bt 9 a)) (zy := 0) (p := fun zz => zEv (d - 1) 286 73 [.ref n, .ref x, .retAddr 0] [.int zz, .ref n] (sI (sI (sI (sI (sI (sI (sI (sI (sI (sI S 145 n (q + 1)) 147 n (zbo ((bt 0 a) ∧ (bt 0 b)))) 148 n (zbo (((bt 1 a) ∧ (bt 0 b)) ∨ ((bt 0 a) ∧ (bt 1 b))))) 149 n (zbo ((bt 2 a) ∨ ((bt 0 a) ∧ (bt 2 b))))) 150 n 0) 151 n (zbo (bt 4 b))) 152 n (zbo ((bt 5 a) ∨ (bt 5 b)))) 153 n (zbo ((bt 5 a) ∨ (bt 6 b)))) 154 n 0) 155 n (zbo ((bt 8 a) ∧ (bt 8 b)))) pst74) (zbo_neg b78) J79)
                      · replace b78 : bt 9 a := Classical.byContradiction (fun h => b78 ((zbo_eq0 : (zbo (bt 9 a)) = 0 ↔ ¬ (bt 9 a)).mpr h))
                        refine zv_c1 ht76 rfl rfl (zv_c1 ht76 rfl rfl ?_)
                        exact zEv.wk (L := [.ref n, .ref x, .retAddr 0]) (L' := [.ref n, .ref x, .int 0]) (And.intro (Or.inl rfl) (And.intro (Or.inl rfl) (And.intro (Or.inr rfl) trivial))) (zv_sub (zz := zbo (bt 9 a)) (zy := 1) (p := fun zz => zEv (d - 1) 286 73 [.ref n, .ref x, .retAddr 0] [.int zz, .ref n] (sI (sI (sI (sI (sI (sI (sI (sI (sI (sI S 145 n (q + 1)) 147 n (zbo ((bt 0 a) ∧ (bt 0 b)))) 148 n (zbo (((bt 1 a) ∧ (bt 0 b)) ∨ ((bt 0 a) ∧ (bt 1 b))))) 149 n (zbo ((bt 2 a) ∨ ((bt 0 a) ∧ (bt 2 b))))) 150 n 0) 151 n (zbo (bt 4 b))) 152 n (zbo ((bt 5 a) ∨ (bt 5 b)))) 153 n (zbo ((bt 5 a) ∨ (bt 6 b)))) 154 n 0) 155 n (zbo ((bt 8 a) ∧ (bt 8 b)))) pst74) (zbo_pos b78) J79)
                    refine zv_cl ht rfl rfl rfl (zv_tgv (htn) rfl) (by omega) (Nat.le_of_ble_eq_true rfl) (C75 _ ?_)
                    show zEv d 371 815 [.ref n, .retAddr 0, .retAddr 0, .retAddr 0, .int (zbo ((bt 8 a) ∧ (bt 8 b))), .retAddr 0, .retAddr 0] [] (sI (sI (sI (sI (sI (sI (sI (sI (sI (sI (sI (sI S 145 n (q + 1)) 147 n (zbo ((bt 0 a) ∧ (bt 0 b)))) 148 n (zbo (((bt 1 a) ∧ (bt 0 b)) ∨ ((bt 0 a) ∧ (bt 1 b))))) 149 n (zbo ((bt 2 a) ∨ ((bt 0 a) ∧ (bt 2 b))))) 150 n 0) 151 n (zbo (bt 4 b))) 152 n (zbo ((bt 5 a) ∨ (bt 5 b)))) 153 n (zbo ((bt 5 a) ∨ (bt 6 b)))) 154 n 0) 155 n (zbo ((bt 8 a) ∧ (bt 8 b)))) 156 n (zbo (bt 9 a))) 146 n ((0 : Int32) ||| tx)) post
                    refine zv_c1 ht rfl rfl (zv_c1 ht rfl rfl ?_)
                    refine zv_g3 (q := y) ht rfl hF rfl rfl (zhas_of (htn) rfl) hpy ?_
                    refine zv_c1 ht rfl rfl ?_
                    refine zv_ei (x := 0) ht rfl rfl (zhas_of (htn) rfl) how ?_
                    refine zv_c1 ht rfl rfl ?_
                    refine zv_br ht rfl rfl rfl (fun h => absurd h (by decide)) (fun _ => ?_)
                    refine zv_c1 ht rfl rfl (zv_c1 ht rfl rfl ?_)
                    have C83 : ∀ (pst82 : Outcome × zS → Prop), (pst82 (.returned none, sI (sI (sI (sI (sI (sI (sI (sI (sI (sI (sI (sI (sI (sI (sI S 145 n (q + 1)) 147 n (zbo ((bt 0 a) ∧ (bt 0 b)))) 148 n (zbo (((bt 1 a) ∧ (bt 0 b)) ∨ ((bt 0 a) ∧ (bt 1 b))))) 149 n (zbo ((bt 2 a) ∨ ((bt 0 a) ∧ (bt 2 b))))) 150 n 0) 151 n (zbo (bt 4 b))) 152 n (zbo ((bt 5 a) ∨ (bt 5 b)))) 153 n (zbo ((bt 5 a) ∨ (bt 6 b)))) 154 n 0) 155 n (zbo ((bt 8 a) ∧ (bt 8 b)))) 156 n (zbo (bt 9 a))) 146 n ((0 : Int32) ||| tx)) 156 n (zbo ((bt 9 a) ∨ (((¬ ((((0 : Int32) ||| tx) &&& (1 : Int32)) = 0)) ∧ (¬ ((ty &&& (2 : Int32)) = 0))) ∨ ((¬ ((((0 : Int32) ||| tx) &&& (2 : Int32)) = 0)) ∧ (¬ ((ty &&& (1 : Int32)) = 0)))) ∨ ((¬ ((((0 : Int32) ||| tx) &&& (4 : Int32)) = 0)) ∧ (¬ ((ty &&& (8 : Int32)) = 0))) ∨ ((¬ ((((0 : Int32) ||| tx) &&& (8 : Int32)) = 0)) ∧ (¬ ((ty &&& (4 : Int32)) = 0)))))) 156 n (zbo (((bt 9 a) ∨ (((¬ ((((0 : Int32) ||| tx) &&& (1 : Int32)) = 0)) ∧ (¬ ((ty &&& (2 : Int32)) = 0))) ∨ ((¬ ((((0 : Int32) ||| tx) &&& (2 : Int32)) = 0)) ∧ (¬ ((ty &&& (1 : Int32)) = 0)))) ∨ ((¬ ((((0 : Int32) ||| tx) &&& (4 : Int32)) = 0)) ∧ (¬ ((ty &&& (8 : Int32)) = 0))) ∨ ((¬ ((((0 : Int32) ||| tx) &&& (8 : Int32)) = 0)) ∧ (¬ ((ty &&& (4 : Int32)) = 0)))) ∨ (bt 9 b)))) 146 n (((0 : Int32) ||| tx) ||| ty))) → zCall (d - 1) 286 [.ref n, .ref y, .int 1] (sI (sI (sI (sI (sI (sI (sI (sI (sI (sI (sI (sI S 145 n (q + 1)) 147 n (zbo ((bt 0 a) ∧ (bt 0 b)))) 148 n (zbo (((bt 1 a) ∧ (bt 0 b)) ∨ ((bt 0 a) ∧ (bt 1 b))))) 149 n (zbo ((bt 2 a) ∨ ((bt 0 a) ∧ (bt 2 b))))) 150 n 0) 151 n (zbo (bt 4 b))) 152 n (zbo ((bt 5 a) ∨ (bt 5 b)))) 153 n (zbo ((bt 5 a) ∨ (bt 6 b)))) 154 n 0) 155 n (zbo ((bt 8 a) ∧ (bt 8 b)))) 156 n (zbo (bt 9 a))) 146 n ((0 : Int32) ||| tx)) pst82 := by
                      intro pst82 k130
                      have ht84 : ztab 286 = ztb286 := rfl
                      show zEv (d - 1) 286 0 [.ref n, .ref y, .int 1] [] (sI (sI (sI (sI (sI (sI (sI (sI (sI (sI (sI (sI S 145 n (q + 1)) 147 n (zbo ((bt 0 a) ∧ (bt 0 b)))) 148 n (zbo (((bt 1 a) ∧ (bt 0 b)) ∨ ((bt 0 a) ∧ (bt 1 b))))) 149 n (zbo ((bt 2 a) ∨ ((bt 0 a) ∧ (bt 2 b))))) 150 n 0) 151 n (zbo (bt 4 b))) 152 n (zbo ((bt 5 a) ∨ (bt 5 b)))) 153 n (zbo ((bt 5 a) ∨ (bt 6 b)))) 154 n 0) 155 n (zbo ((bt 8 a) ∧ (bt 8 b)))) 156 n (zbo (bt 9 a))) 146 n ((0 : Int32) ||| tx)) pst82
                      refine zv_c1 ht84 rfl rfl ?_
                      refine zv_br ht84 rfl rfl rfl (fun h => absurd h (by decide)) (fun _ => ?_)
                      refine zv_c1 ht84 rfl rfl (zv_c1 ht84 rfl rfl ?_)
                      refine zv_ei (x := zbo (bt 9 a)) ht84 rfl rfl (zhas_of (htn) rfl) gI_sI_at ?_
                      have J122 : zEv (d - 1) 286 50 [.ref n, .ref y, .retAddr 0] [.int (zbo ((bt 9 a) ∨ (((¬ ((((0 : Int32) ||| tx) &&& (1 : Int32)) = 0)) ∧ (¬ ((ty &&& (2 : Int32)) = 0))) ∨ ((¬ ((((0 : Int32) ||| tx) &&& (2 : Int32)) = 0)) ∧ (¬ ((ty &&& (1 : Int32)) = 0)))) ∨ ((¬ ((((0 : Int32) ||| tx) &&& (4 : Int32)) = 0)) ∧ (¬ ((ty &&& (8 : Int32)) = 0))) ∨ ((¬ ((((0 : Int32) ||| tx) &&& (8 : Int32)) = 0)) ∧ (¬ ((ty &&& (4 : Int32)) = 0))))), .ref n] (sI (sI (sI (sI (sI (sI (sI (sI (sI (sI (sI (sI S 145 n (q + 1)) 147 n (zbo ((bt 0 a) ∧ (bt 0 b)))) 148 n (zbo (((bt 1 a) ∧ (bt 0 b)) ∨ ((bt 0 a) ∧ (bt 1 b))))) 149 n (zbo ((bt 2 a) ∨ ((bt 0 a) ∧ (bt 2 b))))) 150 n 0) 151 n (zbo (bt 4 b))) 152 n (zbo ((bt 5 a) ∨ (bt 5 b)))) 153 n (zbo ((bt 5 a) ∨ (bt 6 b)))) 154 n 0) 155 n (zbo ((bt 8 a) ∧ (bt 8 b)))) 156 n (zbo (bt 9 a))) 146 n ((0 : Int32) ||| tx)) pst82 := by
                        refine zv_ci (S' := sI (sI (sI (sI (sI (sI (sI (sI (sI (sI (sI (sI (sI S 145 n (q + 1)) 147 n (zbo ((bt 0 a) ∧ (bt 0 b)))) 148 n (zbo (((bt 1 a) ∧ (bt 0 b)) ∨ ((bt 0 a) ∧ (bt 1 b))))) 149 n (zbo ((bt 2 a) ∨ ((bt 0 a) ∧ (bt 2 b))))) 150 n 0) 151 n (zbo (bt 4 b))) 152 n (zbo ((bt 5 a) ∨ (bt 5 b)))) 153 n (zbo ((bt 5 a) ∨ (bt 6 b)))) 154 n 0) 155 n (zbo ((bt 8 a) ∧ (bt 8 b)))) 156 n (zbo (bt 9 a))) 146 n ((0 : Int32) ||| tx)) 156 n (zbo ((bt 9 a) ∨ (((¬ ((((0 : Int32) ||| tx) &&& (1 : Int32)) = 0)) ∧ (¬ ((ty &&& (2 : Int32)) = 0))) ∨ ((¬ ((((0 : Int32) ||| tx) &&& (2 : Int32)) = 0)) ∧ (¬ ((ty &&& (1 : Int32)) = 0)))) ∨ ((¬ ((((0 : Int32) ||| tx) &&& (4 : Int32)) = 0)) ∧ (¬ ((ty &&& (8 : Int32)) = 0))) ∨ ((¬ ((((0 : Int32) ||| tx) &&& (8 : Int32)) = 0)) ∧ (¬ ((ty &&& (4 : Int32)) = 0)))))) ht84 rfl rfl ⟨⟨(zhas_of (htn) rfl), (show n < gN S from by omega)⟩, zbo_rng⟩ ?_
                        refine zv_c1 ht84 rfl rfl (zv_c1 ht84 rfl rfl ?_)
                        refine zv_ei (x := zbo ((bt 9 a) ∨ (((¬ ((((0 : Int32) ||| tx) &&& (1 : Int32)) = 0)) ∧ (¬ ((ty &&& (2 : Int32)) = 0))) ∨ ((¬ ((((0 : Int32) ||| tx) &&& (2 : Int32)) = 0)) ∧ (¬ ((ty &&& (1 : Int32)) = 0)))) ∨ ((¬ ((((0 : Int32) ||| tx) &&& (4 : Int32)) = 0)) ∧ (¬ ((ty &&& (8 : Int32)) = 0))) ∨ ((¬ ((((0 : Int32) ||| tx) &&& (8 : Int32)) = 0)) ∧ (¬ ((ty &&& (4 : Int32)) = 0))))) ht84 rfl rfl (zhas_of (htn) rfl) gI_sI_at ?_
                        have J128 : zEv (d - 1) 286 73 [.ref n, .ref y, .retAddr 0] [.int (zbo (((bt 9 a) ∨ (((¬ ((((0 : Int32) ||| tx) &&& (1 : Int32)) = 0)) ∧ (¬ ((ty &&& (2 : Int32)) = 0))) ∨ ((¬ ((((0 : Int32) ||| tx) &&& (2 : Int32)) = 0)) ∧ (¬ ((ty &&& (1 : Int32)) = 0)))) ∨ ((¬ ((((0 : Int32) ||| tx) &&& (4 : Int32)) = 0)) ∧ (¬ ((ty &&& (8 : Int32)) = 0))) ∨ ((¬ ((((0 : Int32) ||| tx) &&& (8 : Int32)) = 0)) ∧ (¬ ((ty &&& (4 : Int32)) = 0)))) ∨ (bt 9 b))), .ref n] (sI (sI (sI (sI (sI (sI (sI (sI (sI (sI (sI (sI (sI S 145 n (q + 1)) 147 n (zbo ((bt 0 a) ∧ (bt 0 b)))) 148 n (zbo (((bt 1 a) ∧ (bt 0 b)) ∨ ((bt 0 a) ∧ (bt 1 b))))) 149 n (zbo ((bt 2 a) ∨ ((bt 0 a) ∧ (bt 2 b))))) 150 n 0) 151 n (zbo (bt 4 b))) 152 n (zbo ((bt 5 a) ∨ (bt 5 b)))) 153 n (zbo ((bt 5 a) ∨ (bt 6 b)))) 154 n 0) 155 n (zbo ((bt 8 a) ∧ (bt 8 b)))) 156 n (zbo (bt 9 a))) 146 n ((0 : Int32) ||| tx)) 156 n (zbo ((bt 9 a) ∨ (((¬ ((((0 : Int32) ||| tx) &&& (1 : Int32)) = 0)) ∧ (¬ ((ty &&& (2 : Int32)) = 0))) ∨ ((¬ ((((0 : Int32) ||| tx) &&& (2 : Int32)) = 0)) ∧ (¬ ((ty &&& (1 : Int32)) = 0)))) ∨ ((¬ ((((0 : Int32) ||| tx) &&& (4 : Int32)) = 0)) ∧ (¬ ((ty &&& (8 : Int32)) = 0))) ∨ ((¬ ((((0 : Int32) ||| tx) &&& (8 : Int32)) = 0)) ∧ (¬ ((ty &&& (4 : Int32)) = 0)))))) pst82 := by
                          refine zv_ci (S' := sI (sI (sI (sI (sI (sI (sI (sI (sI (sI (sI (sI (sI (sI S 145 n (q + 1)) 147 n (zbo ((bt 0 a) ∧ (bt 0 b)))) 148 n (zbo (((bt 1 a) ∧ (bt 0 b)) ∨ ((bt 0 a) ∧ (bt 1 b))))) 149 n (zbo ((bt 2 a) ∨ ((bt 0 a) ∧ (bt 2 b))))) 150 n 0) 151 n (zbo (bt 4 b))) 152 n (zbo ((bt 5 a) ∨ (bt 5 b)))) 153 n (zbo ((bt 5 a) ∨ (bt 6 b)))) 154 n 0) 155 n (zbo ((bt 8 a) ∧ (bt 8 b)))) 156 n (zbo (bt 9 a))) 146 n ((0 : Int32) ||| tx)) 156 n (zbo ((bt 9 a) ∨ (((¬ ((((0 : Int32) ||| tx) &&& (1 : Int32)) = 0)) ∧ (¬ ((ty &&& (2 : Int32)) = 0))) ∨ ((¬ ((((0 : Int32) ||| tx) &&& (2 : Int32)) = 0)) ∧ (¬ ((ty &&& (1 : Int32)) = 0)))) ∨ ((¬ ((((0 : Int32) ||| tx) &&& (4 : Int32)) = 0)) ∧ (¬ ((ty &&& (8 : Int32)) = 0))) ∨ ((¬ ((((0 : Int32) ||| tx) &&& (8 : Int32)) = 0)) ∧ (¬ ((ty &&& (4 : Int32)) = 0)))))) 156 n (zbo (((bt 9 a) ∨ (((¬ ((((0 : Int32) ||| tx) &&& (1 : Int32)) = 0)) ∧ (¬ ((ty &&& (2 : Int32)) = 0))) ∨ ((¬ ((((0 : Int32) ||| tx) &&& (2 : Int32)) = 0)) ∧ (¬ ((ty &&& (1 : Int32)) = 0)))) ∨ ((¬ ((((0 : Int32) ||| tx) &&& (4 : Int32)) = 0)) ∧ (¬ ((ty &&& (8 : Int32)) = 0))) ∨ ((¬ ((((0 : Int32) ||| tx) &&& (8 : Int32)) = 0)) ∧ (¬ ((ty &&& (4 : Int32)) = 0)))) ∨ (bt 9 b)))) ht84 rfl rfl ⟨⟨(zhas_of (htn) rfl), (show n < gN S from by omega)⟩, zbo_rng⟩ ?_
                          refine zv_c1 ht84 rfl rfl (zv_c1 ht84 rfl rfl ?_)
                          refine zv_ei (x := (0 : Int32) ||| tx) ht84 rfl rfl (zhas_of (htn) rfl) gI_sI_at ?_
                          refine zv_c1 ht84 rfl rfl ?_
                          refine zv_ei (x := ty) ht84 rfl rfl (zhas_nc hcy (by decide)) (Eq.trans (gI_sI_ne (by omega)) hty) ?_
                          refine zv_c1 (st' := [.int (((0 : Int32) ||| tx) ||| ty), .ref n]) (S' := sI (sI (sI (sI (sI (sI (sI (sI (sI (sI (sI (sI (sI (sI S 145 n (q + 1)) 147 n (zbo ((bt 0 a) ∧ (bt 0 b)))) 148 n (zbo (((bt 1 a) ∧ (bt 0 b)) ∨ ((bt 0 a) ∧ (bt 1 b))))) 149 n (zbo ((bt 2 a) ∨ ((bt 0 a) ∧ (bt 2 b))))) 150 n 0) 151 n (zbo (bt 4 b))) 152 n (zbo ((bt 5 a) ∨ (bt 5 b)))) 153 n (zbo ((bt 5 a) ∨ (bt 6 b)))) 154 n 0) 155 n (zbo ((bt 8 a) ∧ (bt 8 b)))) 156 n (zbo (bt 9 a))) 146 n ((0 : Int32) ||| tx)) 156 n (zbo ((bt 9 a) ∨ (((¬ ((((0 : Int32) ||| tx) &&& (1 : Int32)) = 0)) ∧ (¬ ((ty &&& (2 : Int32)) = 0))) ∨ ((¬ ((((0 : Int32) ||| tx) &&& (2 : Int32)) = 0)) ∧ (¬ ((ty &&& (1 : Int32)) = 0)))) ∨ ((¬ ((((0 : Int32) ||| tx) &&& (4 : Int32)) = 0)) ∧ (¬ ((ty &&& (8 : Int32)) = 0))) ∨ ((¬ ((((0 : Int32) ||| tx) &&& (8 : Int32)) = 0)) ∧ (¬ ((ty &&& (4 : Int32)) = 0)))))) 156 n (zbo (((bt 9 a) ∨ (((¬ ((((0 : Int32) ||| tx) &&& (1 : Int32)) = 0)) ∧ (¬ ((ty &&& (2 : Int32)) = 0))) ∨ ((¬ ((((0 : Int32) ||| tx) &&& (2 : Int32)) = 0)) ∧ (¬ ((ty &&& (1 : Int32)) = 0)))) ∨ ((¬ ((((0 : Int32) ||| tx) &&& (4 : Int32)) = 0)) ∧ (¬ ((ty &&& (8 : Int32)) = 0))) ∨ ((¬ ((((0 : Int32) ||| tx) &&& (8 : Int32)) = 0)) ∧ (¬ ((ty &&& (4 : Int32)) = 0)))) ∨ (bt 9 b)))) ht84 rfl rfl ?_
                          refine zv_ci (S' := sI (sI (sI (sI (sI (sI (sI (sI (sI (sI (sI (sI (sI (sI (sI S 145 n (q + 1)) 147 n (zbo ((bt 0 a) ∧ (bt 0 b)))) 148 n (zbo (((bt 1 a) ∧ (bt 0 b)) ∨ ((bt 0 a) ∧ (bt 1 b))))) 149 n (zbo ((bt 2 a) ∨ ((bt 0 a) ∧ (bt 2 b))))) 150 n 0) 151 n (zbo (bt 4 b))) 152 n (zbo ((bt 5 a) ∨ (bt 5 b)))) 153 n (zbo ((bt 5 a) ∨ (bt 6 b)))) 154 n 0) 155 n (zbo ((bt 8 a) ∧ (bt 8 b)))) 156 n (zbo (bt 9 a))) 146 n ((0 : Int32) ||| tx)) 156 n (zbo ((bt 9 a) ∨ (((¬ ((((0 : Int32) ||| tx) &&& (1 : Int32)) = 0)) ∧ (¬ ((ty &&& (2 : Int32)) = 0))) ∨ ((¬ ((((0 : Int32) ||| tx) &&& (2 : Int32)) = 0)) ∧ (¬ ((ty &&& (1 : Int32)) = 0)))) ∨ ((¬ ((((0 : Int32) ||| tx) &&& (4 : Int32)) = 0)) ∧ (¬ ((ty &&& (8 : Int32)) = 0))) ∨ ((¬ ((((0 : Int32) ||| tx) &&& (8 : Int32)) = 0)) ∧ (¬ ((ty &&& (4 : Int32)) = 0)))))) 156 n (zbo (((bt 9 a) ∨ (((¬ ((((0 : Int32) ||| tx) &&& (1 : Int32)) = 0)) ∧ (¬ ((ty &&& (2 : Int32)) = 0))) ∨ ((¬ ((((0 : Int32) ||| tx) &&& (2 : Int32)) = 0)) ∧ (¬ ((ty &&& (1 : Int32)) = 0)))) ∨ ((¬ ((((0 : Int32) ||| tx) &&& (4 : Int32)) = 0)) ∧ (¬ ((ty &&& (8 : Int32)) = 0))) ∨ ((¬ ((((0 : Int32) ||| tx) &&& (8 : Int32)) = 0)) ∧ (¬ ((ty &&& (4 : Int32)) = 0)))) ∨ (bt 9 b)))) 146 n (((0 : Int32) ||| tx) ||| ty)) ht84 rfl rfl ⟨(zhas_of (htn) rfl), (show n < gN S from by omega)⟩ ?_
                          exact zv_rt ht84 rfl rfl rfl rfl k130
                        have J126 : (((bt 9 a) ∨ (((¬ ((((0 : Int32) ||| tx) &&& (1 : Int32)) = 0)) ∧ (¬ ((ty &&& (2 : Int32)) = 0))) ∨ ((¬ ((((0 : Int32) ||| tx) &&& (2 : Int32)) = 0)) ∧ (¬ ((ty &&& (1 : Int32)) = 0)))) ∨ ((¬ ((((0 : Int32) ||| tx) &&& (4 : Int32)) = 0)) ∧ (¬ ((ty &&& (8 : Int32)) = 0))) ∨ ((¬ ((((0 : Int32) ||| tx) &&& (8 : Int32)) = 0)) ∧ (¬ ((ty &&& (4 : Int32)) = 0)))) ∨ (bt 9 b)) → zEv (d - 1) 286 68 [.ref n, .ref y, .retAddr 0] [.ref n] (sI (sI (sI (sI (sI (sI (sI (sI (sI (sI (sI (sI (sI S 145 n (q + 1)) 147 n (zbo ((bt 0 a) ∧ (bt 0 b)))) 148 n (zbo (((bt 1 a) ∧ (bt 0 b)) ∨ ((bt 0 a) ∧ (bt 1 b))))) 149 n (zbo ((bt 2 a) ∨ ((bt 0 a) ∧ (bt 2 b))))) 150 n 0) 151 n (zbo (bt 4 b))) 152 n (zbo ((bt 5 a) ∨ (bt 5 b)))) 153 n (zbo ((bt 5 a) ∨ (bt 6 b)))) 154 n 0) 155 n (zbo ((bt 8 a) ∧ (bt 8 b)))) 156 n (zbo (bt 9 a))) 146 n ((0 : Int32) ||| tx)) 156 n (zbo ((bt 9 a) ∨ (((¬ ((((0 : Int32) ||| tx) &&& (1 : Int32)) = 0)) ∧ (¬ ((ty &&& (2 : Int32)) = 0))) ∨ ((¬ ((((0 : Int32) ||| tx) &&& (2 : Int32)) = 0)) ∧ (¬ ((ty &&& (1 : Int32)) = 0)))) ∨ ((¬ ((((0 : Int32) ||| tx) &&& (4 : Int32)) = 0)) ∧ (¬ ((ty &&& (8 : Int32)) = 0))) ∨ ((¬ ((((0 : Int32) ||| tx) &&& (8 : Int32)) = 0)) ∧ (¬ ((ty &&& (4 : Int32)) = 0)))))) pst82 := by
                          intro b127
                          refine zv_c1 ht84 rfl rfl (zv_c1 ht84 rfl rfl ?_)
                          exact (zv_sub (zz := zbo (((bt 9 a) ∨ (((¬ ((((0 : Int32) ||| tx) &&& (1 : Int32)) = 0)) ∧ (¬ ((ty &&& (2 : Int32)) = 0))) ∨ ((¬ ((((0 : Int32) ||| tx) &&& (2 : Int32)) = 0)) ∧ (¬ ((ty &&& (1 : Int32)) = 0)))) ∨ ((¬ ((((0 : Int32) ||| tx) &&& (4 : Int32)) = 0)) ∧ (¬ ((ty &&& (8 : Int32)) = 0))) ∨ ((¬ ((((0 : Int32) ||| tx) &&& (8 : Int32)) = 0)) ∧ (¬ ((ty &&& (4 : Int32)) = 0)))) ∨ (bt 9 b))) (zy := 1) (p := fun zz => zEv (d - 1) 286 73 [.ref n, .ref y, .retAddr 0] [.int zz, .ref n] (sI (sI (sI (sI (sI (sI (sI (sI (sI (sI (sI (sI (sI S 145 n (q + 1)) 147 n (zbo ((bt 0 a) ∧ (bt 0 b)))) 148 n (zbo (((bt 1 a) ∧ (bt 0 b)) ∨ ((bt 0 a) ∧ (bt 1 b))))) 149 n (zbo ((bt 2 a) ∨ ((bt 0 a) ∧ (bt 2 b))))) 150 n 0) 151 n (zbo (bt 4 b))) 152 n (zbo ((bt 5 a) ∨ (bt 5 b)))) 153 n (zbo ((bt 5 a) ∨ (bt 6 b)))) 154 n 0) 155 n (zbo ((bt 8 a) ∧ (bt 8 b)))) 156 n (zbo (bt 9 a))) 146 n ((0 : Int32) ||| tx)) 156 n (zbo ((bt 9 a) ∨ (((¬ ((((0 : Int32) ||| tx) &&& (1 : Int32)) = 0)) ∧ (¬ ((ty &&& (2 : Int32)) = 0))) ∨ ((¬ ((((0 : Int32) ||| tx) &&& (2 : Int32)) = 0)) ∧ (¬ ((ty &&& (1 : Int32)) = 0)))) ∨ ((¬ ((((0 : Int32) ||| tx) &&& (4 : Int32)) = 0)) ∧ (¬ ((ty &&& (8 : Int32)) = 0))) ∨ ((¬ ((((0 : Int32) ||| tx) &&& (8 : Int32)) = 0)) ∧ (¬ ((ty &&& (4 : Int32)) = 0)))))) pst82) (zbo_pos b127) J128)
                        refine zv_br ht84 rfl rfl rfl (fun b124 => ?_) (fun b124 => ?_)
                        · replace b124 : (bt 9 a) ∨ (((¬ ((((0 : Int32) ||| tx) &&& (1 : Int32)) = 0)) ∧ (¬ ((ty &&& (2 : Int32)) = 0))) ∨ ((¬ ((((0 : Int32) ||| tx) &&& (2 : Int32)) = 0)) ∧ (¬ ((ty &&& (1 : Int32)) = 0)))) ∨ ((¬ ((((0 : Int32) ||| tx) &&& (4 : Int32)) = 0)) ∧ (¬ ((ty &&& (8 : Int32)) = 0))) ∨ ((¬ ((((0 : Int32) ||| tx) &&& (8 : Int32)) = 0)) ∧ (¬ ((ty &&& (4 : Int32)) = 0))) := Classical.byContradiction (fun h => b124 ((zbo_eq0 : (zbo ((bt 9 a) ∨ (((¬ ((((0 : Int32) ||| tx) &&& (1 : Int32)) = 0)) ∧ (¬ ((ty &&& (2 : Int32)) = 0))) ∨ ((¬ ((((0 : Int32) ||| tx) &&& (2 : Int32)) = 0)) ∧ (¬ ((ty &&& (1 : Int32)) = 0)))) ∨ ((¬ ((((0 : Int32) ||| tx) &&& (4 : Int32)) = 0)) ∧ (¬ ((ty &&& (8 : Int32)) = 0))) ∨ ((¬ ((((0 : Int32) ||| tx) &&& (8 : Int32)) = 0)) ∧ (¬ ((ty &&& (4 : Int32)) = 0))))) = 0 ↔ ¬ ((bt 9 a) ∨ (((¬ ((((0 : Int32) ||| tx) &&& (1 : Int32)) = 0)) ∧ (¬ ((ty &&& (2 : Int32)) = 0))) ∨ ((¬ ((((0 : Int32) ||| tx) &&& (2 : Int32)) = 0)) ∧ (¬ ((ty &&& (1 : Int32)) = 0)))) ∨ ((¬ ((((0 : Int32) ||| tx) &&& (4 : Int32)) = 0)) ∧ (¬ ((ty &&& (8 : Int32)) = 0))) ∨ ((¬ ((((0 : Int32) ||| tx) &&& (8 : Int32)) = 0)) ∧ (¬ ((ty &&& (4 : Int32)) = 0))))).mpr h))
                          exact (J126 (Or.inl b124))
                        · replace b124 : ¬ ((bt 9 a) ∨ (((¬ ((((0 : Int32) ||| tx) &&& (1 : Int32)) = 0)) ∧ (¬ ((ty &&& (2 : Int32)) = 0))) ∨ ((¬ ((((0 : Int32) ||| tx) &&& (2 : Int32)) = 0)) ∧ (¬ ((ty &&& (1 : Int32)) = 0)))) ∨ ((¬ ((((0 : Int32) ||| tx) &&& (4 : Int32)) = 0)) ∧ (¬ ((ty &&& (8 : Int32)) = 0))) ∨ ((¬ ((((0 : Int32) ||| tx) &&& (8 : Int32)) = 0)) ∧ (¬ ((ty &&& (4 : Int32)) = 0)))) := (zbo_eq0 : (zbo ((bt 9 a) ∨ (((¬ ((((0 : Int32) ||| tx) &&& (1 : Int32)) = 0)) ∧ (¬ ((ty &&& (2 : Int32)) = 0))) ∨ ((¬ ((((0 : Int32) ||| tx) &&& (2 : Int32)) = 0)) ∧ (¬ ((ty &&& (1 : Int32)) = 0)))) ∨ ((¬ ((((0 : Int32) ||| tx) &&& (4 : Int32)) = 0)) ∧ (¬ ((ty &&& (8 : Int32)) = 0))) ∨ ((¬ ((((0 : Int32) ||| tx) &&& (8 : Int32)) = 0)) ∧ (¬ ((ty &&& (4 : Int32)) = 0))))) = 0 ↔ ¬ ((bt 9 a) ∨ (((¬ ((((0 : Int32) ||| tx) &&& (1 : Int32)) = 0)) ∧ (¬ ((ty &&& (2 : Int32)) = 0))) ∨ ((¬ ((((0 : Int32) ||| tx) &&& (2 : Int32)) = 0)) ∧ (¬ ((ty &&& (1 : Int32)) = 0)))) ∨ ((¬ ((((0 : Int32) ||| tx) &&& (4 : Int32)) = 0)) ∧ (¬ ((ty &&& (8 : Int32)) = 0))) ∨ ((¬ ((((0 : Int32) ||| tx) &&& (8 : Int32)) = 0)) ∧ (¬ ((ty &&& (4 : Int32)) = 0))))).mp (Classical.not_not.mp b124)
                          refine zv_c1 ht84 rfl rfl ?_
                          refine zv_ei (x := zbo (bt 9 b)) ht84 rfl rfl (zhas_nc hcy (by decide)) (Eq.trans (gI_sI_ne (by omega)) (Eq.trans (gI_sI_ne (by omega)) hmixedy)) ?_
                          refine zv_br ht84 rfl rfl rfl (fun b125 => ?_) (fun b125 => ?_)
                          · replace b125 : ¬ (bt 9 b) := (zbo_eq0 : (zbo (bt 9 b)) = 0 ↔ ¬ (bt 9 b)).mp b125
                            refine zv_c1 ht84 rfl rfl ?_
                            exact (zv_sub (zz := zbo (((bt 9 a) ∨ (((¬ ((((0 : Int32) ||| tx) &&& (1 : Int32)) = 0)) ∧ (¬ ((ty &&& (2 : Int32)) = 0))) ∨ ((¬ ((((0 : Int32) ||| tx) &&& (2 : Int32)) = 0)) ∧ (¬ ((ty &&& (1 : Int32)) = 0)))) ∨ ((¬ ((((0 : Int32) ||| tx) &&& (4 : Int32)) = 0)) ∧ (¬ ((ty &&& (8 : Int32)) = 0))) ∨ ((¬ ((((0 : Int32) ||| tx) &&& (8 : Int32)) = 0)) ∧ (¬ ((ty &&& (4 : Int32)) = 0)))) ∨ (bt 9 b))) (zy := 0) (p := fun zz => zEv (d - 1) 286 73 [.ref n, .ref y, .retAddr 0] [.int zz, .ref n] (sI (sI (sI (sI (sI (sI (sI (sI (sI (sI (sI (sI (sI S 145 n (q + 1)) 147 n (zbo ((bt 0 a) ∧ (bt 0 b)))) 148 n (zbo (((bt 1 a) ∧ (bt 0 b)) ∨ ((bt 0 a) ∧ (bt 1 b))))) 149 n (zbo ((bt 2 a) ∨ ((bt 0 a) ∧ (bt 2 b))))) 150 n 0) 151 n (zbo (bt 4 b))) 152 n (zbo ((bt 5 a) ∨ (bt 5 b)))) 153 n (zbo ((bt 5 a) ∨ (bt 6 b)))) 154 n 0) 155 n (zbo ((bt 8 a) ∧ (bt 8 b)))) 156 n (zbo (bt 9 a))) 146 n ((0 : Int32) ||| tx)) 156 n (zbo ((bt 9 a) ∨ (((¬ ((((0 : Int32) ||| tx) &&& (1 : Int32)) = 0)) ∧ (¬ ((ty &&& (2 : Int32)) = 0))) ∨ ((¬ ((((0 : Int32) ||| tx) &&& (2 : Int32)) = 0)) ∧ (¬ ((ty &&& (1 : Int32)) = 0)))) ∨ ((¬ ((((0 : Int32) ||| tx) &&& (4 : Int32)) = 0)) ∧ (¬ ((ty &&& (8 : Int32)) = 0))) ∨ ((¬ ((((0 : Int32) ||| tx) &&& (8 : Int32)) = 0)) ∧ (¬ ((ty &&& (4 : Int32)) = 0)))))) pst82) (zbo_neg (fun h => h.elim b124 b125)) J128)
                          · replace b125 : bt 9 b := Classical.byContradiction (fun h => b125 ((zbo_eq0 : (zbo (bt 9 b)) = 0 ↔ ¬ (bt 9 b)).mpr h))
                            exact (J126 (Or.inr b125))
                      have J120 : ((bt 9 a) ∨ (((¬ ((((0 : Int32) ||| tx) &&& (1 : Int32)) = 0)) ∧ (¬ ((ty &&& (2 : Int32)) = 0))) ∨ ((¬ ((((0 : Int32) ||| tx) &&& (2 : Int32)) = 0)) ∧ (¬ ((ty &&& (1 : Int32)) = 0)))) ∨ ((¬ ((((0 : Int32) ||| tx) &&& (4 : Int32)) = 0)) ∧ (¬ ((ty &&& (8 : Int32)) = 0))) ∨ ((¬ ((((0 : Int32) ||| tx) &&& (8 : Int32)) = 0)) ∧ (¬ ((ty &&& (4 : Int32)) = 0)))) → zEv (d - 1) 286 45 [.ref n, .ref y, .retAddr 0] [.ref n] (sI (sI (sI (sI (sI (sI (sI (sI (sI (sI (sI (sI S 145 n (q + 1)) 147 n (zbo ((bt 0 a) ∧ (bt 0 b)))) 148 n (zbo (((bt 1 a) ∧ (bt 0 b)) ∨ ((bt 0 a) ∧ (bt 1 b))))) 149 n (zbo ((bt 2 a) ∨ ((bt 0 a) ∧ (bt 2 b))))) 150 n 0) 151 n (zbo (bt 4 b))) 152 n (zbo ((bt 5 a) ∨ (bt 5 b)))) 153 n (zbo ((bt 5 a) ∨ (bt 6 b)))) 154 n 0) 155 n (zbo ((bt 8 a) ∧ (bt 8 b)))) 156 n (zbo (bt 9 a))) 146 n ((0 : Int32) ||| tx)) pst82 := by
                        intro b121
                        refine zv_c1 ht84 rfl rfl (zv_c1 ht84 rfl rfl ?_)
                        exact (zv_sub (zz := zbo ((bt 9 a) ∨ (((¬ ((((0 : Int32) ||| tx) &&& (1 : Int32)) = 0)) ∧ (¬ ((ty &&& (2 : Int32)) = 0))) ∨ ((¬ ((((0 : Int32) ||| tx) &&& (2 : Int32)) = 0)) ∧ (¬ ((ty &&& (1 : Int32)) = 0)))) ∨ ((¬ ((((0 : Int32) ||| tx) &&& (4 : Int32)) = 0)) ∧ (¬ ((ty &&& (8 : Int32)) = 0))) ∨ ((¬ ((((0 : Int32) ||| tx) &&& (8 : Int32)) = 0)) ∧ (¬ ((ty &&& (4 : Int32)) = 0))))) (zy := 1) (p := fun zz => zEv (d - 1) 286 50 [.ref n, .ref y, .retAddr 0] [.int zz, .ref n] (sI (sI (sI (sI (sI (sI (sI (sI (sI (sI (sI (sI S 145 n (q + 1)) 147 n (zbo ((bt 0 a) ∧ (bt 0 b)))) 148 n (zbo (((bt 1 a) ∧ (bt 0 b)) ∨ ((bt 0 a) ∧ (bt 1 b))))) 149 n (zbo ((bt 2 a) ∨ ((bt 0 a) ∧ (bt 2 b))))) 150 n 0) 151 n (zbo (bt 4 b))) 152 n (zbo ((bt 5 a) ∨ (bt 5 b)))) 153 n (zbo ((bt 5 a) ∨ (bt 6 b)))) 154 n 0) 155 n (zbo ((bt 8 a) ∧ (bt 8 b)))) 156 n (zbo (bt 9 a))) 146 n ((0 : Int32) ||| tx)) pst82) (zbo_pos b121) J122)
                      refine zv_br ht84 rfl rfl rfl (fun b85 => ?_) (fun b85 => ?_)
                      · replace b85 : bt 9 a := Classical.byContradiction (fun h => b85 ((zbo_eq0 : (zbo (bt 9 a)) = 0 ↔ ¬ (bt 9 a)).mpr h))
                        exact zEv.wk (L := [.ref n, .ref y, .retAddr 0]) (L' := [.ref n, .ref y, .int 1]) (And.intro (Or.inl rfl) (And.intro (Or.inl rfl) (And.intro (Or.inr rfl) trivial))) (J120 (Or.inl b85))
                      · replace b85 : ¬ (bt 9 a) := (zbo_eq0 : (zbo (bt 9 a)) = 0 ↔ ¬ (bt 9 a)).mp (Classical.not_not.mp b85)
                        refine zv_c1 ht84 rfl rfl ?_
                        refine zv_ei (x := (0 : Int32) ||| tx) ht84 rfl rfl (zhas_of (htn) rfl) gI_sI_at ?_
                        refine zv_c1 ht84 rfl rfl ?_
                        refine zv_ei (x := ty) ht84 rfl rfl (zhas_nc hcy (by decide)) (Eq.trans (gI_sI_ne (by omega)) hty) ?_
                        refine zv_c1 ht84 rfl rfl (zv_c1 ht84 rfl rfl ?_)
                        have C87 : ∀ (pst86 : Outcome × zS → Prop), (pst86 (.returned (some (.int (zbo (((¬ ((((0 : Int32) ||| tx) &&& (1 : Int32)) = 0)) ∧ (¬ ((ty &&& (2 : Int32)) = 0))) ∨ ((¬ ((((0 : Int32) ||| tx) &&& (2 : Int32)) = 0)) ∧ (¬ ((ty &&& (1 : Int32)) = 0))))))), sI (sI (sI (sI (sI (sI (sI (sI (sI (sI (sI (sI S 145 n (q + 1)) 147 n (zbo ((bt 0 a) ∧ (bt 0 b)))) 148 n (zbo (((bt 1 a) ∧ (bt 0 b)) ∨ ((bt 0 a) ∧ (bt 1 b))))) 149 n (zbo ((bt 2 a) ∨ ((bt 0 a) ∧ (bt 2 b))))) 150 n 0) 151 n (zbo (bt 4 b))) 152 n (zbo ((bt 5 a) ∨ (bt 5 b)))) 153 n (zbo ((bt 5 a) ∨ (bt 6 b)))) 154 n 0) 155 n (zbo ((bt 8 a) ∧ (bt 8 b)))) 156 n (zbo (bt 9 a))) 146 n ((0 : Int32) ||| tx))) → zCall ((d - 1) - 1) 9 [.int ((0 : Int32) ||| tx), .int ty, .int 1, .int 2] (sI (sI (sI (sI (sI (sI (sI (sI (sI (sI (sI (sI S 145 n (q + 1)) 147 n (zbo ((bt 0 a) ∧ (bt 0 b)))) 148 n (zbo (((bt 1 a) ∧ (bt 0 b)) ∨ ((bt 0 a) ∧ (bt 1 b))))) 149 n (zbo ((bt 2 a) ∨ ((bt 0 a) ∧ (bt 2 b))))) 150 n 0) 151 n (zbo (bt 4 b))) 152 n (zbo ((bt 5 a) ∨ (bt 5 b)))) 153 n (zbo ((bt 5 a) ∨ (bt 6 b)))) 154 n 0) 155 n (zbo ((bt 8 a) ∧ (bt 8 b)))) 156 n (zbo (bt 9 a))) 146 n ((0 : Int32) ||| tx)) pst86 := by
                          intro pst86 k101
                          have ht88 : ztab 9 = ztb9 := rfl
                          show zEv ((d - 1) - 1) 9 0 [.int ((0 : Int32) ||| tx), .int ty, .int 1, .int 2] [] (sI (sI (sI (sI (sI (sI (sI (sI (sI (sI (sI (sI S 145 n (q + 1)) 147 n (zbo ((bt 0 a) ∧ (bt 0 b)))) 148 n (zbo (((bt 1 a) ∧ (bt 0 b)) ∨ ((bt 0 a) ∧ (bt 1 b))))) 149 n (zbo ((bt 2 a) ∨ ((bt 0 a) ∧ (bt 2 b))))) 150 n 0) 151 n (zbo (bt 4 b))) 152 n (zbo ((bt 5 a) ∨ (bt 5 b)))) 153 n (zbo ((bt 5 a) ∨ (bt 6 b)))) 154 n 0) 155 n (zbo ((bt 8 a) ∧ (bt 8 b)))) 156 n (zbo (bt 9 a))) 146 n ((0 : Int32) ||| tx)) pst86
                          refine zv_c1 ht88 rfl rfl (zv_c1 ht88 rfl rfl ?_)
                          refine zv_c1 (st' := [.int (((0 : Int32) ||| tx) &&& (1 : Int32))]) (S' := sI (sI (sI (sI (sI (sI (sI (sI (sI (sI (sI (sI S 145 n (q + 1)) 147 n (zbo ((bt 0 a) ∧ (bt 0 b)))) 148 n (zbo (((bt 1 a) ∧ (bt 0 b)) ∨ ((bt 0 a) ∧ (bt 1 b))))) 149 n (zbo ((bt 2 a) ∨ ((bt 0 a) ∧ (bt 2 b))))) 150 n 0) 151 n (zbo (bt 4 b))) 152 n (zbo ((bt 5 a) ∨ (bt 5 b)))) 153 n (zbo ((bt 5 a) ∨ (bt 6 b)))) 154 n 0) 155 n (zbo ((bt 8 a) ∧ (bt 8 b)))) 156 n (zbo (bt 9 a))) 146 n ((0 : Int32) ||| tx)) ht88 rfl rfl ?_
                          have J99 : zEv ((d - 1) - 1) 9 29 [.retAddr 0, .retAddr 0, .retAddr 0, .retAddr 0] [.int (zbo (((¬ ((((0 : Int32) ||| tx) &&& (1 : Int32)) = 0)) ∧ (¬ ((ty &&& (2 : Int32)) = 0))) ∨ ((¬ ((((0 : Int32) ||| tx) &&& (2 : Int32)) = 0)) ∧ (¬ ((ty &&& (1 : Int32)) = 0)))))] (sI (sI (sI (sI (sI (sI (sI (sI (sI (sI (sI (sI S 145 n (q + 1)) 147 n (zbo ((bt 0 a) ∧ (bt 0 b)))) 148 n (zbo (((bt 1 a) ∧ (bt 0 b)) ∨ ((bt 0 a) ∧ (bt 1 b))))) 149 n (zbo ((bt 2 a) ∨ ((bt 0 a) ∧ (bt 2 b))))) 150 n 0) 151 n (zbo (bt 4 b))) 152 n (zbo ((bt 5 a) ∨ (bt 5 b)))) 153 n (zbo ((bt 5 a) ∨ (bt 6 b)))) 154 n 0) 155 n (zbo ((bt 8 a) ∧ (bt 8 b)))) 156 n (zbo (bt 9 a))) 146 n ((0 : Int32) ||| tx)) pst86 := by
                            exact zv_rc ht88 rfl rfl rfl rfl zbo_rng k101
                          have J97 : (((¬ ((((0 : Int32) ||| tx) &&& (1 : Int32)) = 0)) ∧ (¬ ((ty &&& (2 : Int32)) = 0))) ∨ ((¬ ((((0 : Int32) ||| tx) &&& (2 : Int32)) = 0)) ∧ (¬ ((ty &&& (1 : Int32)) = 0)))) → zEv ((d - 1) - 1) 9 24 [.retAddr 0, .retAddr 0, .retAddr 0, .retAddr 0] [] (sI (sI (sI (sI (sI (sI (sI (sI (sI (sI (sI (sI S 145 n (q + 1)) 147 n (zbo ((bt 0 a) ∧ (bt 0 b)))) 148 n (zbo (((bt 1 a) ∧ (bt 0 b)) ∨ ((bt 0 a) ∧ (bt 1 b))))) 149 n (zbo ((bt 2 a) ∨ ((bt 0 a) ∧ (bt 2 b))))) 150 n 0) 151 n (zbo (bt 4 b))) 152 n (zbo ((bt 5 a) ∨ (bt 5 b)))) 153 n (zbo ((bt 5 a) ∨ (bt 6 b)))) 154 n 0) 155 n (zbo ((bt 8 a) ∧ (bt 8 b)))) 156 n (zbo (bt 9 a))) 146 n ((0 : Int32) ||| tx)) pst86 := by
                            intro b98
                            refine zv_c1 ht88 rfl rfl (zv_c1 ht88 rfl rfl ?_)
                            exact (zv_sub (zz := zbo (((¬ ((((0 : Int32) ||| tx) &&& (1 : Int32)) = 0)) ∧ (¬ ((ty &&& (2 : Int32)) = 0))) ∨ ((¬ ((((0 : Int32) ||| tx) &&& (2 : Int32)) = 0)) ∧ (¬ ((ty &&& (1 : Int32)) = 0))))) (zy := 1) (p := fun zz => zEv ((d - 1) - 1) 9 29 [.retAddr 0, .retAddr 0, .retAddr 0, .retAddr 0] [.int zz] (sI (sI (sI (sI (sI (sI (sI (sI (sI (sI (sI (sI S 145 n (q + 1)) 147 n (zbo ((bt 0 a) ∧ (bt 0 b)))) 148 n (zbo (((bt 1 a) ∧ (bt 0 b)) ∨ ((bt 0 a) ∧ (bt 1 b))))) 149 n (zbo ((bt 2 a) ∨ ((bt 0 a) ∧ (bt 2 b))))) 150 n 0) 151 n (zbo (bt 4 b))) 152 n (zbo ((bt 5 a) ∨ (bt 5 b)))) 153 n (zbo ((bt 5 a) ∨ (bt 6 b)))) 154 n 0) 155 n (zbo ((bt 8 a) ∧ (bt 8 b)))) 156 n (zbo (bt 9 a))) 146 n ((0 : Int32) ||| tx)) pst86) (zbo_pos b98) J99)
                          have J91 : (((((0 : Int32) ||| tx) &&& (1 : Int32)) = 0) ∨ ((ty &&& (2 : Int32)) = 0)) → zEv ((d - 1) - 1) 9 12 [.int ((0 : Int32) ||| tx), .int ty, .int 1, .int 2] [] (sI (sI (sI (sI (sI (sI (sI (sI (sI (sI (sI (sI S 145 n (q + 1)) 147 n (zbo ((bt 0 a) ∧ (bt 0 b)))) 148 n (zbo (((bt 1 a) ∧ (bt 0 b)) ∨ ((bt 0 a) ∧ (bt 1 b))))) 149 n (zbo ((bt 2 a) ∨ ((bt 0 a) ∧ (bt 2 b))))) 150 n 0) 151 n (zbo (bt 4 b))) 152 n (zbo ((bt 5 a) ∨ (bt 5 b)))) 153 n (zbo ((bt 5 a) ∨ (bt 6 b)))) 154 n 0) 155 n (zbo ((bt 8 a) ∧ (bt 8 b)))) 156 n (zbo (bt 9 a))) 146 n ((0 : Int32) ||| tx)) pst86 := by
                            intro b92
                            refine zv_c1 ht88 rfl rfl (zv_c1 ht88 rfl rfl ?_)
                            refine zv_c1 (st' := [.int (((0 : Int32) ||| tx) &&& (2 : Int32))]) (S' := sI (sI (sI (sI (sI (sI (sI (sI (sI (sI (sI (sI S 145 n (q + 1)) 147 n (zbo ((bt 0 a) ∧ (bt 0 b)))) 148 n (zbo (((bt 1 a) ∧ (bt 0 b)) ∨ ((bt 0 a) ∧ (bt 1 b))))) 149 n (zbo ((bt 2 a) ∨ ((bt 0 a) ∧ (bt 2 b))))) 150 n 0) 151 n (zbo (bt 4 b))) 152 n (zbo ((bt 5 a) ∨ (bt 5 b)))) 153 n (zbo ((bt 5 a) ∨ (bt 6 b)))) 154 n 0) 155 n (zbo ((bt 8 a) ∧ (bt 8 b)))) 156 n (zbo (bt 9 a))) 146 n ((0 : Int32) ||| tx)) ht88 rfl rfl ?_
                            have J95 : (((((0 : Int32) ||| tx) &&& (2 : Int32)) = 0) ∨ ((ty &&& (1 : Int32)) = 0)) → zEv ((d - 1) - 1) 9 28 [.retAddr 0, .retAddr 0, .retAddr 0, .retAddr 0] [] (sI (sI (sI (sI (sI (sI (sI (sI (sI (sI (sI (sI S 145 n (q + 1)) 147 n (zbo ((bt 0 a) ∧ (bt 0 b)))) 148 n (zbo (((bt 1 a) ∧ (bt 0 b)) ∨ ((bt 0 a) ∧ (bt 1 b))))) 149 n (zbo ((bt 2 a) ∨ ((bt 0 a) ∧ (bt 2 b))))) 150 n 0) 151 n (zbo (bt 4 b))) 152 n (zbo ((bt 5 a) ∨ (bt 5 b)))) 153 n (zbo ((bt 5 a) ∨ (bt 6 b)))) 154 n 0) 155 n (zbo ((bt 8 a) ∧ (bt 8 b)))) 156 n (zbo (bt 9 a))) 146 n ((0 : Int32) ||| tx)) pst86 := by
                              intro b96
                              refine zv_c1 ht88 rfl rfl ?_
                              exact (zv_sub (zz := zbo (((¬ ((((0 : Int32) ||| tx) &&& (1 : Int32)) = 0)) ∧ (¬ ((ty &&& (2 : Int32)) = 0))) ∨ ((¬ ((((0 : Int32) ||| tx) &&& (2 : Int32)) = 0)) ∧ (¬ ((ty &&& (1 : Int32)) = 0))))) (zy := 0) (p := fun zz => zEv ((d - 1) - 1) 9 29 [.retAddr 0, .retAddr 0, .retAddr 0, .retAddr 0] [.int zz] (sI (sI (sI (sI (sI (sI (sI (sI (sI (sI (sI (sI S 145 n (q + 1)) 147 n (zbo ((bt 0 a) ∧ (bt 0 b)))) 148 n (zbo (((bt 1 a) ∧ (bt 0 b)) ∨ ((bt 0 a) ∧ (bt 1 b))))) 149 n (zbo ((bt 2 a) ∨ ((bt 0 a) ∧ (bt 2 b))))) 150 n 0) 151 n (zbo (bt 4 b))) 152 n (zbo ((bt 5 a) ∨ (bt 5 b)))) 153 n (zbo ((bt 5 a) ∨ (bt 6 b)))) 154 n 0) 155 n (zbo ((bt 8 a) ∧ (bt 8 b)))) 156 n (zbo (bt 9 a))) 146 n ((0 : Int32) ||| tx)) pst86) (zbo_neg (b92.elim (fun y1 => (b96.elim (fun y2 => (fun h => h.elim (fun h => (fun h => h y1) h.1) (fun h => (fun h => h y2) h.1))) (fun y2 => (fun h => h.elim (fun h => (fun h => h y1) h.1) (fun h => (fun h => h y2) h.2))))) (fun y1 => (b96.elim (fun y2 => (fun h => h.elim (fun h => (fun h => h y1) h.2) (fun h => (fun h => h y2) h.1))) (fun y2 => (fun h => h.elim (fun h => (fun h => h y1) h.2) (fun h => (fun h => h y2) h.2))))))) J99)
                            refine zv_br ht88 rfl rfl rfl (fun b93 => ?_) (fun b93 => ?_)
                            · exact zEv.wk (L := [.retAddr 0, .retAddr 0, .retAddr 0, .retAddr 0]) (L' := [.int ((0 : Int32) ||| tx), .int ty, .int 1, .int 2]) (And.intro (Or.inr rfl) (And.intro (Or.inr rfl) (And.intro (Or.inr rfl) (And.intro (Or.inr rfl) trivial)))) (J95 (Or.inl b93))
                            · refine zv_c1 ht88 rfl rfl (zv_c1 ht88 rfl rfl ?_)
                              refine zv_c1 (st' := [.int (ty &&& (1 : Int32))]) (S' := sI (sI (sI (sI (sI (sI (sI (sI (sI (sI (sI (sI S 145 n (q + 1)) 147 n (zbo ((bt 0 a) ∧ (bt 0 b)))) 148 n (zbo (((bt 1 a) ∧ (bt 0 b)) ∨ ((bt 0 a) ∧ (bt 1 b))))) 149 n (zbo ((bt 2 a) ∨ ((bt 0 a) ∧ (bt 2 b))))) 150 n 0) 151 n (zbo (bt 4 b))) 152 n (zbo ((bt 5 a) ∨ (bt 5 b)))) 153 n (zbo ((bt 5 a) ∨ (bt 6 b)))) 154 n 0) 155 n (zbo ((bt 8 a) ∧ (bt 8 b)))) 156 n (zbo (bt 9 a))) 146 n ((0 : Int32) ||| tx)) ht88 rfl rfl ?_
                              refine zv_br ht88 rfl rfl rfl (fun b94 => ?_) (fun b94 => ?_)
                              · exact zEv.wk (L := [.retAddr 0, .retAddr 0, .retAddr 0, .retAddr 0]) (L' := [.int ((0 : Int32) ||| tx), .int ty, .int 1, .int 2]) (And.intro (Or.inr rfl) (And.intro (Or.inr rfl) (And.intro (Or.inr rfl) (And.intro (Or.inr rfl) trivial)))) (J95 (Or.inr b94))
                              · exact zEv.wk (L := [.retAddr 0, .retAddr 0, .retAddr 0, .retAddr 0]) (L' := [.int ((0 : Int32) ||| tx), .int ty, .int 1, .int 2]) (And.intro (Or.inr rfl) (And.intro (Or.inr rfl) (And.intro (Or.inr rfl) (And.intro (Or.inr rfl) trivial)))) (J97 (Or.inr ⟨b93, b94⟩))
                          refine zv_br ht88 rfl rfl rfl (fun b89 => ?_) (fun b89 => ?_)
                          · exact (J91 (Or.inl b89))
                          · refine zv_c1 ht88 rfl rfl (zv_c1 ht88 rfl rfl ?_)
                            refine zv_c1 (st' := [.int (ty &&& (2 : Int32))]) (S' := sI (sI (sI (sI (sI (sI (sI (sI (sI (sI (sI (sI S 145 n (q + 1)) 147 n (zbo ((bt 0 a) ∧ (bt 0 b)))) 148 n (zbo (((bt 1 a) ∧ (bt 0 b)) ∨ ((bt 0 a) ∧ (bt 1 b))))) 149 n (zbo ((bt 2 a) ∨ ((bt 0 a) ∧ (bt 2 b))))) 150 n 0) 151 n (zbo (bt 4 b))) 152 n (zbo ((bt 5 a) ∨ (bt 5 b)))) 153 n (zbo ((bt 5 a) ∨ (bt 6 b)))) 154 n 0) 155 n (zbo ((bt 8 a) ∧ (bt 8 b)))) 156 n (zbo (bt 9 a))) 146 n ((0 : Int32) ||| tx)) ht88 rfl rfl ?_
                            refine zv_br ht88 rfl rfl rfl (fun b90 => ?_) (fun b90 => ?_)
                            · exact zEv.wk (L := [.retAddr 0, .retAddr 0, .retAddr 0, .retAddr 0]) (L' := [.int ((0 : Int32) ||| tx), .int ty, .int 1, .int 2]) (And.intro (Or.inr rfl) (And.intro (Or.inr rfl) (And.intro (Or.inr rfl) (And.intro (Or.inr rfl) trivial)))) (J97 (Or.inl ⟨b89, b90⟩))
                            · replace b90 : (ty &&& (2 : Int32)) = 0 := Classical.not_not.mp b90
                              exact (J91 (Or.inr b90))
                        refine zv_cl ht84 rfl rfl rfl rfl (by omega) (Nat.le_of_ble_eq_true rfl) (C87 _ ?_)
                        show zEv (d - 1) 286 25 [.ref n, .ref y, .int 1] [.int (zbo (((¬ ((((0 : Int32) ||| tx) &&& (1 : Int32)) = 0)) ∧ (¬ ((ty &&& (2 : Int32)) = 0))) ∨ ((¬ ((((0 : Int32) ||| tx) &&& (2 : Int32)) = 0)) ∧ (¬ ((ty &&& (1 : Int32)) = 0))))), .ref n] (sI (sI (sI (sI (sI (sI (sI (sI (sI (sI (sI (sI S 145 n (q + 1)) 147 n (zbo ((bt 0 a) ∧ (bt 0 b)))) 148 n (zbo (((bt 1 a) ∧ (bt 0 b)) ∨ ((bt 0 a) ∧ (bt 1 b))))) 149 n (zbo ((bt 2 a) ∨ ((bt 0 a) ∧ (bt 2 b))))) 150 n 0) 151 n (zbo (bt 4 b))) 152 n (zbo ((bt 5 a) ∨ (bt 5 b)))) 153 n (zbo ((bt 5 a) ∨ (bt 6 b)))) 154 n 0) 155 n (zbo ((bt 8 a) ∧ (bt 8 b)))) 156 n (zbo (bt 9 a))) 146 n ((0 : Int32) ||| tx)) pst82
                        refine zv_br ht84 rfl rfl rfl (fun b102 => ?_) (fun b102 => ?_)
                        · replace b102 : ((¬ ((((0 : Int32) ||| tx) &&& (1 : Int32)) = 0)) ∧ (¬ ((ty &&& (2 : Int32)) = 0))) ∨ ((¬ ((((0 : Int32) ||| tx) &&& (2 : Int32)) = 0)) ∧ (¬ ((ty &&& (1 : Int32)) = 0))) := Classical.byContradiction (fun h => b102 ((zbo_eq0 : (zbo (((¬ ((((0 : Int32) ||| tx) &&& (1 : Int32)) = 0)) ∧ (¬ ((ty &&& (2 : Int32)) = 0))) ∨ ((¬ ((((0 : Int32) ||| tx) &&& (2 : Int32)) = 0)) ∧ (¬ ((ty &&& (1 : Int32)) = 0))))) = 0 ↔ ¬ (((¬ ((((0 : Int32) ||| tx) &&& (1 : Int32)) = 0)) ∧ (¬ ((ty &&& (2 : Int32)) = 0))) ∨ ((¬ ((((0 : Int32) ||| tx) &&& (2 : Int32)) = 0)) ∧ (¬ ((ty &&& (1 : Int32)) = 0))))).mpr h))
                          exact zEv.wk (L := [.ref n, .ref y, .retAddr 0]) (L' := [.ref n, .ref y, .int 1]) (And.intro (Or.inl rfl) (And.intro (Or.inl rfl) (And.intro (Or.inr rfl) trivial))) (J120 (Or.inr (Or.inl b102)))
                        · replace b102 : ¬ (((¬ ((((0 : Int32) ||| tx) &&& (1 : Int32)) = 0)) ∧ (¬ ((ty &&& (2 : Int32)) = 0))) ∨ ((¬ ((((0 : Int32) ||| tx) &&& (2 : Int32)) = 0)) ∧ (¬ ((ty &&& (1 : Int32)) = 0)))) := (zbo_eq0 : (zbo (((¬ ((((0 : Int32) ||| tx) &&& (1 : Int32)) = 0)) ∧ (¬ ((ty &&& (2 : Int32)) = 0))) ∨ ((¬ ((((0 : Int32) ||| tx) &&& (2 : Int32)) = 0)) ∧ (¬ ((ty &&& (1 : Int32)) = 0))))) = 0 ↔ ¬ (((¬ ((((0 : Int32) ||| tx) &&& (1 : Int32)) = 0)) ∧ (¬ ((ty &&& (2 : Int32)) = 0))) ∨ ((¬ ((((0 : Int32) ||| tx) &&& (2 : Int32)) = 0)) ∧ (¬ ((ty &&& (1 : Int32)) = 0))))).mp (Classical.not_not.mp b102)
                          refine zv_c1 ht84 rfl rfl ?_
                          refine zv_ei (x := (0 : Int32) ||| tx) ht84 rfl rfl (zhas_of (htn) rfl) gI_sI_at ?_
                          refine zv_c1 ht84 rfl rfl ?_
                          refine zv_ei (x := ty) ht84 rfl rfl (zhas_nc hcy (by decide)) (Eq.trans (gI_sI_ne (by omega)) hty) ?_
                          refine zv_c1 ht84 rfl rfl (zv_c1 ht84 rfl rfl ?_)
                          have C104 : ∀ (pst103 : Outcome × zS → Prop), (pst103 (.returned (some (.int (zbo (((¬ ((((0 : Int32) ||| tx) &&& (4 : Int32)) = 0)) ∧ (¬ ((ty &&& (8 : Int32)) = 0))) ∨ ((¬ ((((0 : Int32) ||| tx) &&& (8 : Int32)) = 0)) ∧ (¬ ((ty &&& (4 : Int32)) = 0))))))), sI (sI (sI (sI (sI (sI (sI (sI (sI (sI (sI (sI S 145 n (q + 1)) 147 n (zbo ((bt 0 a) ∧ (bt 0 b)))) 148 n (zbo (((bt 1 a) ∧ (bt 0 b)) ∨ ((bt 0 a) ∧ (bt 1 b))))) 149 n (zbo ((bt 2 a) ∨ ((bt 0 a) ∧ (bt 2 b))))) 150 n 0) 151 n (zbo (bt 4 b))) 152 n (zbo ((bt 5 a) ∨ (bt 5 b)))) 153 n (zbo ((bt 5 a) ∨ (bt 6 b)))) 154 n 0) 155 n (zbo ((bt 8 a) ∧ (bt 8 b)))) 156 n (zbo (bt 9 a))) 146 n ((0 : Int32) ||| tx))) → zCall ((d - 1) - 1) 9 [.int ((0 : Int32) ||| tx), .int ty, .int 4, .int 8] (sI (sI (sI (sI (sI (sI (sI (sI (sI (sI (sI (sI S 145 n (q + 1)) 147 n (zbo ((bt 0 a) ∧ (bt 0 b)))) 148 n (zbo (((bt 1 a) ∧ (bt 0 b)) ∨ ((bt 0 a) ∧ (bt 1 b))))) 149 n (zbo ((bt 2 a) ∨ ((bt 0 a) ∧ (bt 2 b))))) 150 n 0) 151 n (zbo (bt 4 b))) 152 n (zbo ((bt 5 a) ∨ (bt 5 b)))) 153 n (zbo ((bt 5 a) ∨ (bt 6 b)))) 154 n 0) 155 n (zbo ((bt 8 a) ∧ (bt 8 b)))) 156 n (zbo (bt 9 a))) 146 n ((0 : Int32) ||| tx)) pst103 := by
                            intro pst103 k118
                            have ht105 : ztab 9 = ztb9 := rfl
                            show zEv ((d - 1) - 1) 9 0 [.int ((0 : Int32) ||| tx), .int ty, .int 4, .int 8] [] (sI (sI (sI (sI (sI (sI (sI (sI (sI (sI (sI (sI S 145 n (q + 1)) 147 n (zbo ((bt 0 a) ∧ (bt 0 b)))) 148 n (zbo (((bt 1 a) ∧ (bt 0 b)) ∨ ((bt 0 a) ∧ (bt 1 b))))) 149 n (zbo ((bt 2 a) ∨ ((bt 0 a) ∧ (bt 2 b))))) 150 n 0) 151 n (zbo (bt 4 b))) 152 n (zbo ((bt 5 a) ∨ (bt 5 b)))) 153 n (zbo ((bt 5 a) ∨ (bt 6 b)))) 154 n 0) 155 n (zbo ((bt 8 a) ∧ (bt 8 b)))) 156 n (zbo (bt 9 a))) 146 n ((0 : Int32) ||| tx)) pst103
                            refine zv_c1 ht105 rfl rfl (zv_c1 ht105 rfl rfl ?_)
                            refine zv_c1 (st' := [.int (((0 : Int32) ||| tx) &&& (4 : Int32))]) (S' := sI (sI (sI (sI (sI (sI (sI (sI (sI (sI (sI (sI S 145 n (q + 1)) 147 n (zbo ((bt 0 a) ∧ (bt 0 b)))) 148 n (zbo (((bt 1 a) ∧ (bt 0 b)) ∨ ((bt 0 a) ∧ (bt 1 b))))) 149 n (zbo ((bt 2 a) ∨ ((bt 0 a) ∧ (bt 2 b))))) 150 n 0) 151 n (zbo (bt 4 b))) 152 n (zbo ((bt 5 a) ∨ (bt 5 b)))) 153 n (zbo ((bt 5 a) ∨ (bt 6 b)))) 154 n 0) 155 n (zbo ((bt 8 a) ∧ (bt 8 b)))) 156 n (zbo (bt 9 a))) 146 n ((0 : Int32) ||| tx)) ht105 rfl rfl ?_
                            have J116 : zEv ((d - 1) - 1) 9 29 [.retAddr 0, .retAddr 0, .retAddr 0, .retAddr 0] [.int (zbo (((¬ ((((0 : Int32) ||| tx) &&& (4 : Int32)) = 0)) ∧ (¬ ((ty &&& (8 : Int32)) = 0))) ∨ ((¬ ((((0 : Int32) ||| tx) &&& (8 : Int32)) = 0)) ∧ (¬ ((ty &&& (4 : Int32)) = 0)))))] (sI (sI (sI (sI (sI (sI (sI (sI (sI (sI (sI (sI S 145 n (q + 1)) 147 n (zbo ((bt 0 a) ∧ (bt 0 b)))) 148 n (zbo (((bt 1 a) ∧ (bt 0 b)) ∨ ((bt 0 a) ∧ (bt 1 b))))) 149 n (zbo ((bt 2 a) ∨ ((bt 0 a) ∧ (bt 2 b))))) 150 n 0) 151 n (zbo (bt 4 b))) 152 n (zbo ((bt 5 a) ∨ (bt 5 b)))) 153 n (zbo ((bt 5 a) ∨ (bt 6 b)))) 154 n 0) 155 n (zbo ((bt 8 a) ∧ (bt 8 b)))) 156 n (zbo (bt 9 a))) 146 n ((0 : Int32) ||| tx)) pst103 := by
                              exact zv_rc ht105 rfl rfl rfl rfl zbo_rng k118
                            have J114 : (((¬ ((((0 : Int32) ||| tx) &&& (4 : Int32)) = 0)) ∧ (¬ ((ty &&& (8 : Int32)) = 0))) ∨ ((¬ ((((0 : Int32) ||| tx) &&& (8 : Int32)) = 0)) ∧ (¬ ((ty &&& (4 : Int32)) = 0)))) → zEv ((d - 1) - 1) 9 24 [.retAddr 0, .retAddr 0, .retAddr 0, .retAddr 0] [] (sI (sI (sI (sI (sI (sI (sI (sI (sI (sI (sI (sI S 145 n (q + 1)) 147 n (zbo ((bt 0 a) ∧ (bt 0 b)))) 148 n (zbo (((bt 1 a) ∧ (bt 0 b)) ∨ ((bt 0 a) ∧ (bt 1 b))))) 149 n (zbo ((bt 2 a) ∨ ((bt 0 a) ∧ (bt 2 b))))) 150 n 0) 151 n (zbo (bt 4 b))) 152 n (zbo ((bt 5 a) ∨ (bt 5 b)))) 153 n (zbo ((bt 5 a) ∨ (bt 6 b)))) 154 n 0) 155 n (zbo ((bt 8 a) ∧ (bt 8 b)))) 156 n (zbo (bt 9 a))) 146 n ((0 : Int32) ||| tx)) pst103 := by
                              intro b115
                              refine zv_c1 ht105 rfl rfl (zv_c1 ht105 rfl rfl ?_)
                              exact (zv_sub (zz := zbo (((¬ ((((0 : Int32) ||| tx) &&& (4 : Int32)) = 0)) ∧ (¬ ((ty &&& (8 : Int32)) = 0))) ∨ ((¬ ((((0 : Int32) ||| tx) &&& (8 : Int32)) = 0)) ∧ (¬ ((ty &&& (4 : Int32)) = 0))))) (zy := 1) (p := fun zz => zEv ((d - 1) - 1) 9 29 [.retAddr 0, .retAddr 0, .retAddr 0, .retAddr 0] [.int zz] (sI (sI (sI (sI (sI (sI (sI (sI (sI (sI (sI (sI S 145 n (q + 1)) 147 n (zbo ((bt 0 a) ∧ (bt 0 b)))) 148 n (zbo (((bt 1 a) ∧ (bt 0 b)) ∨ ((bt 0 a) ∧ (bt 1 b))))) 149 n (zbo ((bt 2 a) ∨ ((bt 0 a) ∧ (bt 2 b))))) 150 n 0) 151 n (zbo (bt 4 b))) 152 n (zbo ((bt 5 a) ∨ (bt 5 b)))) 153 n (zbo ((bt 5 a) ∨ (bt 6 b)))) 154 n 0) 155 n (zbo ((bt 8 a) ∧ (bt 8 b)))) 156 n (zbo (bt 9 a))) 146 n ((0 : Int32) ||| tx)) pst103) (zbo_pos b115) J116)
                            have J108 : (((((0 : Int32) ||| tx) &&& (4 : Int32)) = 0) ∨ ((ty &&& (8 : Int32)) = 0)) → zEv ((d - 1) - 1) 9 12 [.int ((0 : Int32) ||| tx), .int ty, .int 4, .int 8] [] (sI (sI (sI (sI (sI (sI (sI (sI (sI (sI (sI (sI S 145 n (q + 1)) 147 n (zbo ((bt 0 a) ∧ (bt 0 b)))) 148 n (zbo (((bt 1 a) ∧ (bt 0 b)) ∨ ((bt 0 a) ∧ (bt 1 b))))) 149 n (zbo ((bt 2 a) ∨ ((bt 0 a) ∧ (bt 2 b))))) 150 n 0) 151 n (zbo (bt 4 b))) 152 n (zbo ((bt 5 a) ∨ (bt 5 b)))) 153 n (zbo ((bt 5 a) ∨ (bt 6 b)))) 154 n 0) 155 n (zbo ((bt 8 a) ∧ (bt 8 b)))) 156 n (zbo (bt 9 a))) 146 n ((0 : Int32) ||| tx)) pst103 := by
                              intro b109
                              refine zv_c1 ht105 rfl rfl (zv_c1 ht105 rfl rfl ?_)
                              refine zv_c1 (st' := [.int (((0 : Int32) ||| tx) &&& (8 : Int32))]) (S' := sI (sI (sI (sI (sI (sI (sI (sI (sI (sI (sI (sI S 145 n (q + 1)) 147 n (zbo ((bt 0 a) ∧ (bt 0 b)))) 148 n (zbo (((bt 1 a) ∧ (bt 0 b)) ∨ ((bt 0 a) ∧ (bt 1 b))))) 149 n (zbo ((bt 2 a) ∨ ((bt 0 a) ∧ (bt 2 b))))) 150 n 0) 151 n (zbo (bt 4 b))) 152 n (zbo ((bt 5 a) ∨ (bt 5 b)))) 153 n (zbo ((bt 5 a) ∨ (bt 6 b)))) 154 n 0) 155 n (zbo ((bt 8 a) ∧ (bt 8 b)))) 156 n (zbo (bt 9 a))) 146 n ((0 : Int32) ||| tx)) ht105 rfl rfl ?_
                              have J112 : (((((0 : Int32) ||| tx) &&& (8 : Int32)) = 0) ∨ ((ty &&& (4 : Int32)) = 0)) → zEv ((d - 1) - 1) 9 28 [.retAddr 0, .retAddr 0, .retAddr 0, .retAddr 0] [] (sI (sI (sI (sI (sI (sI (sI (sI (sI (sI (sI (sI S 145 n (q + 1)) 147 n (zbo ((bt 0 a) ∧ (bt 0 b)))) 148 n (zbo (((bt 1 a) ∧ (bt 0 b)) ∨ ((bt 0 a) ∧ (bt 1 b))))) 149 n (zbo ((bt 2 a) ∨ ((bt 0 a) ∧ (bt 2 b))))) 150 n 0) 151 n (zbo (bt 4 b))) 152 n (zbo ((bt 5 a) ∨ (bt 5 b)))) 153 n (zbo ((bt 5 a) ∨ (bt 6 b)))) 154 n 0) 155 n (zbo ((bt 8 a) ∧ (bt 8 b)))) 156 n (zbo (bt 9 a))) 146 n ((0 : Int32) ||| tx)) pst103 := by
                                intro b113
                                refine zv_c1 ht105 rfl rfl ?_
                                exact (zv_sub (zz := zbo (((¬ ((((0 : Int32) ||| tx) &&& (4 : Int32)) = 0)) ∧ (¬ ((ty &&& (8 : Int32)) = 0))) ∨ ((¬ ((((0 : Int32) ||| tx) &&& (8 : Int32)) = 0)) ∧ (¬ ((ty &&& (4 : Int32)) = 0))))) (zy := 0) (p := fun zz => zEv ((d - 1) - 1) 9 29 [.retAddr 0, .retAddr 0, .retAddr 0, .retAddr 0] [.int zz] (sI (sI (sI (sI (sI (sI (sI (sI (sI (sI (sI (sI S 145 n (q + 1)) 147 n (zbo ((bt 0 a) ∧ (bt 0 b)))) 148 n (zbo (((bt 1 a) ∧ (bt 0 b)) ∨ ((bt 0 a) ∧ (bt 1 b))))) 149 n (zbo ((bt 2 a) ∨ ((bt 0 a) ∧ (bt 2 b))))) 150 n 0) 151 n (zbo (bt 4 b))) 152 n (zbo ((bt 5 a) ∨ (bt 5 b)))) 153 n (zbo ((bt 5 a) ∨ (bt 6 b)))) 154 n 0) 155 n (zbo ((bt 8 a) ∧ (bt 8 b)))) 156 n (zbo (bt 9 a))) 146 n ((0 : Int32) ||| tx)) pst103) (zbo_neg (b109.elim (fun y1 => (b113.elim (fun y2 => (fun h => h.elim (fun h => (fun h => h y1) h.1) (fun h => (fun h => h y2) h.1))) (fun y2 => (fun h => h.elim (fun h => (fun h => h y1) h.1) (fun h => (fun h => h y2) h.2))))) (fun y1 => (b113.elim (fun y2 => (fun h => h.elim (fun h => (fun h => h y1) h.2) (fun h => (fun h => h y2) h.1))) (fun y2 => (fun h => h.elim (fun h => (fun h => h y1) h.2) (fun h => (fun h => h y2) h.2))))))) J116)
                              refine zv_br ht105 rfl rfl rfl (fun b110 => ?_) (fun b110 => ?_)
                              · exact zEv.wk (L := [.retAddr 0, .retAddr 0, .retAddr 0, .retAddr 0]) (L' := [.int ((0 : Int32) ||| tx), .int ty, .int 4, .int 8]) (And.intro (Or.inr rfl) (And.intro (Or.inr rfl) (And.intro (Or.inr rfl) (And.intro (Or.inr rfl) trivial)))) (J112 (Or.inl b110))
                              · refine zv_c1 ht105 rfl rfl (zv_c1 ht105 rfl rfl ?_)
                                refine zv_c1 (st' := [.int (ty &&& (4 : Int32))]) (S' := sI (sI (sI (sI (sI (sI (sI (sI (sI (sI (sI (sI S 145 n (q + 1)) 147 n (zbo ((bt 0 a) ∧ (bt 0 b)))) 148 n (zbo (((bt 1 a) ∧ (bt 0 b)) ∨ ((bt 0 a) ∧ (bt 1 b))))) 149 n (zbo ((bt 2 a) ∨ ((bt 0 a) ∧ (bt 2 b))))) 150 n 0) 151 n (zbo (bt 4 b))) 152 n (zbo ((bt 5 a) ∨ (bt 5 b)))) 153 n (zbo ((bt 5 a) ∨ (bt 6 b)))) 154 n 0) 155 n (zbo ((bt 8 a) ∧ (bt 8 b)))) 156 n (zbo (bt 9 a))) 146 n ((0 : Int32) ||| tx)) ht105 rfl rfl ?_
                                refine zv_br ht105 rfl rfl rfl (fun b111 => ?_) (fun b111 => ?_)
                                · exact zEv.wk (L := [.retAddr 0, .retAddr 0, .retAddr 0, .retAddr 0]) (L' := [.int ((0 : Int32) ||| tx), .int ty, .int 4, .int 8]) (And.intro (Or.inr rfl) (And.intro (Or.inr rfl) (And.intro (Or.inr rfl) (And.intro (Or.inr rfl) trivial)))) (J112 (Or.inr b111))
                                · exact zEv.wk (L := [.retAddr 0, .retAddr 0, .retAddr 0, .retAddr 0]) (L' := [.int ((0 : Int32) ||| tx), .int ty, .int 4, .int 8]) (And.intro (Or.inr rfl) (And.intro (Or.inr rfl) (And.intro (Or.inr rfl) (And.intro (Or.inr rfl) trivial)))) (J114 (Or.inr ⟨b110, b111⟩))
                            refine zv_br ht105 rfl rfl rfl (fun b106 => ?_) (fun b106 => ?_)
                            · exact (J108 (Or.inl b106))
                            · refine zv_c1 ht105 rfl rfl (zv_c1 ht105 rfl rfl ?_)
                              refine zv_c1 (st' := [.int (ty &&& (8 : Int32))]) (S' := sI (sI (sI (sI (sI (sI (sI (sI (sI (sI (sI (sI S 145 n (q + 1)) 147 n (zbo ((bt 0 a) ∧ (bt 0 b)))) 148 n (zbo (((bt 1 a) ∧ (bt 0 b)) ∨ ((bt 0 a) ∧ (bt 1 b))))) 149 n (zbo ((bt 2 a) ∨ ((bt 0 a) ∧ (bt 2 b))))) 150 n 0) 151 n (zbo (bt 4 b))) 152 n (zbo ((bt 5 a) ∨ (bt 5 b)))) 153 n (zbo ((bt 5 a) ∨ (bt 6 b)))) 154 n 0) 155 n (zbo ((bt 8 a) ∧ (bt 8 b)))) 156 n (zbo (bt 9 a))) 146 n ((0 : Int32) ||| tx)) ht105 rfl rfl ?_
                              refine zv_br ht105 rfl rfl rfl (fun b107 => ?_) (fun b107 => ?_)
                              · exact zEv.wk (L := [.retAddr 0, .retAddr 0, .retAddr 0, .retAddr 0]) (L' := [.int ((0 : Int32) ||| tx), .int ty, .int 4, .int 8]) (And.intro (Or.inr rfl) (And.intro (Or.inr rfl) (And.intro (Or.inr rfl) (And.intro (Or.inr rfl) trivial)))) (J114 (Or.inl ⟨b106, b107⟩))
                              · replace b107 : (ty &&& (8 : Int32)) = 0 := Classical.not_not.mp b107
                                exact (J108 (Or.inr b107))
                          refine zv_cl ht84 rfl rfl rfl rfl (by omega) (Nat.le_of_ble_eq_true rfl) (C104 _ ?_)
                          show zEv (d - 1) 286 42 [.ref n, .ref y, .int 1] [.int (zbo (((¬ ((((0 : Int32) ||| tx) &&& (4 : Int32)) = 0)) ∧ (¬ ((ty &&& (8 : Int32)) = 0))) ∨ ((¬ ((((0 : Int32) ||| tx) &&& (8 : Int32)) = 0)) ∧ (¬ ((ty &&& (4 : Int32)) = 0))))), .ref n] (sI (sI (sI (sI (sI (sI (sI (sI (sI (sI (sI (sI S 145 n (q + 1)) 147 n (zbo ((bt 0 a) ∧ (bt 0 b)))) 148 n (zbo (((bt 1 a) ∧ (bt 0 b)) ∨ ((bt 0 a) ∧ (bt 1 b))))) 149 n (zbo ((bt 2 a) ∨ ((bt 0 a) ∧ (bt 2 b))))) 150 n 0) 151 n (zbo (bt 4 b))) 152 n (zbo ((bt 5 a) ∨ (bt 5 b)))) 153 n (zbo ((bt 5 a) ∨ (bt 6 b)))) 154 n 0) 155 n (zbo ((bt 8 a) ∧ (bt 8 b)))) 156 n (zbo (bt 9 a))) 146 n ((0 : Int32) ||| tx)) pst82
                          refine zv_br ht84 rfl rfl rfl (fun b119 => ?_) (fun b119 => ?_)
                          · replace b119 : ¬ (((¬ ((((0 : Int32) ||| tx) &&& (4 : Int32)) = 0)) ∧ (¬ ((ty &&& (8 : Int32)) = 0))) ∨ ((¬ ((((0 : Int32) ||| tx) &&& (8 : Int32)) = 0)) ∧ (¬ ((ty &&& (4 : Int32)) = 0)))) := (zbo_eq0 : (zbo (((¬ ((((0 : Int32) ||| tx) &&& (4 : Int32)) = 0)) ∧ (¬ ((ty &&& (8 : Int32)) = 0))) ∨ ((¬ ((((0 : Int32) ||| tx) &&& (8 : Int32)) = 0)) ∧ (¬ ((ty &&& (4 : Int32)) = 0))))) = 0 ↔ ¬ (((¬ ((((0 : Int32) ||| tx) &&& (4 : Int32)) = 0)) ∧ (¬ ((ty &&& (8 : Int32)) = 0))) ∨ ((¬ ((((0 : Int32) ||| tx) &&& (8 : Int32)) = 0)) ∧ (¬ ((ty &&& (4 : Int32)) = 0))))).mp b119
                            refine zv_c1 ht84 rfl rfl ?_
                            exact zEv.wk (L := [.ref n, .ref y, .retAddr 0]) (L' := [.ref n, .ref y, .int 1]) (And.intro (Or.inl rfl) (And.intro (Or.inl rfl) (And.intro (Or.inr rfl) trivial))) (zv_sub (zz := zbo ((bt 9 a) ∨ (((¬ ((((0 : Int32) ||| tx) &&& (1 : Int32)) = 0)) ∧ (¬ ((ty &&& (2 : Int32)) = 0))) ∨ ((¬ ((((0 : Int32) ||| tx) &&& (2 : Int32)) = 0)) ∧ (¬ ((ty &&& (1 : Int32)) = 0)))) ∨ ((¬ ((((0 : Int32) ||| tx) &&& (4 : Int32)) = 0)) ∧ (¬ ((ty &&& (8 : Int32)) = 0))) ∨ ((¬ ((((0 : Int32) ||| tx) &&& (8 : Int32)) = 0)) ∧ (¬ ((ty &&& (4 : Int32)) = 0))))) (zy := 0) (p := fun zz => zEv (d - 1) 286 50 [.ref n, .ref y, .retAddr 0] [.int zz, .ref n] (sI (sI (sI (sI (sI (sI (sI (sI (sI (sI (sI (sI S 145 n (q + 1)) 147 n (zbo ((bt 0 a) ∧ (bt 0 b)))) 148 n (zbo (((bt 1 a) ∧ (bt 0 b)) ∨ ((bt 0 a) ∧ (bt 1 b))))) 149 n (zbo ((bt 2 a) ∨ ((bt 0 a) ∧ (bt 2 b))))) 150 n 0) 151 n (zbo (bt 4 b))) 152 n (zbo ((bt 5 a) ∨ (bt 5 b)))) 153 n (zbo ((bt 5 a) ∨ (bt 6 b)))) 154 n 0) 155 n (zbo ((bt 8 a) ∧ (bt 8 b)))) 156 n (zbo (bt 9 a))) 146 n ((0 : Int32) ||| tx)) pst82) (zbo_neg (fun h => h.elim b85 (fun h => h.elim b102 b119))) J122)
                          · replace b119 : ((¬ ((((0 : Int32) ||| tx) &&& (4 : Int32)) = 0)) ∧ (¬ ((ty &&& (8 : Int32)) = 0))) ∨ ((¬ ((((0 : Int32) ||| tx) &&& (8 : Int32)) = 0)) ∧ (¬ ((ty &&& (4 : Int32)) = 0))) := Classical.byContradiction (fun h => b119 ((zbo_eq0 : (zbo (((¬ ((((0 : Int32) ||| tx) &&& (4 : Int32)) = 0)) ∧ (¬ ((ty &&& (8 : Int32)) = 0))) ∨ ((¬ ((((0 : Int32) ||| tx) &&& (8 : Int32)) = 0)) ∧ (¬ ((ty &&& (4 : Int32)) = 0))))) = 0 ↔ ¬ (((¬ ((((0 : Int32) ||| tx) &&& (4 : Int32)) = 0)) ∧ (¬ ((ty &&& (8 : Int32)) = 0))) ∨ ((¬ ((((0 : Int32) ||| tx) &&& (8 : Int32)) = 0)) ∧ (¬ ((ty &&& (4 : Int32)) = 0))))).mpr h))
                            exact zEv.wk (L := [.ref n, .ref y, .retAddr 0]) (L' := [.ref n, .ref y, .int 1]) (And.intro (Or.inl rfl) (And.intro (Or.inl rfl) (And.intro (Or.inr rfl) trivial))) (J120 (Or.inr (Or.inr b119)))
                    refine zv_cl ht rfl rfl rfl (zv_tgv (htn) rfl) (by omega) (Nat.le_of_ble_eq_true rfl) (C83 _ ?_)
                    show zEv d 371 836 [.ref n, .retAddr 0, .retAddr 0, .retAddr 0, .int (zbo ((bt 8 a) ∧ (bt 8 b))), .retAddr 0, .retAddr 0] [] (sI (sI (sI (sI (sI (sI (sI (sI (sI (sI (sI (sI (sI (sI (sI S 145 n (q + 1)) 147 n (zbo ((bt 0 a) ∧ (bt 0 b)))) 148 n (zbo (((bt 1 a) ∧ (bt 0 b)) ∨ ((bt 0 a) ∧ (bt 1 b))))) 149 n (zbo ((bt 2 a) ∨ ((bt 0 a) ∧ (bt 2 b))))) 150 n 0) 151 n (zbo (bt 4 b))) 152 n (zbo ((bt 5 a) ∨ (bt 5 b)))) 153 n (zbo ((bt 5 a) ∨ (bt 6 b)))) 154 n 0) 155 n (zbo ((bt 8 a) ∧ (bt 8 b)))) 156 n (zbo (bt 9 a))) 146 n ((0 : Int32) ||| tx)) 156 n (zbo ((bt 9 a) ∨ (((¬ ((((0 : Int32) ||| tx) &&& (1 : Int32)) = 0)) ∧ (¬ ((ty &&& (2 : Int32)) = 0))) ∨ ((¬ ((((0 : Int32) ||| tx) &&& (2 : Int32)) = 0)) ∧ (¬ ((ty &&& (1 : Int32)) = 0)))) ∨ ((¬ ((((0 : Int32) ||| tx) &&& (4 : Int32)) = 0)) ∧ (¬ ((ty &&& (8 : Int32)) = 0))) ∨ ((¬ ((((0 : Int32) ||| tx) &&& (8 : Int32)) = 0)) ∧ (¬ ((ty &&& (4 : Int32)) = 0)))))) 156 n (zbo (((bt 9 a) ∨ (((¬ ((((0 : Int32) ||| tx) &&& (1 : Int32)) = 0)) ∧ (¬ ((ty &&& (2 : Int32)) = 0))) ∨ ((¬ ((((0 : Int32) ||| tx) &&& (2 : Int32)) = 0)) ∧ (¬ ((ty &&& (1 : Int32)) = 0)))) ∨ ((¬ ((((0 : Int32) ||| tx) &&& (4 : Int32)) = 0)) ∧ (¬ ((ty &&& (8 : Int32)) = 0))) ∨ ((¬ ((((0 : Int32) ||| tx) &&& (8 : Int32)) = 0)) ∧ (¬ ((ty &&& (4 : Int32)) = 0)))) ∨ (bt 9 b)))) 146 n (((0 : Int32) ||| tx) ||| ty)) post
                    exact zv_rt ht rfl rfl rfl rfl (h1 b11)
                  have J66 : ((bt 5 a) ∨ (bt 6 b)) → zEv d 371 291 [.ref n, .retAddr 0, .retAddr 0, .retAddr 0, .int (zbo ((bt 8 a) ∧ (bt 8 b))), .retAddr 0, .retAddr 0] [.int (zbo ((bt 5 a) ∨ (bt 5 b))), .ref n] (sI (sI (sI (sI (sI (sI S 145 n (q + 1)) 147 n (zbo ((bt 0 a) ∧ (bt 0 b)))) 148 n (zbo (((bt 1 a) ∧ (bt 0 b)) ∨ ((bt 0 a) ∧ (bt 1 b))))) 149 n (zbo ((bt 2 a) ∨ ((bt 0 a) ∧ (bt 2 b))))) 150 n 0) 151 n (zbo (bt 4 b))) post := by
                    intro b67
                    refine zv_c1 ht rfl rfl (zv_c1 ht rfl rfl ?_)
                    exact (zv_sub (zz := zbo ((bt 5 a) ∨ (bt 6 b))) (zy := 1) (p := fun zz => zEv d 371 296 [.ref n, .retAddr 0, .retAddr 0, .retAddr 0, .int (zbo ((bt 8 a) ∧ (bt 8 b))), .retAddr 0, .retAddr 0] [.int zz, .int (zbo ((bt 5 a) ∨ (bt 5 b))), .ref n] (sI (sI (sI (sI (sI (sI S 145 n (q + 1)) 147 n (zbo ((bt 0 a) ∧ (bt 0 b)))) 148 n (zbo (((bt 1 a) ∧ (bt 0 b)) ∨ ((bt 0 a) ∧ (bt 1 b))))) 149 n (zbo ((bt 2 a) ∨ ((bt 0 a) ∧ (bt 2 b))))) 150 n 0) 151 n (zbo (bt 4 b))) post) (zbo_pos b67) J68)
                  refine zv_br ht rfl rfl rfl (fun b64 => ?_) (fun b64 => ?_)
                  · replace b64 : bt 5 a := Classical.byContradiction (fun h => b64 ((zbo_eq0 : (zbo (bt 5 a)) = 0 ↔ ¬ (bt 5 a)).mpr h))
                    exact zEv.wk (L := [.ref n, .retAddr 0, .retAddr 0, .retAddr 0, .int (zbo ((bt 8 a) ∧ (bt 8 b))), .retAddr 0, .retAddr 0]) (L' := [.ref n, .retAddr 0, .retAddr 0, .retAddr 0, .int (zbo ((bt 8 a) ∧ (bt 8 b))), .int (zbo ((bt 5 a) ∨ (bt 5 b))), .retAddr 0]) (And.intro (Or.inl rfl) (And.intro (Or.inl rfl) (And.intro (Or.inl rfl) (And.intro (Or.inl rfl) (And.intro (Or.inl rfl) (And.intro (Or.inr rfl) (And.intro (Or.inl rfl) trivial))))))) (J66 (Or.inl b64))
                  · replace b64 : ¬ (bt 5 a) := (zbo_eq0 : (zbo (bt 5 a)) = 0 ↔ ¬ (bt 5 a)).mp (Classical.not_not.mp b64)
                    refine zv_c1 ht rfl rfl ?_
                    refine zv_g3 (q := y) ht rfl hF rfl rfl (zhas_of (htn) rfl) hpy ?_
                    refine zv_ei (x := zbo (bt 6 b)) ht rfl rfl (zhas_nc hcy (by decide)) hfy ?_
                    refine zv_br ht rfl rfl rfl (fun b65 => ?_) (fun b65 => ?_)
                    · replace b65 : ¬ (bt 6 b) := (zbo_eq0 : (zbo (bt 6 b)) = 0 ↔ ¬ (bt 6 b)).mp b65
                      refine zv_c1 ht rfl rfl ?_
                      exact zEv.wk (L := [.ref n, .retAddr 0, .retAddr 0, .retAddr 0, .int (zbo ((bt 8 a) ∧ (bt 8 b))), .retAddr 0, .retAddr 0]) (L' := [.ref n, .retAddr 0, .retAddr 0, .retAddr 0, .int (zbo ((bt 8 a) ∧ (bt 8 b))), .int (zbo ((bt 5 a) ∨ (bt 5 b))), .retAddr 0]) (And.intro (Or.inl rfl) (And.intro (Or.inl rfl) (And.intro (Or.inl rfl) (And.intro (Or.inl rfl) (And.intro (Or.inl rfl) (And.intro (Or.inr rfl) (And.intro (Or.inl rfl) trivial))))))) (zv_sub (zz := zbo ((bt 5 a) ∨ (bt 6 b))) (zy := 0) (p := fun zz => zEv d 371 296 [.ref n, .retAddr 0, .retAddr 0, .retAddr 0, .int (zbo ((bt 8 a) ∧ (bt 8 b))), .retAddr 0, .retAddr 0] [.int zz, .int (zbo ((bt 5 a) ∨ (bt 5 b))), .ref n] (sI (sI (sI (sI (sI (sI S 145 n (q + 1)) 147 n (zbo ((bt 0 a) ∧ (bt 0 b)))) 148 n (zbo (((bt 1 a) ∧ (bt 0 b)) ∨ ((bt 0 a) ∧ (bt 1 b))))) 149 n (zbo ((bt 2 a) ∨ ((bt 0 a) ∧ (bt 2 b))))) 150 n 0) 151 n (zbo (bt 4 b))) post) (zbo_neg (fun h => h.elim b64 b65)) J68)
                    · replace b65 : bt 6 b := Classical.byContradiction (fun h => b65 ((zbo_eq0 : (zbo (bt 6 b)) = 0 ↔ ¬ (bt 6 b)).mpr h))
                      exact zEv.wk (L := [.ref n, .retAddr 0, .retAddr 0, .retAddr 0, .int (zbo ((bt 8 a) ∧ (bt 8 b))), .retAddr 0, .retAddr 0]) (L' := [.ref n, .retAddr 0, .retAddr 0, .retAddr 0, .int (zbo ((bt 8 a) ∧ (bt 8 b))), .int (zbo ((bt 5 a) ∨ (bt 5 b))), .retAddr 0]) (And.intro (Or.inl rfl) (And.intro (Or.inl rfl) (And.intro (Or.inl rfl) (And.intro (Or.inl rfl) (And.intro (Or.inl rfl) (And.intro (Or.inr rfl) (And.intro (Or.inl rfl) trivial))))))) (J66 (Or.inr b65))
                have J56 : ((bt 2 a) ∨ ((bt 0 a) ∧ (bt 2 b))) → zEv d 371 252 [.ref n, .retAddr 0, .retAddr 0, .retAddr 0, .int (zbo ((bt 8 a) ∧ (bt 8 b))), .int (zbo ((bt 5 a) ∨ (bt 5 b))), .retAddr 0] [.int (zbo (((bt 1 a) ∧ (bt 0 b)) ∨ ((bt 0 a) ∧ (bt 1 b)))), .int (zbo ((bt 0 a) ∧ (bt 0 b))), .int (q + 1), .ref n] S post := by
                  intro b57
                  refine zv_c1 ht rfl rfl (zv_c1 ht rfl rfl ?_)
                  exact (zv_sub (zz := zbo ((bt 2 a) ∨ ((bt 0 a) ∧ (bt 2 b)))) (zy := 1) (p := fun zz => zEv d 371 257 [.ref n, .retAddr 0, .retAddr 0, .retAddr 0, .int (zbo ((bt 8 a) ∧ (bt 8 b))), .int (zbo ((bt 5 a) ∨ (bt 5 b))), .retAddr 0] [.int zz, .int (zbo (((bt 1 a) ∧ (bt 0 b)) ∨ ((bt 0 a) ∧ (bt 1 b)))), .int (zbo ((bt 0 a) ∧ (bt 0 b))), .int (q + 1), .ref n] S post) (zbo_pos b57) J58)
                refine zv_br ht rfl rfl rfl (fun b51 => ?_) (fun b51 => ?_)
                · replace b51 : bt 2 a := Classical.byContradiction (fun h => b51 ((zbo_eq0 : (zbo (bt 2 a)) = 0 ↔ ¬ (bt 2 a)).mpr h))
                  exact zEv.wk (L := [.ref n, .retAddr 0, .retAddr 0, .retAddr 0, .int (zbo ((bt 8 a) ∧ (bt 8 b))), .int (zbo ((bt 5 a) ∨ (bt 5 b))), .retAddr 0]) (L' := [.ref n, .int (zbo ((bt 0 a) ∧ (bt 0 b))), .int (zbo ((bt 1 a) ∧ (bt 0 b))), .int (zbo (((bt 1 a) ∧ (bt 0 b)) ∨ ((bt 0 a) ∧ (bt 1 b)))), .int (zbo ((bt 8 a) ∧ (bt 8 b))), .int (zbo ((bt 5 a) ∨ (bt 5 b))), .int (zbo ((bt 5 a) ∧ (bt 5 b)))]) (And.intro (Or.inl rfl) (And.intro (Or.inr rfl) (And.intro (Or.inr rfl) (And.intro (Or.inr rfl) (And.intro (Or.inl rfl) (And.intro (Or.inl rfl) (And.intro (Or.inr rfl) trivial))))))) (J56 (Or.inl b51))
                · replace b51 : ¬ (bt 2 a) := (zbo_eq0 : (zbo (bt 2 a)) = 0 ↔ ¬ (bt 2 a)).mp (Classical.not_not.mp b51)
                  refine zv_c1 ht rfl rfl ?_
                  refine zv_g3 (q := x) ht rfl hF rfl rfl (zhas_of (htn) rfl) hpx ?_
                  refine zv_ei (x := zbo (bt 0 a)) ht rfl rfl (zhas_nc hcx (by decide)) hzx ?_
                  have J54 : ((¬ (bt 0 a)) ∨ (¬ (bt 2 b))) → zEv d 371 256 [.ref n, .retAddr 0, .retAddr 0, .retAddr 0, .int (zbo ((bt 8 a) ∧ (bt 8 b))), .int (zbo ((bt 5 a) ∨ (bt 5 b))), .retAddr 0] [.int (zbo (((bt 1 a) ∧ (bt 0 b)) ∨ ((bt 0 a) ∧ (bt 1 b)))), .int (zbo ((bt 0 a) ∧ (bt 0 b))), .int (q + 1), .ref n] S post := by
                    intro b55
                    refine zv_c1 ht rfl rfl ?_
                    exact (zv_sub (zz := zbo ((bt 2 a) ∨ ((bt 0 a) ∧ (bt 2 b)))) (zy := 0) (p := fun zz => zEv d 371 257 [.ref n, .retAddr 0, .retAddr 0, .retAddr 0, .int (zbo ((bt 8 a) ∧ (bt 8 b))), .int (zbo ((bt 5 a) ∨ (bt 5 b))), .retAddr 0] [.int zz, .int (zbo (((bt 1 a) ∧ (bt 0 b)) ∨ ((bt 0 a) ∧ (bt 1 b)))), .int (zbo ((bt 0 a) ∧ (bt 0 b))), .int (q + 1), .ref n] S post) (zbo_neg (b55.elim (fun y1 => (fun h => h.elim b51 (fun h => y1 h.1))) (fun y1 => (fun h => h.elim b51 (fun h => y1 h.2))))) J58)
                  refine zv_br ht rfl rfl rfl (fun b52 => ?_) (fun b52 => ?_)
                  · replace b52 : ¬ (bt 0 a) := (zbo_eq0 : (zbo (bt 0 a)) = 0 ↔ ¬ (bt 0 a)).mp b52
                    exact zEv.wk (L := [.ref n, .retAddr 0, .retAddr 0, .retAddr 0, .int (zbo ((bt 8 a) ∧ (bt 8 b))), .int (zbo ((bt 5 a) ∨ (bt 5 b))), .retAddr 0]) (L' := [.ref n, .int (zbo ((bt 0 a) ∧ (bt 0 b))), .int (zbo ((bt 1 a) ∧ (bt 0 b))), .int (zbo (((bt 1 a) ∧ (bt 0 b)) ∨ ((bt 0 a) ∧ (bt 1 b)))), .int (zbo ((bt 8 a) ∧ (bt 8 b))), .int (zbo ((bt 5 a) ∨ (bt 5 b))), .int (zbo ((bt 5 a) ∧ (bt 5 b)))]) (And.intro (Or.inl rfl) (And.intro (Or.inr rfl) (And.intro (Or.inr rfl) (And.intro (Or.inr rfl) (And.intro (Or.inl rfl) (And.intro (Or.inl rfl) (And.intro (Or.inr rfl) trivial))))))) (J54 (Or.inl b52))
                  · replace b52 : bt 0 a := Classical.byContradiction (fun h => b52 ((zbo_eq0 : (zbo (bt 0 a)) = 0 ↔ ¬ (bt 0 a)).mpr h))
                    refine zv_c1 ht rfl rfl ?_
                    refine zv_g3 (q := y) ht rfl hF rfl rfl (zhas_of (htn) rfl) hpy ?_
                    refine zv_ei (x := zbo (bt 2 b)) ht rfl rfl (zhas_nc hcy (by decide)) hny ?_
                    refine zv_br ht rfl rfl rfl (fun b53 => ?_) (fun b53 => ?_)
                    · replace b53 : ¬ (bt 2 b) := (zbo_eq0 : (zbo (bt 2 b)) = 0 ↔ ¬ (bt 2 b)).mp b53
                      exact zEv.wk (L := [.ref n, .retAddr 0, .retAddr 0, .retAddr 0, .int (zbo ((bt 8 a) ∧ (bt 8 b))), .int (zbo ((bt 5 a) ∨ (bt 5 b))), .retAddr 0]) (L' := [.ref n, .int (zbo ((bt 0 a) ∧ (bt 0 b))), .int (zbo ((bt 1 a) ∧ (bt 0 b))), .int (zbo (((bt 1 a) ∧ (bt 0 b)) ∨ ((bt 0 a) ∧ (bt 1 b)))), .int (zbo ((bt 8 a) ∧ (bt 8 b))), .int (zbo ((bt 5 a) ∨ (bt 5 b))), .int (zbo ((bt 5 a) ∧ (bt 5 b)))]) (And.intro (Or.inl rfl) (And.intro (Or.inr rfl) (And.intro (Or.inr rfl) (And.intro (Or.inr rfl) (And.intro (Or.inl rfl) (And.intro (Or.inl rfl) (And.intro (Or.inr rfl) trivial))))))) (J54 (Or.inr b53))
                    · replace b53 : bt 2 b := Classical.byContradiction (fun h => b53 ((zbo_eq0 : (zbo (bt 2 b)) = 0 ↔ ¬ (bt 2 b)).mpr h))
                      exact zEv.wk (L := [.ref n, .retAddr 0, .retAddr 0, .retAddr 0, .int (zbo ((bt 8 a) ∧ (bt 8 b))), .int (zbo ((bt 5 a) ∨ (bt 5 b))), .retAddr 0]) (L' := [.ref n, .int (zbo ((bt 0 a) ∧ (bt 0 b))), .int (zbo ((bt 1 a) ∧ (bt 0 b))), .int (zbo (((bt 1 a) ∧ (bt 0 b)) ∨ ((bt 0 a) ∧ (bt 1 b)))), .int (zbo ((bt 8 a) ∧ (bt 8 b))), .int (zbo ((bt 5 a) ∨ (bt 5 b))), .int (zbo ((bt 5 a) ∧ (bt 5 b)))]) (And.intro (Or.inl rfl) (And.intro (Or.inr rfl) (And.intro (Or.inr rfl) (And.intro (Or.inr rfl) (And.intro (Or.inl rfl) (And.intro (Or.inl rfl) (And.intro (Or.inr rfl) trivial))))))) (J56 (Or.inr ⟨b52, b53⟩))
              have J47 : ((¬ (bt 5 a)) ∨ (¬ (bt 5 b))) → zEv d 371 172 [.ref n, .int (zbo ((bt 0 a) ∧ (bt 0 b))), .int (zbo ((bt 1 a) ∧ (bt 0 b))), .int (zbo (((bt 1 a) ∧ (bt 0 b)) ∨ ((bt 0 a) ∧ (bt 1 b)))), .int (zbo ((bt 8 a) ∧ (bt 8 b))), .int (zbo ((bt 5 a) ∨ (bt 5 b))), .retAddr 0] [] S post := by
                intro b48
                refine zv_c1 ht rfl rfl ?_
                exact (zv_sub (zz := zbo ((bt 5 a) ∧ (bt 5 b))) (zy := 0) (p := fun zz => zEv d 371 173 [.ref n, .int (zbo ((bt 0 a) ∧ (bt 0 b))), .int (zbo ((bt 1 a) ∧ (bt 0 b))), .int (zbo (((bt 1 a) ∧ (bt 0 b)) ∨ ((bt 0 a) ∧ (bt 1 b)))), .int (zbo ((bt 8 a) ∧ (bt 8 b))), .int (zbo ((bt 5 a) ∨ (bt 5 b))), .retAddr 0] [.int zz] S post) (zbo_neg (b48.elim (fun y1 => (fun h => y1 h.1)) (fun y1 => (fun h => y1 h.2)))) J49)
              refine zv_br ht rfl rfl rfl (fun b45 => ?_) (fun b45 => ?_)
              · replace b45 : ¬ (bt 5 a) := (zbo_eq0 : (zbo (bt 5 a)) = 0 ↔ ¬ (bt 5 a)).mp b45
                exact (J47 (Or.inl b45))
              · replace b45 : bt 5 a := Classical.byContradiction (fun h => b45 ((zbo_eq0 : (zbo (bt 5 a)) = 0 ↔ ¬ (bt 5 a)).mpr h))
                refine zv_c1 ht rfl rfl ?_
                refine zv_g3 (q := y) ht rfl hF rfl rfl (zhas_of (htn) rfl) hpy ?_
                refine zv_ei (x := zbo (bt 5 b)) ht rfl rfl (zhas_nc hcy (by decide)) hsy ?_
                refine zv_br ht rfl rfl rfl (fun b46 => ?_) (fun b46 => ?_)
                · replace b46 : ¬ (bt 5 b) := (zbo_eq0 : (zbo (bt 5 b)) = 0 ↔ ¬ (bt 5 b)).mp b46
                  exact (J47 (Or.inr b46))
                · replace b46 : bt 5 b := Classical.byContradiction (fun h => b46 ((zbo_eq0 : (zbo (bt 5 b)) = 0 ↔ ¬ (bt 5 b)).mpr h))
                  refine zv_c1 ht rfl rfl (zv_c1 ht rfl rfl ?_)
                  exact (zv_sub (zz := zbo ((bt 5 a) ∧ (bt 5 b))) (zy := 1) (p := fun zz => zEv d 371 173 [.ref n, .int (zbo ((bt 0 a) ∧ (bt 0 b))), .int (zbo ((bt 1 a) ∧ (bt 0 b))), .int (zbo (((bt 1 a) ∧ (bt 0 b)) ∨ ((bt 0 a) ∧ (bt 1 b)))), .int (zbo ((bt 8 a) ∧ (bt 8 b))), .int (zbo ((bt 5 a) ∨ (bt 5 b))), .retAddr 0] [.int zz] S post) (zbo_pos ⟨b45, b46⟩) J49)
            have J41 : ((bt 5 a) ∨ (bt 5 b)) → zEv d 371 141 [.ref n, .int (zbo ((bt 0 a) ∧ (bt 0 b))), .int (zbo ((bt 1 a) ∧ (bt 0 b))), .int (zbo (((bt 1 a) ∧ (bt 0 b)) ∨ ((bt 0 a) ∧ (bt 1 b)))), .int (zbo ((bt 8 a) ∧ (bt 8 b))), .retAddr 0, .retAddr 0] [] S post := by
              intro b42
              refine zv_c1 ht rfl rfl (zv_c1 ht rfl rfl ?_)
              exact (zv_sub (zz := zbo ((bt 5 a) ∨ (bt 5 b))) (zy := 1) (p := fun zz => zEv d 371 146 [.ref n, .int (zbo ((bt 0 a) ∧ (bt 0 b))), .int (zbo ((bt 1 a) ∧ (bt 0 b))), .int (zbo (((bt 1 a) ∧ (bt 0 b)) ∨ ((bt 0 a) ∧ (bt 1 b)))), .int (zbo ((bt 8 a) ∧ (bt 8 b))), .retAddr 0, .retAddr 0] [.int zz] S post) (zbo_pos b42) J43)
            refine zv_br ht rfl rfl rfl (fun b39 => ?_) (fun b39 => ?_)
            · replace b39 : bt 5 a := Classical.byContradiction (fun h => b39 ((zbo_eq0 : (zbo (bt 5 a)) = 0 ↔ ¬ (bt 5 a)).mpr h))
              exact (J41 (Or.inl b39))
            · replace b39 : ¬ (bt 5 a) := (zbo_eq0 : (zbo (bt 5 a)) = 0 ↔ ¬ (bt 5 a)).mp (Classical.not_not.mp b39)
              refine zv_c1 ht rfl rfl ?_
              refine zv_g3 (q := y) ht rfl hF rfl rfl (zhas_of (htn) rfl) hpy ?_
              refine zv_ei (x := zbo (bt 5 b)) ht rfl rfl (zhas_nc hcy (by decide)) hsy ?_
              refine zv_br ht rfl rfl rfl (fun b40 => ?_) (fun b40 => ?_)
              · replace b40 : ¬ (bt 5 b) := (zbo_eq0 : (zbo (bt 5 b)) = 0 ↔ ¬ (bt 5 b)).mp b40
                refine zv_c1 ht rfl rfl ?_
                exact (zv_sub (zz := zbo ((bt 5 a) ∨ (bt 5 b))) (zy := 0) (p := fun zz => zEv d 371 146 [.ref n, .int (zbo ((bt 0 a) ∧ (bt 0 b))), .int (zbo ((bt 1 a) ∧ (bt 0 b))), .int (zbo (((bt 1 a) ∧ (bt 0 b)) ∨ ((bt 0 a) ∧ (bt 1 b)))), .int (zbo ((bt 8 a) ∧ (bt 8 b))), .retAddr 0, .retAddr 0] [.int zz] S post) (zbo_neg (fun h => h.elim b39 b40)) J43)
              · replace b40 : bt 5 b := Classical.byContradiction (fun h => b40 ((zbo_eq0 : (zbo (bt 5 b)) = 0 ↔ ¬ (bt 5 b)).mpr h))
                exact (J41 (Or.inr b40))
          have J35 : ((¬ (bt 8 a)) ∨ (¬ (bt 8 b))) → zEv d 371 118 [.ref n, .int (zbo ((bt 0 a) ∧ (bt 0 b))), .int (zbo ((bt 1 a) ∧ (bt 0 b))), .int (zbo (((bt 1 a) ∧ (bt 0 b)) ∨ ((bt 0 a) ∧ (bt 1 b)))), .retAddr 0, .retAddr 0, .retAddr 0] [] S post := by
            intro b36
            refine zv_c1 ht rfl rfl ?_
            exact (zv_sub (zz := zbo ((bt 8 a) ∧ (bt 8 b))) (zy := 0) (p := fun zz => zEv d 371 119 [.ref n, .int (zbo ((bt 0 a) ∧ (bt 0 b))), .int (zbo ((bt 1 a) ∧ (bt 0 b))), .int (zbo (((bt 1 a) ∧ (bt 0 b)) ∨ ((bt 0 a) ∧ (bt 1 b)))), .retAddr 0, .retAddr 0, .retAddr 0] [.int zz] S post) (zbo_neg (b36.elim (fun y1 => (fun h => y1 h.1)) (fun y1 => (fun h => y1 h.2)))) J37)
          refine zv_br ht rfl rfl rfl (fun b33 => ?_) (fun b33 => ?_)
          · replace b33 : ¬ (bt 8 a) := (zbo_eq0 : (zbo (bt 8 a)) = 0 ↔ ¬ (bt 8 a)).mp b33
            exact (J35 (Or.inl b33))
          · replace b33 : bt 8 a := Classical.byContradiction (fun h => b33 ((zbo_eq0 : (zbo (bt 8 a)) = 0 ↔ ¬ (bt 8 a)).mpr h))
            refine zv_c1 ht rfl rfl ?_
            refine zv_g3 (q := y) ht rfl hF rfl rfl (zhas_of (htn) rfl) hpy ?_
            refine zv_ei (x := zbo (bt 8 b)) ht rfl rfl (zhas_nc hcy (by decide)) hmy ?_
            refine zv_br ht rfl rfl rfl (fun b34 => ?_) (fun b34 => ?_)
            · replace b34 : ¬ (bt 8 b) := (zbo_eq0 : (zbo (bt 8 b)) = 0 ↔ ¬ (bt 8 b)).mp b34
              exact (J35 (Or.inr b34))
            · replace b34 : bt 8 b := Classical.byContradiction (fun h => b34 ((zbo_eq0 : (zbo (bt 8 b)) = 0 ↔ ¬ (bt 8 b)).mpr h))
              refine zv_c1 ht rfl rfl (zv_c1 ht rfl rfl ?_)
              exact (zv_sub (zz := zbo ((bt 8 a) ∧ (bt 8 b))) (zy := 1) (p := fun zz => zEv d 371 119 [.ref n, .int (zbo ((bt 0 a) ∧ (bt 0 b))), .int (zbo ((bt 1 a) ∧ (bt 0 b))), .int (zbo (((bt 1 a) ∧ (bt 0 b)) ∨ ((bt 0 a) ∧ (bt 1 b)))), .retAddr 0, .retAddr 0, .retAddr 0] [.int zz] S post) (zbo_pos ⟨b33, b34⟩) J37)
        have J29 : (((bt 1 a) ∧ (bt 0 b)) ∨ ((bt 0 a) ∧ (bt 1 b))) → zEv d 371 88 [.ref n, .int (zbo ((bt 0 a) ∧ (bt 0 b))), .int (zbo ((bt 1 a) ∧ (bt 0 b))), .retAddr 0, .retAddr 0, .retAddr 0, .retAddr 0] [] S post := by
          intro b30
          refine zv_c1 ht rfl rfl (zv_c1 ht rfl rfl ?_)
          exact (zv_sub (zz := zbo (((bt 1 a) ∧ (bt 0 b)) ∨ ((bt 0 a) ∧ (bt 1 b)))) (zy := 1) (p := fun zz => zEv d 371 93 [.ref n, .int (zbo ((bt 0 a) ∧ (bt 0 b))), .int (zbo ((bt 1 a) ∧ (bt 0 b))), .retAddr 0, .retAddr 0, .retAddr 0, .retAddr 0] [.int zz] S post) (zbo_pos b30) J31)
        refine zv_br ht rfl rfl rfl (fun b24 => ?_) (fun b24 => ?_)
        · replace b24 : (bt 1 a) ∧ (bt 0 b) := Classical.byContradiction (fun h => b24 ((zbo_eq0 : (zbo ((bt 1 a) ∧ (bt 0 b))) = 0 ↔ ¬ ((bt 1 a) ∧ (bt 0 b))).mpr h))
          exact (J29 (Or.inl b24))
        · replace b24 : ¬ ((bt 1 a) ∧ (bt 0 b)) := (zbo_eq0 : (zbo ((bt 1 a) ∧ (bt 0 b))) = 0 ↔ ¬ ((bt 1 a) ∧ (bt 0 b))).mp (Classical.not_not.mp b24)
          refine zv_c1 ht rfl rfl ?_
          refine zv_g3 (q := x) ht rfl hF rfl rfl (zhas_of (htn) rfl) hpx ?_
          refine zv_ei (x := zbo (bt 0 a)) ht rfl rfl (zhas_nc hcx (by decide)) hzx ?_
          have J27 : ((¬ (bt 0 a)) ∨ (¬ (bt 1 b))) → zEv d 371 92 [.ref n, .int (zbo ((bt 0 a) ∧ (bt 0 b))), .int (zbo ((bt 1 a) ∧ (bt 0 b))), .retAddr 0, .retAddr 0, .retAddr 0, .retAddr 0] [] S post := by
            intro b28
            refine zv_c1 ht rfl rfl ?_
            exact (zv_sub (zz := zbo (((bt 1 a) ∧ (bt 0 b)) ∨ ((bt 0 a) ∧ (bt 1 b)))) (zy := 0) (p := fun zz => zEv d 371 93 [.ref n, .int (zbo ((bt 0 a) ∧ (bt 0 b))), .int (zbo ((bt 1 a) ∧ (bt 0 b))), .retAddr 0, .retAddr 0, .retAddr 0, .retAddr 0] [.int zz] S post) (zbo_neg (b28.elim (fun y1 => (fun h => h.elim b24 (fun h => y1 h.1))) (fun y1 => (fun h => h.elim b24 (fun h => y1 h.2))))) J31)
          refine zv_br ht rfl rfl rfl (fun b25 => ?_) (fun b25 => ?_)
          · replace b25 : ¬ (bt 0 a) := (zbo_eq0 : (zbo (bt 0 a)) = 0 ↔ ¬ (bt 0 a)).mp b25
            exact (J27 (Or.inl b25))
          · replace b25 : bt 0 a := Classical.byContradiction (fun h => b25 ((zbo_eq0 : (zbo (bt 0 a)) = 0 ↔ ¬ (bt 0 a)).mpr h))
            refine zv_c1 ht rfl rfl ?_
            refine zv_g3 (q := y) ht rfl hF rfl rfl (zhas_of (htn) rfl) hpy ?_
            refine zv_ei (x := zbo (bt 1 b)) ht rfl rfl (zhas_nc hcy (by decide)) hoy ?_
            refine zv_br ht rfl rfl rfl (fun b26 => ?_) (fun b26 => ?_)
            · replace b26 : ¬ (bt 1 b) := (zbo_eq0 : (zbo (bt 1 b)) = 0 ↔ ¬ (bt 1 b)).mp b26
              exact (J27 (Or.inr b26))
            · replace b26 : bt 1 b := Classical.byContradiction (fun h => b26 ((zbo_eq0 : (zbo (bt 1 b)) = 0 ↔ ¬ (bt 1 b)).mpr h))
              exact (J29 (Or.inr ⟨b25, b26⟩))
      have J20 : ((¬ (bt 1 a)) ∨ (¬ (bt 0 b))) → zEv d 371 62 [.ref n, .int (zbo ((bt 0 a) ∧ (bt 0 b))), .retAddr 0, .retAddr 0, .retAddr 0, .retAddr 0, .retAddr 0] [] S post := by
        intro b21
        refine zv_c1 ht rfl rfl ?_
        exact (zv_sub (zz := zbo ((bt 1 a) ∧ (bt 0 b))) (zy := 0) (p := fun zz => zEv d 371 63 [.ref n, .int (zbo ((bt 0 a) ∧ (bt 0 b))), .retAddr 0, .retAddr 0, .retAddr 0, .retAddr 0, .retAddr 0] [.int zz] S post) (zbo_neg (b21.elim (fun y1 => (fun h => y1 h.1)) (fun y1 => (fun h => y1 h.2)))) J22)
      refine zv_br ht rfl rfl rfl (fun b18 => ?_) (fun b18 => ?_)
      · replace b18 : ¬ (bt 1 a) := (zbo_eq0 : (zbo (bt 1 a)) = 0 ↔ ¬ (bt 1 a)).mp b18
        exact (J20 (Or.inl b18))
      · replace b18 : bt 1 a := Classical.byContradiction (fun h => b18 ((zbo_eq0 : (zbo (bt 1 a)) = 0 ↔ ¬ (bt 1 a)).mpr h))
        refine zv_c1 ht rfl rfl ?_
        refine zv_g3 (q := y) ht rfl hF rfl rfl (zhas_of (htn) rfl) hpy ?_
        refine zv_ei (x := zbo (bt 0 b)) ht rfl rfl (zhas_nc hcy (by decide)) hzy ?_
        refine zv_br ht rfl rfl rfl (fun b19 => ?_) (fun b19 => ?_)
        · replace b19 : ¬ (bt 0 b) := (zbo_eq0 : (zbo (bt 0 b)) = 0 ↔ ¬ (bt 0 b)).mp b19
          exact (J20 (Or.inr b19))
        · replace b19 : bt 0 b := Classical.byContradiction (fun h => b19 ((zbo_eq0 : (zbo (bt 0 b)) = 0 ↔ ¬ (bt 0 b)).mpr h))
          refine zv_c1 ht rfl rfl (zv_c1 ht rfl rfl ?_)
          exact (zv_sub (zz := zbo ((bt 1 a) ∧ (bt 0 b))) (zy := 1) (p := fun zz => zEv d 371 63 [.ref n, .int (zbo ((bt 0 a) ∧ (bt 0 b))), .retAddr 0, .retAddr 0, .retAddr 0, .retAddr 0, .retAddr 0] [.int zz] S post) (zbo_pos ⟨b18, b19⟩) J22)
    have J14 : ((¬ (bt 0 a)) ∨ (¬ (bt 0 b))) → zEv d 371 36 [.ref n, .retAddr 0, .retAddr 0, .retAddr 0, .retAddr 0, .retAddr 0, .retAddr 0] [] S post := by
      intro b15
      refine zv_c1 ht rfl rfl ?_
      exact (zv_sub (zz := zbo ((bt 0 a) ∧ (bt 0 b))) (zy := 0) (p := fun zz => zEv d 371 37 [.ref n, .retAddr 0, .retAddr 0, .retAddr 0, .retAddr 0, .retAddr 0, .retAddr 0] [.int zz] S post) (zbo_neg (b15.elim (fun y1 => (fun h => y1 h.1)) (fun y1 => (fun h => y1 h.2)))) J16)
    refine zv_br ht rfl rfl rfl (fun b12 => ?_) (fun b12 => ?_)
    · replace b12 : ¬ (bt 0 a) := (zbo_eq0 : (zbo (bt 0 a)) = 0 ↔ ¬ (bt 0 a)).mp b12
      exact (J14 (Or.inl b12))
    · replace b12 : bt 0 a := Classical.byContradiction (fun h => b12 ((zbo_eq0 : (zbo (bt 0 a)) = 0 ↔ ¬ (bt 0 a)).mpr h))
      refine zv_c1 ht rfl rfl ?_
      refine zv_g3 (q := y) ht rfl hF rfl rfl (zhas_of (htn) rfl) hpy ?_
      refine zv_ei (x := zbo (bt 0 b)) ht rfl rfl (zhas_nc hcy (by decide)) hzy ?_
      refine zv_br ht rfl rfl rfl (fun b13 => ?_) (fun b13 => ?_)
      · replace b13 : ¬ (bt 0 b) := (zbo_eq0 : (zbo (bt 0 b)) = 0 ↔ ¬ (bt 0 b)).mp b13
        exact (J14 (Or.inr b13))
      · replace b13 : bt 0 b := Classical.byContradiction (fun h => b13 ((zbo_eq0 : (zbo (bt 0 b)) = 0 ↔ ¬ (bt 0 b)).mpr h))
        refine zv_c1 ht rfl rfl (zv_c1 ht rfl rfl ?_)
        exact (zv_sub (zz := zbo ((bt 0 a) ∧ (bt 0 b))) (zy := 1) (p := fun zz => zEv d 371 37 [.ref n, .retAddr 0, .retAddr 0, .retAddr 0, .retAddr 0, .retAddr 0, .retAddr 0] [.int zz] S post) (zbo_pos ⟨b12, b13⟩) J16)
  · replace b11 : ¬ (((p + 1) = 2) ∧ (¬ ((q + 1) = 4))) := (zbo_eq0 : (zbo (((p + 1) = 2) ∧ (¬ ((q + 1) = 4)))) = 0 ↔ ¬ (((p + 1) = 2) ∧ (¬ ((q + 1) = 4)))).mp (Classical.not_not.mp b11)
    refine zv_c1 ht rfl rfl ?_
    have C132 : ∀ (pst131 : Outcome × zS → Prop), (pst131 (.returned (some (.ref (gN S))), sI (sI (sT (sNew S 8 0 (zslots 8)) (gN S) 8 1) 136 (gN S) 3) 137 (gN S) (gI S 144 n))) → zCall (d - 1) 283 [.ref n] S pst131 := by
      intro pst131 k138
      have ht133 : ztab 283 = ztb283 := rfl
      show zEv (d - 1) 283 0 [.ref n] [] S pst131
      refine zv_ci (st' := [.ref (gN S)]) (S' := sNew S 8 0 (zslots 8)) ht133 rfl rfl (znew_ok (show 1639 ≤ gN S from by omega) (show gN S < 2000000 from by omega)) ?_
      refine zv_c1 ht133 rfl rfl (zv_c1 ht133 rfl rfl (zv_c1 ht133 rfl rfl ?_))
      refine zv_ei (x := gI S 144 n) ht133 rfl rfl (zhas_of (Eq.trans (ztyp_new (S := S) (t := 8) (n := 0) (s := zslots 8) (show n ≠ gN S from by omega)) htn) rfl) (gI_new (S := S) (t := 8) (n := 0) (s := zslots 8) (show n ≠ gN S from by omega)) ?_
      have C135 : ∀ (pst134 : Outcome × zS → Prop), (pst134 (.returned none, sI (sI (sT (sNew S 8 0 (zslots 8)) (gN S) 8 1) 136 (gN S) 3) 137 (gN S) (gI S 144 n))) → zCall ((d - 1) - 1) 269 [.ref (gN S), .int 3, .int (gI S 144 n)] (sNew S 8 0 (zslots 8)) pst134 := by
        intro pst134 k137
        have ht136 : ztab 269 = ztb269 := rfl
        show zEv ((d - 1) - 1) 269 0 [.ref (gN S), .int 3, .int (gI S 144 n)] [] (sNew S 8 0 (zslots 8)) pst134
        refine zv_c1 ht136 rfl rfl ?_
        refine zv_ci (S' := sT (sNew S 8 0 (zslots 8)) (gN S) 8 1) ht136 rfl rfl ⟨ztyp_new_at (S := S) (t := 8) (n := 0) (s := zslots 8) (show 1639 ≤ gN S from by omega), (show gN S < gN S + 1 from by omega), zlen_new_at (S := S) (t := 8) (n := 0) (s := zslots 8) (show 1639 ≤ gN S from by omega)⟩ ?_
        refine zv_c1 ht136 rfl rfl (zv_c1 ht136 rfl rfl ?_)
        refine zv_ci (S' := sI (sT (sNew S 8 0 (zslots 8)) (gN S) 8 1) 136 (gN S) 3) ht136 rfl rfl ⟨⟨(zhas_of (ztyp_sT1 (show 1639 ≤ gN S from by omega)) rfl), (show gN S < gN S + 1 from by omega)⟩, zlen_sT1 (show 1639 ≤ gN S from by omega)⟩ ?_
        refine zv_c1 ht136 rfl rfl (zv_c1 ht136 rfl rfl ?_)
        refine zv_ci (S' := sI (sI (sT (sNew S 8 0 (zslots 8)) (gN S) 8 1) 136 (gN S) 3) 137 (gN S) (gI S 144 n)) ht136 rfl rfl ⟨⟨(zhas_of (ztyp_sT1 (show 1639 ≤ gN S from by omega)) rfl), (show gN S < gN S + 1 from by omega)⟩, zlen_sT1 (show 1639 ≤ gN S from by omega)⟩ ?_
        exact zv_rt ht136 rfl rfl rfl rfl k137
      refine zv_cl ht133 rfl rfl rfl rfl (by omega) (Nat.le_of_ble_eq_true rfl) (C135 _ ?_)
      show zEv (d - 1) 283 12 [.ref n] [.ref (gN S)] (sI (sI (sT (sNew S 8 0 (zslots 8)) (gN S) 8 1) 136 (gN S) 3) 137 (gN S) (gI S 144 n)) pst131
      exact zv_rt ht133 rfl rfl rfl rfl k138
    refine zv_cl ht rfl rfl rfl (zv_tgv (htn) rfl) (by omega) (Nat.le_of_ble_eq_true rfl) (C132 _ ?_)
    show zEv d 371 11 [.ref n, .retAddr 0, .retAddr 0, .retAddr 0, .retAddr 0, .retAddr 0, .retAddr 0] [.ref (gN S)] (sI (sI (sT (sNew S 8 0 (zslots 8)) (gN S) 8 1) 136 (gN S) 3) 137 (gN S) (gI S 144 n)) post
    exact zv_th ht rfl rfl rfl ⟨ztyp_sT1 (show 1639 ≤ gN S from by omega), (show gN S < gN S + 1 from by omega)⟩ rfl (h2 b11)

theorem pj_1 {d : Nat} {S : zS} (hF : zFin true S) (hd : 2 ≤ d) (n x y : Nat) (p q a b tx ty : Int32) (hn0 : 1639 ≤ n) (hn : n < gN S) (hx : x < gN S) (hxn : x ≠ n) (hy : y < gN S) (hyn : y ≠ n) (hcx : zNc (ztyp S x) = true) (hcy : zNc (ztyp S y) = true) (hN2 : gN S < 1900000) (htn : ztyp S n = 20) (how : gI S 187 n = Int32.ofNat 1) (hpx : gP S 188 n = some x) (hpy : gP S 189 n = some y) (hbx : gI S 145 x = p + 1) (hzx : gI S 147 x = zbo (bt 0 a)) (hox : gI S 148 x = zbo (bt 1 a)) (hnx : gI S 149 x = zbo (bt 2 a)) (hdx : gI S 150 x = zbo (bt 3 a)) (hux : gI S 151 x = zbo (bt 4 a)) (hsx : gI S 152 x = zbo (bt 5 a)) (hfx : gI S 153 x = zbo (bt 6 a)) (hex : gI S 154 x = zbo (bt 7 a)) (hmx : gI S 155 x = zbo (bt 8 a)) (hmixedx : gI S 156 x = zbo (bt 9 a)) (htx : gI S 146 x = tx) (hby : gI S 145 y = q + 1) (hzy : gI S 147 y = zbo (bt 0 b)) (hoy : gI S 148 y = zbo (bt 1 b)) (hny : gI S 149 y = zbo (bt 2 b)) (hdy : gI S 150 y = zbo (bt 3 b)) (huy : gI S 151 y = zbo (bt 4 b)) (hsy : gI S 152 y = zbo (bt 5 b)) (hfy : gI S 153 y = zbo (bt 6 b)) (hey : gI S 154 y = zbo (bt 7 b)) (hmy : gI S 155 y = zbo (bt 8 b)) (hmixedy : gI S 156 y = zbo (bt 9 b)) (hty : gI S 146 y = ty) (hm0 : gI S 156 n = zbo False) (ht0 : gI S 146 n = 0) {post : Outcome × zS → Prop} (h1 : (((p + 1) = 1) ∧ ((q + 1) = 4)) → post (.returned none, sI (sI (sI (sI (sI (sI (sI (sI (sI (sI (sI (sI (sI (sI (sI S 145 n 1) 147 n (zbo ((bt 0 a) ∧ (bt 0 b)))) 148 n (zbo (((bt 1 a) ∧ (bt 0 b)) ∨ ((bt 0 a) ∧ (bt 1 b))))) 149 n (zbo ((bt 2 a) ∨ ((bt 0 a) ∧ (bt 2 b))))) 150 n (zbo ((bt 3 a) ∧ (bt 3 b)))) 151 n 1) 152 n (zbo ((bt 5 a) ∨ (bt 5 b)))) 153 n (zbo ((((bt 6 a) ∧ (bt 6 b)) ∨ ((bt 5 a) ∧ (bt 6 a))) ∨ ((bt 5 b) ∧ (bt 6 b))))) 154 n (zbo ((bt 7 a) ∧ (bt 7 b) ∧ (bt 5 a) ∧ (bt 5 b)))) 155 n (zbo ((bt 8 a) ∧ (bt 8 b)))) 156 n (zbo (bt 9 a))) 146 n ((0 : Int32) ||| tx)) 156 n (zbo ((bt 9 a) ∨ (((¬ ((((0 : Int32) ||| tx) &&& (1 : Int32)) = 0)) ∧ (¬ ((ty &&& (2 : Int32)) = 0))) ∨ ((¬ ((((0 : Int32) ||| tx) &&& (2 : Int32)) = 0)) ∧ (¬ ((ty &&& (1 : Int32)) = 0)))) ∨ ((¬ ((((0 : Int32) ||| tx) &&& (4 : Int32)) = 0)) ∧ (¬ ((ty &&& (8 : Int32)) = 0))) ∨ ((¬ ((((0 : Int32) ||| tx) &&& (8 : Int32)) = 0)) ∧ (¬ ((ty &&& (4 : Int32)) = 0)))))) 156 n (zbo (((bt 9 a) ∨ (((¬ ((((0 : Int32) ||| tx) &&& (1 : Int32)) = 0)) ∧ (¬ ((ty &&& (2 : Int32)) = 0))) ∨ ((¬ ((((0 : Int32) ||| tx) &&& (2 : Int32)) = 0)) ∧ (¬ ((ty &&& (1 : Int32)) = 0)))) ∨ ((¬ ((((0 : Int32) ||| tx) &&& (4 : Int32)) = 0)) ∧ (¬ ((ty &&& (8 : Int32)) = 0))) ∨ ((¬ ((((0 : Int32) ||| tx) &&& (8 : Int32)) = 0)) ∧ (¬ ((ty &&& (4 : Int32)) = 0)))) ∨ (bt 9 b)))) 146 n (((0 : Int32) ||| tx) ||| ty))) (h2 : (¬ (((p + 1) = 1) ∧ ((q + 1) = 4))) → post (.threw (gN S), sI (sI (sT (sNew S 8 0 (zslots 8)) (gN S) 8 1) 136 (gN S) 3) 137 (gN S) (gI S 144 n))) : zCall d 371 [.ref n] S post := by
  have ht : ztab 371 = ztb371 := rfl
  show zEv d 371 0 [.ref n, .retAddr 0, .retAddr 0, .retAddr 0, .retAddr 0, .retAddr 0, .retAddr 0] [] S post
  refine zv_c1 ht rfl rfl ?_
  have C2 : ∀ (pst1 : Outcome × zS → Prop), (pst1 (.returned (some (.int (zbo (((p + 1) = 1) ∧ ((q + 1) = 4))))), S)) → zCall (d - 1) 372 [.ref n] S pst1 := by
    intro pst1 k10
    have ht3 : ztab 372 = ztb372 := rfl
    show zEv (d - 1) 372 0 [.ref n] [] S pst1
    refine zv_c1 ht3 rfl rfl ?_
    refine zv_ei (x := 1) ht3 rfl rfl (zhas_of (htn) rfl) how ?_
    refine zv_sw ht3 rfl rfl rfl rfl rfl ?_
    refine And.intro (fun h => absurd h (by decide)) (fun _ => ?_)
    refine And.intro (fun _ => ?_) (fun h => absurd (by decide) h)
    refine zv_c1 ht3 rfl rfl ?_
    refine zv_g3 (q := x) ht3 rfl hF rfl rfl (zhas_of (htn) rfl) hpx ?_
    refine zv_ei (x := p + 1) ht3 rfl rfl (zhas_nc hcx (by decide)) hbx ?_
    refine zv_c1 ht3 rfl rfl ?_
    have J8 : zEv (d - 1) 372 95 [.retAddr 0] [.int (zbo (((p + 1) = 1) ∧ ((q + 1) = 4)))] S pst1 := by
      exact zv_rc ht3 rfl rfl rfl rfl zbo_rng k10
    have J6 : ((¬ ((p + 1) = 1)) ∨ (¬ ((q + 1) = 4))) → zEv (d - 1) 372 94 [.retAddr 0] [] S pst1 := by
      intro b7
      refine zv_c1 ht3 rfl rfl ?_
      exact (zv_sub (zz := zbo (((p + 1) = 1) ∧ ((q + 1) = 4))) (zy := 0) (p := fun zz => zEv (d - 1) 372 95 [.retAddr 0] [.int zz] S pst1) (zbo_neg (b7.elim (fun y1 => (fun h => y1 h.1)) (fun y1 => (fun h => y1 h.2)))) J8)
    refine zv_br ht3 rfl rfl rfl (fun b4 => ?_) (fun b4 => ?_)
    · exact zEv.wk (L := [.retAddr 0]) (L' := [.ref n]) (And.intro (Or.inr rfl) trivial) (J6 (Or.inl b4))
    · replace b4 : (p + 1) = 1 := Classical.not_not.mp b4
      refine zv_c1 ht3 rfl rfl ?_
      refine zv_g3 (q := y) ht3 rfl hF rfl rfl (zhas_of (htn) rfl) hpy ?_
      refine zv_ei (x := q + 1) ht3 rfl rfl (zhas_nc hcy (by decide)) hby ?_
      refine zv_c1 ht3 rfl rfl ?_
      refine zv_br ht3 rfl rfl rfl (fun b5 => ?_) (fun b5 => ?_)
      · exact zEv.wk (L := [.retAddr 0]) (L' := [.ref n]) (And.intro (Or.inr rfl) trivial) (J6 (Or.inr b5))
      · replace b5 : (q + 1) = 4 := Classical.not_not.mp b5
        refine zv_c1 ht3 rfl rfl (zv_c1 ht3 rfl rfl ?_)
        exact zEv.wk (L := [.retAddr 0]) (L' := [.ref n]) (And.intro (Or.inr rfl) trivial) (zv_sub (zz := zbo (((p + 1) = 1) ∧ ((q + 1) = 4))) (zy := 1) (p := fun zz => zEv (d - 1) 372 95 [.retAddr 0] [.int zz] S pst1) (zbo_pos ⟨b4, b5⟩) J8)
  refine zv_cl ht rfl rfl rfl (zv_tgv (htn) rfl) (by omega) (Nat.le_of_ble_eq_true rfl) (C2 _ ?_)
  show zEv d 371 4 [.ref n, .retAddr 0, .retAddr 0, .retAddr 0, .retAddr 0, .retAddr 0, .retAddr 0] [.int (zbo (((p + 1) = 1) ∧ ((q + 1) = 4)))] S post
  refine zv_br ht rfl rfl rfl (fun b11 => ?_) (fun b11 => ?_)
  · replace b11 : ((p + 1) = 1) ∧ ((q + 1) = 4) := Classical.byContradiction (fun h => b11 ((zbo_eq0 : (zbo (((p + 1) = 1) ∧ ((q + 1) = 4))) = 0 ↔ ¬ (((p + 1) = 1) ∧ ((q + 1) = 4))).mpr h))
    refine zv_c1 ht rfl rfl ?_
    refine zv_g3 (q := x) ht rfl hF rfl rfl (zhas_of (htn) rfl) hpx ?_
    refine zv_ei (x := zbo (bt 0 a)) ht rfl rfl (zhas_nc hcx (by decide)) hzx ?_
    have J16 : zEv d 371 37 [.ref n, .retAddr 0, .retAddr 0, .retAddr 0, .retAddr 0, .retAddr 0, .retAddr 0] [.int (zbo ((bt 0 a) ∧ (bt 0 b)))] S post := by
      refine zv_c2 (L' := [.ref n, .int (zbo ((bt 0 a) ∧ (bt 0 b))), .retAddr 0, .retAddr 0, .retAddr 0, .retAddr 0, .retAddr 0]) ht rfl rfl ?_
      refine zv_c1 ht rfl rfl ?_
      refine zv_g3 (q := x) ht rfl hF rfl rfl (zhas_of (htn) rfl) hpx ?_
      refine zv_ei (x := zbo (bt 1 a)) ht rfl rfl (zhas_nc hcx (by decide)) hox ?_
      have J22 : zEv d 371 63 [.ref n, .int (zbo ((bt 0 a) ∧ (bt 0 b))), .retAddr 0, .retAddr 0, .retAddr 0, .retAddr 0, .retAddr 0] [.int (zbo ((bt 1 a) ∧ (bt 0 b)))] S post := by
        refine zv_c2 (L' := [.ref n, .int (zbo ((bt 0 a) ∧ (bt 0 b))), .int (zbo ((bt 1 a) ∧ (bt 0 b))), .retAddr 0, .retAddr 0, .retAddr 0, .retAddr 0]) ht rfl rfl ?_
        refine zv_c1 ht rfl rfl ?_
        have J31 : zEv d 371 93 [.ref n, .int (zbo ((bt 0 a) ∧ (bt 0 b))), .int (zbo ((bt 1 a) ∧ (bt 0 b))), .retAddr 0, .retAddr 0, .retAddr 0, .retAddr 0] [.int (zbo (((bt 1 a) ∧ (bt 0 b)) ∨ ((bt 0 a) ∧ (bt 1 b))))] S post := by
          refine zv_c2 (L' := [.ref n, .int (zbo ((bt 0 a) ∧ (bt 0 b))), .int (zbo ((bt 1 a) ∧ (bt 0 b))), .int (zbo (((bt 1 a) ∧ (bt 0 b)) ∨ ((bt 0 a) ∧ (bt 1 b)))), .retAddr 0, .retAddr 0, .retAddr 0]) ht rfl rfl ?_
          refine zv_c1 ht rfl rfl ?_
          refine zv_g3 (q := x) ht rfl hF rfl rfl (zhas_of (htn) rfl) hpx ?_
          refine zv_ei (x := zbo (bt 8 a)) ht rfl rfl (zhas_nc hcx (by decide)) hmx ?_
          have J37 : zEv d 371 119 [.ref n, .int (zbo ((bt 0 a) ∧ (bt 0 b))), .int (zbo ((bt 1 a) ∧ (bt 0 b))), .int (zbo (((bt 1 a) ∧ (bt 0 b)) ∨ ((bt 0 a) ∧ (bt 1 b)))), .retAddr 0, .retAddr 0, .retAddr 0] [.int (zbo ((bt 8 a) ∧ (bt 8 b)))] S post := by
            refine zv_c2 (L' := [.ref n, .int (zbo ((bt 0 a) ∧ (bt 0 b))), .int (zbo ((bt 1 a) ∧ (bt 0 b))), .int (zbo (((bt 1 a) ∧ (bt 0 b)) ∨ ((bt 0 a) ∧ (bt 1 b)))), .int (zbo ((bt 8 a) ∧ (bt 8 b))), .retAddr 0, .retAddr 0]) ht rfl rfl ?_
            refine zv_c1 ht rfl rfl ?_
            refine zv_g3 (q := x) ht rfl hF rfl rfl (zhas_of (htn) rfl) hpx ?_
            refine zv_ei (x := zbo (bt 5 a)) ht rfl rfl (zhas_nc hcx (by decide)) hsx ?_
            have J43 : zEv d 371 146 [.ref n, .int (zbo ((bt 0 a) ∧ (bt 0 b))), .int (zbo ((bt 1 a) ∧ (bt 0 b))), .int (zbo (((bt 1 a) ∧ (bt 0 b)) ∨ ((bt 0 a) ∧ (bt 1 b)))), .int (zbo ((bt 8 a) ∧ (bt 8 b))), .retAddr 0, .retAddr 0] [.int (zbo ((bt 5 a) ∨ (bt 5 b)))] S post := by
              refine zv_c2 (L' := [.ref n, .int (zbo ((bt 0 a) ∧ (bt 0 b))), .int (zbo ((bt 1 a) ∧ (bt 0 b))), .int (zbo (((bt 1 a) ∧ (bt 0 b)) ∨ ((bt 0 a) ∧ (bt 1 b)))), .int (zbo ((bt 8 a) ∧ (bt 8 b))), .int (zbo ((bt 5 a) ∨ (bt 5 b))), .retAddr 0]) ht rfl rfl ?_
              refine zv_c1 ht rfl rfl ?_
              refine zv_g3 (q := x) ht rfl hF rfl rfl (zhas_of (htn) rfl) hpx ?_
              refine zv_ei (x := zbo (bt 5 a)) ht rfl rfl (zhas_nc hcx (by decide)) hsx ?_
              have J49 : zEv d 371 173 [.ref n, .int (zbo ((bt 0 a) ∧ (bt 0 b))), .int (zbo ((bt 1 a) ∧ (bt 0 b))), .int (zbo (((bt 1 a) ∧ (bt 0 b)) ∨ ((bt 0 a) ∧ (bt 1 b)))), .int (zbo ((bt 8 a) ∧ (bt 8 b))), .int (zbo ((bt 5 a) ∨ (bt 5 b))), .retAddr 0] [.int (zbo ((bt 5 a) ∧ (bt 5 b)))] S post := by
                refine zv_c2 (L' := [.ref n, .int (zbo ((bt 0 a) ∧ (bt 0 b))), .int (zbo ((bt 1 a) ∧ (bt 0 b))), .int (zbo (((bt 1 a) ∧ (bt 0 b)) ∨ ((bt 0 a) ∧ (bt 1 b)))), .int (zbo ((bt 8 a) ∧ (bt 8 b))), .int (zbo ((bt 5 a) ∨ (bt 5 b))), .int (zbo ((bt 5 a) ∧ (bt 5 b)))]) ht rfl rfl ?_
                refine zv_c1 ht rfl rfl ?_
                refine zv_ei (x := 1) ht rfl rfl (zhas_of (htn) rfl) how ?_
                refine zv_sw ht rfl rfl rfl rfl rfl ?_
                refine And.intro (fun h => absurd h (by decide)) (fun _ => ?_)
                refine And.intro (fun _ => ?_) (fun h => absurd (by decide) h)
                refine zv_c1 ht rfl rfl (zv_c1 ht rfl rfl (zv_c1 ht rfl rfl (zv_c1 ht rfl rfl (zv_c1 ht rfl rfl ?_))))
                refine zv_g3 (q := x) ht rfl hF rfl rfl (zhas_of (htn) rfl) hpx ?_
                refine zv_ei (x := zbo (bt 2 a)) ht rfl rfl (zhas_nc hcx (by decide)) hnx ?_
                have J58 : zEv d 371 344 [.ref n, .retAddr 0, .retAddr 0, .retAddr 0, .int (zbo ((bt 8 a) ∧ (bt 8 b))), .int (zbo ((bt 5 a) ∨ (bt 5 b))), .int (zbo ((bt 5 a) ∧ (bt 5 b)))] [.int (zbo ((bt 2 a) ∨ ((bt 0 a) ∧ (bt 2 b)))), .int (zbo (((bt 1 a) ∧ (bt 0 b)) ∨ ((bt 0 a) ∧ (bt 1 b)))), .int (zbo ((bt 0 a) ∧ (bt 0 b))), .int 1, .ref n] S post := by
                  refine zv_c1 ht rfl rfl ?_
                  refine zv_g3 (q := x) ht rfl hF rfl rfl (zhas_of (htn) rfl) hpx ?_
                  refine zv_ei (x := zbo (bt 3 a)) ht rfl rfl (zhas_nc hcx (by decide)) hdx ?_
                  have J64 : zEv d 371 369 [.ref n, .retAddr 0, .retAddr 0, .retAddr 0, .int (zbo ((bt 8 a) ∧ (bt 8 b))), .int (zbo ((bt 5 a) ∨ (bt 5 b))), .int (zbo ((bt 5 a) ∧ (bt 5 b)))] [.int (zbo ((bt 3 a) ∧ (bt 3 b))), .int (zbo ((bt 2 a) ∨ ((bt 0 a) ∧ (bt 2 b)))), .int (zbo (((bt 1 a) ∧ (bt 0 b)) ∨ ((bt 0 a) ∧ (bt 1 b)))), .int (zbo ((bt 0 a) ∧ (bt 0 b))), .int 1, .ref n] S post := by
                    refine zv_c1 ht rfl rfl ?_
                    have C67 : ∀ (pst66 : Outcome × zS → Prop), (pst66 (.returned none, sI (sI (sI (sI (sI (sI S 145 n 1) 147 n (zbo ((bt 0 a) ∧ (bt 0 b)))) 148 n (zbo (((bt 1 a) ∧ (bt 0 b)) ∨ ((bt 0 a) ∧ (bt 1 b))))) 149 n (zbo ((bt 2 a) ∨ ((bt 0 a) ∧ (bt 2 b))))) 150 n (zbo ((bt 3 a) ∧ (bt 3 b)))) 151 n 1)) → zCall (d - 1) 284 [.ref n, .int 1, .int (zbo ((bt 0 a) ∧ (bt 0 b))), .int (zbo (((bt 1 a) ∧ (bt 0 b)) ∨ ((bt 0 a) ∧ (bt 1 b)))), .int (zbo ((bt 2 a) ∨ ((bt 0 a) ∧ (bt 2 b)))), .int (zbo ((bt 3 a) ∧ (bt 3 b))), .int 1] S pst66 := by
                      intro pst66 k69
                      have ht68 : ztab 284 = ztb284 := rfl
                      show zEv (d - 1) 284 0 [.ref n, .int 1, .int (zbo ((bt 0 a) ∧ (bt 0 b))), .int (zbo (((bt 1 a) ∧ (bt 0 b)) ∨ ((bt 0 a) ∧ (bt 1 b)))), .int (zbo ((bt 2 a) ∨ ((bt 0 a) ∧ (bt 2 b)))), .int (zbo ((bt 3 a) ∧ (bt 3 b))), .int 1] [] S pst66
                      refine zv_c1 ht68 rfl rfl (zv_c1 ht68 rfl rfl ?_)
                      refine zv_ci (S' := sI S 145 n 1) ht68 rfl rfl ⟨(zhas_of (htn) rfl), (show n < gN S from by omega)⟩ ?_
                      refine zv_c1 ht68 rfl rfl (zv_c1 ht68 rfl rfl ?_)
                      refine zv_ci (S' := sI (sI S 145 n 1) 147 n (zbo ((bt 0 a) ∧ (bt 0 b)))) ht68 rfl rfl ⟨⟨(zhas_of (htn) rfl), (show n < gN S from by omega)⟩, zbo_rng⟩ ?_
                      refine zv_c1 ht68 rfl rfl (zv_c1 ht68 rfl rfl ?_)
                      refine zv_ci (S' := sI (sI (sI S 145 n 1) 147 n (zbo ((bt 0 a) ∧ (bt 0 b)))) 148 n (zbo (((bt 1 a) ∧ (bt 0 b)) ∨ ((bt 0 a) ∧ (bt 1 b))))) ht68 rfl rfl ⟨⟨(zhas_of (htn) rfl), (show n < gN S from by omega)⟩, zbo_rng⟩ ?_
                      refine zv_c1 ht68 rfl rfl (zv_c1 ht68 rfl rfl ?_)
                      refine zv_ci (S' := sI (sI (sI (sI S 145 n 1) 147 n (zbo ((bt 0 a) ∧ (bt 0 b)))) 148 n (zbo (((bt 1 a) ∧ (bt 0 b)) ∨ ((bt 0 a) ∧ (bt 1 b))))) 149 n (zbo ((bt 2 a) ∨ ((bt 0 a) ∧ (bt 2 b))))) ht68 rfl rfl ⟨⟨(zhas_of (htn) rfl), (show n < gN S from by omega)⟩, zbo_rng⟩ ?_
                      refine zv_c1 ht68 rfl rfl (zv_c1 ht68 rfl rfl ?_)
                      refine zv_ci (S' := sI (sI (sI (sI (sI S 145 n 1) 147 n (zbo ((bt 0 a) ∧ (bt 0 b)))) 148 n (zbo (((bt 1 a) ∧ (bt 0 b)) ∨ ((bt 0 a) ∧ (bt 1 b))))) 149 n (zbo ((bt 2 a) ∨ ((bt 0 a) ∧ (bt 2 b))))) 150 n (zbo ((bt 3 a) ∧ (bt 3 b)))) ht68 rfl rfl ⟨⟨(zhas_of (htn) rfl), (show n < gN S from by omega)⟩, zbo_rng⟩ ?_
                      refine zv_c1 ht68 rfl rfl (zv_c1 ht68 rfl rfl ?_)
                      refine zv_ci (S' := sI (sI (sI (sI (sI (sI S 145 n 1) 147 n (zbo ((bt 0 a) ∧ (bt 0 b)))) 148 n (zbo (((bt 1 a) ∧ (bt 0 b)) ∨ ((bt 0 a) ∧ (bt 1 b))))) 149 n (zbo ((bt 2 a) ∨ ((bt 0 a) ∧ (bt 2 b))))) 150 n (zbo ((bt 3 a) ∧ (bt 3 b)))) 151 n 1) ht68 rfl rfl ⟨⟨(zhas_of (htn) rfl), (show n < gN S from by omega)⟩, (by decide)⟩ ?_
                      exact zv_rt ht68 rfl rfl rfl rfl k69
                    refine zv_cl ht rfl rfl rfl (zv_tgv (htn) rfl) (by omega) (Nat.le_of_ble_eq_true rfl) (C67 _ ?_)
                    show zEv d 371 373 [.ref n, .retAddr 0, .retAddr 0, .retAddr 0, .int (zbo ((bt 8 a) ∧ (bt 8 b))), .int (zbo ((bt 5 a) ∨ (bt 5 b))), .int (zbo ((bt 5 a) ∧ (bt 5 b)))] [] (sI (sI (sI (sI (sI (sI S 145 n 1) 147 n (zbo ((bt 0 a) ∧ (bt 0 b)))) 148 n (zbo (((bt 1 a) ∧ (bt 0 b)) ∨ ((bt 0 a) ∧ (bt 1 b))))) 149 n (zbo ((bt 2 a) ∨ ((bt 0 a) ∧ (bt 2 b))))) 150 n (zbo ((bt 3 a) ∧ (bt 3 b)))) 151 n 1) post
                    refine zv_c1 ht rfl rfl (zv_c1 ht rfl rfl (zv_c1 ht rfl rfl ?_))
                    refine zv_g3 (q := x) ht rfl hF rfl rfl (zhas_of (htn) rfl) hpx ?_
                    refine zv_ei (x := zbo (bt 6 a)) ht rfl rfl (zhas_nc hcx (by decide)) hfx ?_
                    have J84 : zEv d 371 441 [.ref n, .retAddr 0, .retAddr 0, .retAddr 0, .int (zbo ((bt 8 a) ∧ (bt 8 b))), .retAddr 0, .int (zbo ((bt 5 a) ∧ (bt 5 b)))] [.int (zbo ((((bt 6 a) ∧ (bt 6 b)) ∨ ((bt 5 a) ∧ (bt 6 a))) ∨ ((bt 5 b) ∧ (bt 6 b)))), .int (zbo ((bt 5 a) ∨ (bt 5 b))), .ref n] (sI (sI (sI (sI (sI (sI S 145 n 1) 147 n (zbo ((bt 0 a) ∧ (bt 0 b)))) 148 n (zbo (((bt 1 a) ∧ (bt 0 b)) ∨ ((bt 0 a) ∧ (bt 1 b))))) 149 n (zbo ((bt 2 a) ∨ ((bt 0 a) ∧ (bt 2 b))))) 150 n (zbo ((bt 3 a) ∧ (bt 3 b)))) 151 n 1) post := by
                      refine zv_c1 ht rfl rfl ?_
                      refine zv_g3 (q := x) ht rfl hF rfl rfl (zhas_of (htn) rfl) hpx ?_
                      refine zv_ei (x := zbo (bt 7 a)) ht rfl rfl (zhas_nc hcx (by decide)) hex ?_
                      have J91 : zEv d 371 471 [.ref n, .retAddr 0, .retAddr 0, .retAddr 0, .int (zbo ((bt 8 a) ∧ (bt 8 b))), .retAddr 0, .retAddr 0] [.int (zbo ((bt 7 a) ∧ (bt 7 b) ∧ (bt 5 a) ∧ (bt 5 b))), .int (zbo ((((bt 6 a) ∧ (bt 6 b)) ∨ ((bt 5 a) ∧ (bt 6 a))) ∨ ((bt 5 b) ∧ (bt 6 b)))), .int (zbo ((bt 5 a) ∨ (bt 5 b))), .ref n] (sI (sI (sI (sI (sI (sI S 145 n 1) 147 n (zbo ((bt 0 a) ∧ (bt 0 b)))) 148 n (zbo (((bt 1 a) ∧ (bt 0 b)) ∨ ((bt 0 a) ∧ (bt 1 b))))) 149 n (zbo ((bt 2 a) ∨ ((bt 0 a) ∧ (bt 2 b))))) 150 n (zbo ((bt 3 a) ∧ (bt 3 b)))) 151 n 1) post := by
                        refine zv_c1 ht rfl rfl ?_
                        have C94 : ∀ (pst93 : Outcome × zS → Prop), (pst93 (.returned none, sI (sI (sI (sI (sI (sI (sI (sI (sI (sI S 145 n 1) 147 n (zbo ((bt 0 a) ∧ (bt 0 b)))) 148 n (zbo (((bt 1 a) ∧ (bt 0 b)) ∨ ((bt 0 a) ∧ (bt 1 b))))) 149 n (zbo ((bt 2 a) ∨ ((bt 0 a) ∧ (bt 2 b))))) 150 n (zbo ((bt 3 a) ∧ (bt 3 b)))) 151 n 1) 152 n (zbo ((bt 5 a) ∨ (bt 5 b)))) 153 n (zbo ((((bt 6 a) ∧ (bt 6 b)) ∨ ((bt 5 a) ∧ (bt 6 a))) ∨ ((bt 5 b) ∧ (bt 6 b))))) 154 n (zbo ((bt 7 a) ∧ (bt 7 b) ∧ (bt 5 a) ∧ (bt 5 b)))) 155 n (zbo ((bt 8 a) ∧ (bt 8 b))))) → zCall (d - 1) 285 [.ref n, .int (zbo ((bt 5 a) ∨ (bt 5 b))), .int (zbo ((((bt 6 a) ∧ (bt 6 b)) ∨ ((bt 5 a) ∧ (bt 6 a))) ∨ ((bt 5 b) ∧ (bt 6 b)))), .int (zbo ((bt 7 a) ∧ (bt 7 b) ∧ (bt 5 a) ∧ (bt 5 b))), .int (zbo ((bt 8 a) ∧ (bt 8 b)))] (sI (sI (sI (sI (sI (sI S 145 n 1) 147 n (zbo ((bt 0 a) ∧ (bt 0 b)))) 148 n (zbo (((bt 1 a) ∧ (bt 0 b)) ∨ ((bt 0 a) ∧ (bt 1 b))))) 149 n (zbo ((bt 2 a) ∨ ((bt 0 a) ∧ (bt 2 b))))) 150 n (zbo ((bt 3 a) ∧ (bt 3 b)))) 151 n 1) pst93 := by
                          intro pst93 k96
                          have ht95 : ztab 285 = ztb285 := rfl
                          show zEv (d - 1) 285 0 [.ref n, .int (zbo ((bt 5 a) ∨ (bt 5 b))), .int (zbo ((((bt 6 a) ∧ (bt 6 b)) ∨ ((bt 5 a) ∧ (bt 6 a))) ∨ ((bt 5 b) ∧ (bt 6 b)))), .int (zbo ((bt 7 a) ∧ (bt 7 b) ∧ (bt 5 a) ∧ (bt 5 b))), .int (zbo ((bt 8 a) ∧ (bt 8 b)))] [] (sI (sI (sI (sI (sI (sI S 145 n 1) 147 n (zbo ((bt 0 a) ∧ (bt 0 b)))) 148 n (zbo (((bt 1 a) ∧ (bt 0 b)) ∨ ((bt 0 a) ∧ (bt 1 b))))) 149 n (zbo ((bt 2 a) ∨ ((bt 0 a) ∧ (bt 2 b))))) 150 n (zbo ((bt 3 a) ∧ (bt 3 b)))) 151 n 1) pst93
                          refine zv_c1 ht95 rfl rfl (zv_c1 ht95 rfl rfl ?_)
                          refine zv_ci (S' := sI (sI (sI (sI (sI (sI (sI S 145 n 1) 147 n (zbo ((bt 0 a) ∧ (bt 0 b)))) 148 n (zbo (((bt 1 a) ∧ (bt 0 b)) ∨ ((bt 0 a) ∧ (bt 1 b))))) 149 n (zbo ((bt 2 a) ∨ ((bt 0 a) ∧ (bt 2 b))))) 150 n (zbo ((bt 3 a) ∧ (bt 3 b)))) 151 n 1) 152 n (zbo ((bt 5 a) ∨ (bt 5 b)))) ht95 rfl rfl ⟨⟨(zhas_of (htn) rfl), (show n < gN S from by omega)⟩, zbo_rng⟩ ?_
                          refine zv_c1 ht95 rfl rfl (zv_c1 ht95 rfl rfl ?_)
                          refine zv_ci (S' := sI (sI (sI (sI (sI (sI (sI (sI S 145 n 1) 147 n (zbo ((bt 0 a) ∧ (bt 0 b)))) 148 n (zbo (((bt 1 a) ∧ (bt 0 b)) ∨ ((bt 0 a) ∧ (bt 1 b))))) 149 n (zbo ((bt 2 a) ∨ ((bt 0 a) ∧ (bt 2 b))))) 150 n (zbo ((bt 3 a) ∧ (bt 3 b)))) 151 n 1) 152 n (zbo ((bt 5 a) ∨ (bt 5 b)))) 153 n (zbo ((((bt 6 a) ∧ (bt 6 b)) ∨ ((bt 5 a) ∧ (bt 6 a))) ∨ ((bt 5 b) ∧ (bt 6 b))))) ht95 rfl rfl ⟨⟨(zhas_of (htn) rfl), (show n < gN S from by omega)⟩, zbo_rng⟩ ?_
                          refine zv_c1 ht95 rfl rfl (zv_c1 ht95 rfl rfl ?_)
                          refine zv_ci (S' := sI (sI (sI (sI (sI (sI (sI (sI (sI S 145 n 1) 147 n (zbo ((bt 0 a) ∧ (bt 0 b)))) 148 n (zbo (((bt 1 a) ∧ (bt 0 b)) ∨ ((bt 0 a) ∧ (bt 1 b))))) 149 n (zbo ((bt 2 a) ∨ ((bt 0 a) ∧ (bt 2 b))))) 150 n (zbo ((bt 3 a) ∧ (bt 3 b)))) 151 n 1) 152 n (zbo ((bt 5 a) ∨ (bt 5 b)))) 153 n (zbo ((((bt 6 a) ∧ (bt 6 b)) ∨ ((bt 5 a) ∧ (bt 6 a))) ∨ ((bt 5 b) ∧ (bt 6 b))))) 154 n (zbo ((bt 7 a) ∧ (bt 7 b) ∧ (bt 5 a) ∧ (bt 5 b)))) ht95 rfl rfl ⟨⟨(zhas_of (htn) rfl), (show n < gN S from by omega)⟩, zbo_rng⟩ ?_
                          refine zv_c1 ht95 rfl rfl (zv_c1 ht95 rfl rfl ?_)
                          refine zv_ci (S' := sI (sI (sI (sI (sI (sI (sI (sI (sI (sI S 145 n 1) 147 n (zbo ((bt 0 a) ∧ (bt 0 b)))) 148 n (zbo (((bt 1 a) ∧ (bt 0 b)) ∨ ((bt 0 a) ∧ (bt 1 b))))) 149 n (zbo ((bt 2 a) ∨ ((bt 0 a) ∧ (bt 2 b))))) 150 n (zbo ((bt 3 a) ∧ (bt 3 b)))) 151 n 1) 152 n (zbo ((bt 5 a) ∨ (bt 5 b)))) 153 n (zbo ((((bt 6 a) ∧ (bt 6 b)) ∨ ((bt 5 a) ∧ (bt 6 a))) ∨ ((bt 5 b) ∧ (bt 6 b))))) 154 n (zbo ((bt 7 a) ∧ (bt 7 b) ∧ (bt 5 a) ∧ (bt 5 b)))) 155 n (zbo ((bt 8 a) ∧ (bt 8 b)))) ht95 rfl rfl ⟨⟨(zhas_of (htn) rfl), (show n < gN S from by omega)⟩, zbo_rng⟩ ?_
                          exact zv_rt ht95 rfl rfl rfl rfl k96
                        refine zv_cl ht rfl rfl rfl (zv_tgv (htn) rfl) (by omega) (Nat.le_of_ble_eq_true rfl) (C94 _ ?_)
                        show zEv d 371 476 [.ref n, .retAddr 0, .retAddr 0, .retAddr 0, .int (zbo ((bt 8 a) ∧ (bt 8 b))), .retAddr 0, .retAddr 0] [] (sI (sI (sI (sI (sI (sI (sI (sI (sI (sI S 145 n 1) 147 n (zbo ((bt 0 a) ∧ (bt 0 b)))) 148 n (zbo (((bt 1 a) ∧ (bt 0 b)) ∨ ((bt 0 a) ∧ (bt 1 b))))) 149 n (zbo ((bt 2 a) ∨ ((bt 0 a) ∧ (bt 2 b))))) 150 n (zbo ((bt 3 a) ∧ (bt 3 b)))) 151 n 1) 152 n (zbo ((bt 5 a) ∨ (bt 5 b)))) 153 n (zbo ((((bt 6 a) ∧ (bt 6 b)) ∨ ((bt 5 a) ∧ (bt 6 a))) ∨ ((bt 5 b) ∧ (bt 6 b))))) 154 n (zbo ((bt 7 a) ∧ (bt 7 b) ∧ (bt 5 a) ∧ (bt 5 b)))) 155 n (zbo ((bt 8 a) ∧ (bt 8 b)))) post
                        refine zv_c1 ht rfl rfl (zv_c1 ht rfl rfl (zv_c1 ht rfl rfl ?_))
                        refine zv_g3 (q := x) ht rfl hF rfl rfl (zhas_of (htn) rfl) hpx ?_
                        refine zv_c1 ht rfl rfl ?_
                        have C98 : ∀ (pst97 : Outcome × zS → Prop), (pst97 (.returned none, sI (sI (sI (sI (sI (sI (sI (sI (sI (sI (sI (sI S 145 n 1) 147 n (zbo ((bt 0 a) ∧ (bt 0 b)))) 148 n (zbo (((bt 1 a) ∧ (bt 0 b)) ∨ ((bt 0 a) ∧ (bt 1 b))))) 149 n (zbo ((bt 2 a) ∨ ((bt 0 a) ∧ (bt 2 b))))) 150 n (zbo ((bt 3 a) ∧ (bt 3 b)))) 151 n 1) 152 n (zbo ((bt 5 a) ∨ (bt 5 b)))) 153 n (zbo ((((bt 6 a) ∧ (bt 6 b)) ∨ ((bt 5 a) ∧ (bt 6 a))) ∨ ((bt 5 b) ∧ (bt 6 b))))) 154 n (zbo ((bt 7 a) ∧ (bt 7 b) ∧ (bt 5 a) ∧ (bt 5 b)))) 155 n (zbo ((bt 8 a) ∧ (bt 8 b)))) 156 n (zbo (bt 9 a))) 146 n ((0 : Int32) ||| tx))) → zCall (d - 1) 286 [.ref n, .ref x, .int 0] (sI (sI (sI (sI (sI (sI (sI (sI (sI (sI S 145 n 1) 147 n (zbo ((bt 0 a) ∧ (bt 0 b)))) 148 n (zbo (((bt 1 a) ∧ (bt 0 b)) ∨ ((bt 0 a) ∧ (bt 1 b))))) 149 n (zbo ((bt 2 a) ∨ ((bt 0 a) ∧ (bt 2 b))))) 150 n (zbo ((bt 3 a) ∧ (bt 3 b)))) 151 n 1) 152 n (zbo ((bt 5 a) ∨ (bt 5 b)))) 153 n (zbo ((((bt 6 a) ∧ (bt 6 b)) ∨ ((bt 5 a) ∧ (bt 6 a))) ∨ ((bt 5 b) ∧ (bt 6 b))))) 154 n (zbo ((bt 7 a) ∧ (bt 7 b) ∧ (bt 5 a) ∧ (bt 5 b)))) 155 n (zbo ((bt 8 a) ∧ (bt 8 b)))) pst97 := by
                          intro pst97 k104
                          have ht99 : ztab 286 = ztb286 := rfl
                          show zEv (d - 1) 286 0 [.ref n, .ref x, .int 0] [] (sI (sI (sI (sI (sI (sI (sI (sI (sI (sI S 145 n 1) 147 n (zbo ((bt 0 a) ∧ (bt 0 b)))) 148 n (zbo (((bt 1 a) ∧ (bt 0 b)) ∨ ((bt 0 a) ∧ (bt 1 b))))) 149 n (zbo ((bt 2 a) ∨ ((bt 0 a) ∧ (bt 2 b))))) 150 n (zbo ((bt 3 a) ∧ (bt 3 b)))) 151 n 1) 152 n (zbo ((bt 5 a) ∨ (bt 5 b)))) 153 n (zbo ((((bt 6 a) ∧ (bt 6 b)) ∨ ((bt 5 a) ∧ (bt 6 a))) ∨ ((bt 5 b) ∧ (bt 6 b))))) 154 n (zbo ((bt 7 a) ∧ (bt 7 b) ∧ (bt 5 a) ∧ (bt 5 b)))) 155 n (zbo ((bt 8 a) ∧ (bt 8 b)))) pst97
                          refine zv_c1 ht99 rfl rfl ?_
                          refine zv_br ht99 rfl rfl rfl (fun _ => ?_) (fun h => absurd (by decide) h)
                          refine zv_c1 ht99 rfl rfl (zv_c1 ht99 rfl rfl ?_)
                          refine zv_ei (x := zbo False) ht99 rfl rfl (zhas_of (htn) rfl) hm0 ?_
                          refine zv_br ht99 rfl rfl rfl (fun b100 => (b100 ((zbo_eq0 : (zbo False) = 0 ↔ ¬ False).mpr trivial)).elim) (fun b100 => ?_)
                          refine zv_c1 ht99 rfl rfl ?_
                          refine zv_ei (x := zbo (bt 9 a)) ht99 rfl rfl (zhas_nc hcx (by decide)) hmixedx ?_
                          have J102 : zEv (d - 1) 286 73 [.ref n, .ref x, .retAddr 0] [.int (zbo (bt 9 a)), .ref n] (sI (sI (sI (sI (sI (sI (sI (sI (sI (sI S 145 n 1) 147 n (zbo ((bt 0 a) ∧ (bt 0 b)))) 148 n (zbo (((bt 1 a) ∧ (bt 0 b)) ∨ ((bt 0 a) ∧ (bt 1 b))))) 149 n (zbo ((bt 2 a) ∨ ((bt 0 a) ∧ (bt 2 b))))) 150 n (zbo ((bt 3 a) ∧ (bt 3 b)))) 151 n 1) 152 n (zbo ((bt 5 a) ∨ (bt 5 b)))) 153 n (zbo ((((bt 6 a) ∧ (bt 6 b)) ∨ ((bt 5 a) ∧ (bt 6 a))) ∨ ((bt 5 b) ∧ (bt 6 b))))) 154 n (zbo ((bt 7 a) ∧ (bt 7 b) ∧ (bt 5 a) ∧ (bt 5 b)))) 155 n (zbo ((bt 8 a) ∧ (bt 8 b)))) pst97 := by
                            refine zv_ci (S' := sI (sI (sI (sI (sI (sI (sI (sI (sI (sI (sI S 145 n 1) 147 n (zbo ((bt 0 a) ∧ (bt 0 b)))) 148 n (zbo (((bt 1 a) ∧ (bt 0 b)) ∨ ((bt 0 a) ∧ (bt 1 b))))) 149 n (zbo ((bt 2 a) ∨ ((bt 0 a) ∧ (bt 2 b))))) 150 n (zbo ((bt 3 a) ∧ (bt 3 b)))) 151 n 1) 152 n (zbo ((bt 5 a) ∨ (bt 5 b)))) 153 n (zbo ((((bt 6 a) ∧ (bt 6 b)) ∨ ((bt 5 a) ∧ (bt 6 a))) ∨ ((bt 5 b) ∧ (bt 6 b))))) 154 n (zbo ((bt 7 a) ∧ (bt 7 b) ∧ (bt 5 a) ∧ (bt 5 b)))) 155 n (zbo ((bt 8 a) ∧ (bt 8 b)))) 156 n (zbo (bt 9 a))) ht99 rfl rfl ⟨⟨(zhas_of (htn) rfl), (show n < gN S from by omega)⟩, zbo_rng⟩ ?_
                            refine zv_c1 ht99 rfl rfl (zv_c1 ht99 rfl rfl ?_)
                            refine zv_ei (x := 0) ht99 rfl rfl (zhas_of (htn) rfl) ht0 ?_
                            refine zv_c1 ht99 rfl rfl ?_
                            refine zv_ei (x := tx) ht99 rfl rfl (zhas_nc hcx (by decide)) htx ?_
                            refine zv_c1 (st' := [.int ((0 : Int32) ||| tx), .ref n]) (S' := sI (sI (sI (sI (sI (sI (sI (sI (sI (sI (sI S 145 n 1) 147 n (zbo ((bt 0 a) ∧ (bt 0 b)))) 148 n (zbo (((bt 1 a) ∧ (bt 0 b)) ∨ ((bt 0 a) ∧ (bt 1 b))))) 149 n (zbo ((bt 2 a) ∨ ((bt 0 a) ∧ (bt 2 b))))) 150 n (zbo ((bt 3 a) ∧ (bt 3 b)))) 151 n 1) 152 n (zbo ((bt 5 a) ∨ (bt 5 b)))) 153 n (zbo ((((bt 6 a) ∧ (bt 6 b)) ∨ ((bt 5 a) ∧ (bt 6 a))) ∨ ((bt 5 b) ∧ (bt 6 b))))) 154 n (zbo ((bt 7 a) ∧ (bt 7 b) ∧ (bt 5 a) ∧ (bt 5 b)))) 155 n (zbo ((bt 8 a) ∧ (bt 8 b)))) 156 n (zbo (bt 9 a))) ht99 rfl rfl ?_
                            refine zv_ci (S' := sI (sI (sI (sI (sI (sI (sI (sI (sI (sI (sI (sI S 145 n 1) 147 n (zbo ((bt 0 a) ∧ (bt 0 b)))) 148 n (zbo (((bt 1 a) ∧ (bt 0 b)) ∨ ((bt 0 a) ∧ (bt 1 b))))) 149 n (zbo ((bt 2 a) ∨ ((bt 0 a) ∧ (bt 2 b))))) 150 n (zbo ((bt 3 a) ∧ (bt 3 b)))) 151 n 1) 152 n (zbo ((bt 5 a) ∨ (bt 5 b)))) 153 n (zbo ((((bt 6 a) ∧ (bt 6 b)) ∨ ((bt 5 a) ∧ (bt 6 a))) ∨ ((bt 5 b) ∧ (bt 6 b))))) 154 n (zbo ((bt 7 a) ∧ (bt 7 b) ∧ (bt 5 a) ∧ (bt 5 b)))) 155 n (zbo ((bt 8 a) ∧ (bt 8 b)))) 156 n (zbo (bt 9 a))) 146 n ((0 : Int32) ||| tx)) ht99 rfl rfl ⟨(zhas_of (htn) rfl), (show n < gN S from by omega)⟩ ?_
                            exact zv_rt ht99 rfl rfl rfl rfl k104
                          refine zv_br ht99 rfl rfl rfl (fun b101 => ?_) (fun b101 => ?_)
                          · replace b101 : ¬ (bt 9 a) := (zbo_eq0 : (zbo (bt 9 a)) = 0 ↔ ¬ (bt 9 a)).mp b101
                            refine zv_c1 ht99 rfl rfl ?_
                            exact zEv.wk (L := [.ref n, .ref x, .retAddr 0]) (L' := [.ref n, .ref x, .int 0]) (And.intro (Or.inl rfl) (And.intro (Or.inl rfl) (And.intro (Or.inr rfl) trivial))) (zv_sub (zz := zbo (bt 9 a)) (zy := 0) (p := fun zz => zEv (d - 1) 286 73 [.ref n, .ref x, .retAddr 0] [.int zz, .ref n] (sI (sI (sI (sI (sI (sI (sI (sI (sI (sI S 145 n 1) 147 n (zbo ((bt 0 a) ∧ (bt 0 b)))) 148 n (zbo (((bt 1 a) ∧ (bt 0 b)) ∨ ((bt 0 a) ∧ (bt 1 b))))) 149 n (zbo ((bt 2 a) ∨ ((bt 0 a) ∧ (bt 2 b))))) 150 n (zbo ((bt 3 a) ∧ (bt 3 b)))) 151 n 1) 152 n (zbo ((bt 5 a) ∨ (bt 5 b)))) 153 n (zbo ((((bt 6 a) ∧ (bt 6 b)) ∨ ((bt 5 a) ∧ (bt 6 a))) ∨ ((bt 5 b) ∧ (bt 6 b))))) 154 n (zbo ((bt 7 a) ∧ (bt 7 b) ∧ (bt 5 a) ∧ (bt 5 b)))) 155 n (zbo ((bt 8 a) ∧ (bt 8 b)))) pst97) (zbo_neg b101) J102)
                          · replace b101 : bt 9 a := Classical.byContradiction (fun h => b101 ((zbo_eq0 : (zbo (bt 9 a)) = 0 ↔ ¬ (bt 9 a)).mpr h))
                            refine zv_c1 ht99 rfl rfl (zv_c1 ht99 rfl rfl ?_)
                            exact zEv.wk (L := [.ref n, .ref x, .retAddr 0]) (L' := [.ref n, .ref x, .int 0]) (And.intro (Or.inl rfl) (And.intro (Or.inl rfl) (And.intro (Or.inr rfl) trivial))) (zv_sub (zz := zbo (bt 9 a)) (zy := 1) (p := fun zz => zEv (d - 1) 286 73 [.ref n, .ref x, .retAddr 0] [.int zz, .ref n] (sI (sI (sI (sI (sI (sI (sI (sI (sI (sI S 145 n 1) 147 n (zbo ((bt 0 a) ∧ (bt 0 b)))) 148 n (zbo (((bt 1 a) ∧ (bt 0 b)) ∨ ((bt 0 a) ∧ (bt 1 b))))) 149 n (zbo ((bt 2 a) ∨ ((bt 0 a) ∧ (bt 2 b))))) 150 n (zbo ((bt 3 a) ∧ (bt 3 b)))) 151 n 1) 152 n (zbo ((bt 5 a) ∨ (bt 5 b)))) 153 n (zbo ((((bt 6 a) ∧ (bt 6 b)) ∨ ((bt 5 a) ∧ (bt 6 a))) ∨ ((bt 5 b) ∧ (bt 6 b))))) 154 n (zbo ((bt 7 a) ∧ (bt 7 b) ∧ (bt 5 a) ∧ (bt 5 b)))) 155 n (zbo ((bt 8 a) ∧ (bt 8 b)))) pst97) (zbo_pos b101) J102)
                        refine zv_cl ht rfl rfl rfl (zv_tgv (htn) rfl) (by omega) (Nat.le_of_ble_eq_true rfl) (C98 _ ?_)
                        show zEv d 371 815 [.ref n, .retAddr 0, .retAddr 0, .retAddr 0, .int (zbo ((bt 8 a) ∧ (bt 8 b))), .retAddr 0, .retAddr 0] [] (sI (sI (sI (sI (sI (sI (sI (sI (sI (sI (sI (sI S 145 n 1) 147 n (zbo ((bt 0 a) ∧ (bt 0 b)))) 148 n (zbo (((bt 1 a) ∧ (bt 0 b)) ∨ ((bt 0 a) ∧ (bt 1 b))))) 149 n (zbo ((bt 2 a) ∨ ((bt 0 a) ∧ (bt 2 b))))) 150 n (zbo ((bt 3 a) ∧ (bt 3 b)))) 151 n 1) 152 n (zbo ((bt 5 a) ∨ (bt 5 b)))) 153 n (zbo ((((bt 6 a) ∧ (bt 6 b)) ∨ ((bt 5 a) ∧ (bt 6 a))) ∨ ((bt 5 b) ∧ (bt 6 b))))) 154 n (zbo ((bt 7 a) ∧ (bt 7 b) ∧ (bt 5 a) ∧ (bt 5 b)))) 155 n (zbo ((bt 8 a) ∧ (bt 8 b)))) 156 n (zbo (bt 9 a))) 146 n ((0 : Int32) ||| tx)) post
                        refine zv_c1 ht rfl rfl (zv_c1 ht rfl rfl ?_)
                        refine zv_g3 (q := y) ht rfl hF rfl rfl (zhas_of (htn) rfl) hpy ?_
                        refine zv_c1 ht rfl rfl ?_
                        refine zv_ei (x := 1) ht rfl rfl (zhas_of (htn) rfl) how ?_
                        refine zv_c1 ht rfl rfl ?_
                        refine zv_br ht rfl rfl rfl (fun h => absurd h (by decide)) (fun _ => ?_)
                        refine zv_c1 ht rfl rfl (zv_c1 ht rfl rfl ?_)
                        have C106 : ∀ (pst105 : Outcome × zS → Prop), (pst105 (.returned none, sI (sI (sI (sI (sI (sI (sI (sI (sI (sI (sI (sI (sI (sI (sI S 145 n 1) 147 n (zbo ((bt 0 a) ∧ (bt 0 b)))) 148 n (zbo (((bt 1 a) ∧ (bt 0 b)) ∨ ((bt 0 a) ∧ (bt 1 b))))) 149 n (zbo ((bt 2 a) ∨ ((bt 0 a) ∧ (bt 2 b))))) 150 n (zbo ((bt 3 a) ∧ (bt 3 b)))) 151 n 1) 152 n (zbo ((bt 5 a) ∨ (bt 5 b)))) 153 n (zbo ((((bt 6 a) ∧ (bt 6 b)) ∨ ((bt 5 a) ∧ (bt 6 a))) ∨ ((bt 5 b) ∧ (bt 6 b))))) 154 n (zbo ((bt 7 a) ∧ (bt 7 b) ∧ (bt 5 a) ∧ (bt 5 b)))) 155 n (zbo ((bt 8 a) ∧ (bt 8 b)))) 156 n (zbo (bt 9 a))) 146 n ((0 : Int32) ||| tx)) 156 n (zbo ((bt 9 a) ∨ (((¬ ((((0 : Int32) ||| tx) &&& (1 : Int32)) = 0)) ∧ (¬ ((ty &&& (2 : Int32)) = 0))) ∨ ((¬ ((((0 : Int32) ||| tx) &&& (2 : Int32)) = 0)) ∧ (¬ ((ty &&& (1 : Int32)) = 0)))) ∨ ((¬ ((((0 : Int32) ||| tx) &&& (4 : Int32)) = 0)) ∧ (¬ ((ty &&& (8 : Int32)) = 0))) ∨ ((¬ ((((0 : Int32) ||| tx) &&& (8 : Int32)) = 0)) ∧ (¬ ((ty &&& (4 : Int32)) = 0)))))) 156 n (zbo (((bt 9 a) ∨ (((¬ ((((0 : Int32) ||| tx) &&& (1 : Int32)) = 0)) ∧ (¬ ((ty &&& (2 : Int32)) = 0))) ∨ ((¬ ((((0 : Int32) ||| tx) &&& (2 : Int32)) = 0)) ∧ (¬ ((ty &&& (1 : Int32)) = 0)))) ∨ ((¬ ((((0 : Int32) ||| tx) &&& (4 : Int32)) = 0)) ∧ (¬ ((ty &&& (8 : Int32)) = 0))) ∨ ((¬ ((((0 : Int32) ||| tx) &&& (8 : Int32)) = 0)) ∧ (¬ ((ty &&& (4 : Int32)) = 0)))) ∨ (bt 9 b)))) 146 n (((0 : Int32) ||| tx) ||| ty))) → zCall (d - 1) 286 [.ref n, .ref y, .int 1] (sI (sI (sI (sI (sI (sI (sI (sI (sI (sI (sI (sI S 145 n 1) 147 n (zbo ((bt 0 a) ∧ (bt 0 b)))) 148 n (zbo (((bt 1 a) ∧ (bt 0 b)) ∨ ((bt 0 a) ∧ (bt 1 b))))) 149 n (zbo ((bt 2 a) ∨ ((bt 0 a) ∧ (bt 2 b))))) 150 n (zbo ((bt 3 a) ∧ (bt 3 b)))) 151 n 1) 152 n (zbo ((bt 5 a) ∨ (bt 5 b)))) 153 n (zbo ((((bt 6 a) ∧ (bt 6 b)) ∨ ((bt 5 a) ∧ (bt 6 a))) ∨ ((bt 5 b) ∧ (bt 6 b))))) 154 n (zbo ((bt 7 a) ∧ (bt 7 b) ∧ (bt 5 a) ∧ (bt 5 b)))) 155 n (zbo ((bt 8 a) ∧ (bt 8 b)))) 156 n (zbo (bt 9 a))) 146 n ((0 : Int32) ||| tx)) pst105 := by
                          intro pst105 k153
                          have ht107 : ztab 286 = ztb286 := rfl
                          show zEv (d - 1) 286 0 [.ref n, .ref y, .int 1] [] (sI (sI (sI (sI (sI (sI (sI (sI (sI (sI (sI (sI S 145 n 1) 147 n (zbo ((bt 0 a) ∧ (bt 0 b)))) 148 n (zbo (((bt 1 a) ∧ (bt 0 b)) ∨ ((bt 0 a) ∧ (bt 1 b))))) 149 n (zbo ((bt 2 a) ∨ ((bt 0 a) ∧ (bt 2 b))))) 150 n (zbo ((bt 3 a) ∧ (bt 3 b)))) 151 n 1) 152 n (zbo ((bt 5 a) ∨ (bt 5 b)))) 153 n (zbo ((((bt 6 a) ∧ (bt 6 b)) ∨ ((bt 5 a) ∧ (bt 6 a))) ∨ ((bt 5 b) ∧ (bt 6 b))))) 154 n (zbo ((bt 7 a) ∧ (bt 7 b) ∧ (bt 5 a) ∧ (bt 5 b)))) 155 n (zbo ((bt 8 a) ∧ (bt 8 b)))) 156 n (zbo (bt 9 a))) 146 n ((0 : Int32) ||| tx)) pst105
                          refine zv_c1 ht107 rfl rfl ?_
                          refine zv_br ht107 rfl rfl rfl (fun h => absurd h (by decide)) (fun _ => ?_)
                          refine zv_c1 ht107 rfl rfl (zv_c1 ht107 rfl rfl ?_)
                          refine zv_ei (x := zbo (bt 9 a)) ht107 rfl rfl (zhas_of (htn) rfl) gI_sI_at ?_
                          have J145 : zEv (d - 1) 286 50 [.ref n, .ref y, .retAddr 0] [.int (zbo ((bt 9 a) ∨ (((¬ ((((0 : Int32) ||| tx) &&& (1 : Int32)) = 0)) ∧ (¬ ((ty &&& (2 : Int32)) = 0))) ∨ ((¬ ((((0 : Int32) ||| tx) &&& (2 : Int32)) = 0)) ∧ (¬ ((ty &&& (1 : Int32)) = 0)))) ∨ ((¬ ((((0 : Int32) ||| tx) &&& (4 : Int32)) = 0)) ∧ (¬ ((ty &&& (8 : Int32)) = 0))) ∨ ((¬ ((((0 : Int32) ||| tx) &&& (8 : Int32)) = 0)) ∧ (¬ ((ty &&& (4 : Int32)) = 0))))), .ref n] (sI (sI (sI (sI (sI (sI (sI (sI (sI (sI (sI (sI S 145 n 1) 147 n (zbo ((bt 0 a) ∧ (bt 0 b)))) 148 n (zbo (((bt 1 a) ∧ (bt 0 b)) ∨ ((bt 0 a) ∧ (bt 1 b))))) 149 n (zbo ((bt 2 a) ∨ ((bt 0 a) ∧ (bt 2 b))))) 150 n (zbo ((bt 3 a) ∧ (bt 3 b)))) 151 n 1) 152 n (zbo ((bt 5 a) ∨ (bt 5 b)))) 153 n (zbo ((((bt 6 a) ∧ (bt 6 b)) ∨ ((bt 5 a) ∧ (bt 6 a))) ∨ ((bt 5 b) ∧ (bt 6 b))))) 154 n (zbo ((bt 7 a) ∧ (bt 7 b) ∧ (bt 5 a) ∧ (bt 5 b)))) 155 n (zbo ((bt 8 a) ∧ (bt 8 b)))) 156 n (zbo (bt 9 a))) 146 n ((0 : Int32) ||| tx)) pst105 := by
                            refine zv_ci (S' := sI (sI (sI (sI (sI (sI (sI (sI (sI (sI (sI (sI (sI S 145 n 1) 147 n (zbo ((bt 0 a) ∧ (bt 0 b)))) 148 n (zbo (((bt 1 a) ∧ (bt 0 b)) ∨ ((bt 0 a) ∧ (bt 1 b))))) 149 n (zbo ((bt 2 a) ∨ ((bt 0 a) ∧ (bt 2 b))))) 150 n (zbo ((bt 3 a) ∧ (bt 3 b)))) 151 n 1) 152 n (zbo ((bt 5 a) ∨ (bt 5 b)))) 153 n (zbo ((((bt 6 a) ∧ (bt 6 b)) ∨ ((bt 5 a) ∧ (bt 6 a))) ∨ ((bt 5 b) ∧ (bt 6 b))))) 154 n (zbo ((bt 7 a) ∧ (bt 7 b) ∧ (bt 5 a) ∧ (bt 5 b)))) 155 n (zbo ((bt 8 a) ∧ (bt 8 b)))) 156 n (zbo (bt 9 a))) 146 n ((0 : Int32) ||| tx)) 156 n (zbo ((bt 9 a) ∨ (((¬ ((((0 : Int32) ||| tx) &&& (1 : Int32)) = 0)) ∧ (¬ ((ty &&& (2 : Int32)) = 0))) ∨ ((¬ ((((0 : Int32) ||| tx) &&& (2 : Int32)) = 0)) ∧ (¬ ((ty &&& (1 : Int32)) = 0)))) ∨ ((¬ ((((0 : Int32) ||| tx) &&& (4 : Int32)) = 0)) ∧ (¬ ((ty &&& (8 : Int32)) = 0))) ∨ ((¬ ((((0 : Int32) ||| tx) &&& (8 : Int32)) = 0)) ∧ (¬ ((ty &&& (4 : Int32)) = 0)))))) ht107 rfl rfl ⟨⟨(zhas_of (htn) rfl), (show n < gN S from by omega)⟩, zbo_rng⟩ ?_
                            refine zv_c1 ht107 rfl rfl (zv_c1 ht107 rfl rfl ?_)
                            refine zv_ei (x := zbo ((bt 9 a) ∨ (((¬ ((((0 : Int32) ||| tx) &&& (1 : Int32)) = 0)) ∧ (¬ ((ty &&& (2 : Int32)) = 0))) ∨ ((¬ ((((0 : Int32) ||| tx) &&& (2 : Int32)) = 0)) ∧ (¬ ((ty &&& (1 : Int32)) = 0)))) ∨ ((¬ ((((0 : Int32) ||| tx) &&& (4 : Int32)) = 0)) ∧ (¬ ((ty &&& (8 : Int32)) = 0))) ∨ ((¬ ((((0 : Int32) ||| tx) &&& (8 : Int32)) = 0)) ∧ (¬ ((ty &&& (4 : Int32)) = 0))))) ht107 rfl rfl (zhas_of (htn) rfl) gI_sI_at ?_
                            have J151 : zEv (d - 1) 286 73 [.ref n, .ref y, .retAddr 0] [.int (zbo (((bt 9 a) ∨ (((¬ ((((0 : Int32) ||| tx) &&& (1 : Int32)) = 0)) ∧ (¬ ((ty &&& (2 : Int32)) = 0))) ∨ ((¬ ((((0 : Int32) ||| tx) &&& (2 : Int32)) = 0)) ∧ (¬ ((ty &&& (1 : Int32)) = 0)))) ∨ ((¬ ((((0 : Int32) ||| tx) &&& (4 : Int32)) = 0)) ∧ (¬ ((ty &&& (8 : Int32)) = 0))) ∨ ((¬ ((((0 : Int32) ||| tx) &&& (8 : Int32)) = 0)) ∧ (¬ ((ty &&& (4 : Int32)) = 0)))) ∨ (bt 9 b))), .ref n] (sI (sI (sI (sI (sI (sI (sI (sI (sI (sI (sI (sI (sI S 145 n 1) 147 n (zbo ((bt 0 a) ∧ (bt 0 b)))) 148 n (zbo (((bt 1 a) ∧ (bt 0 b)) ∨ ((bt 0 a) ∧ (bt 1 b))))) 149 n (zbo ((bt 2 a) ∨ ((bt 0 a) ∧ (bt 2 b))))) 150 n (zbo ((bt 3 a) ∧ (bt 3 b)))) 151 n 1) 152 n (zbo ((bt 5 a) ∨ (bt 5 b)))) 153 n (zbo ((((bt 6 a) ∧ (bt 6 b)) ∨ ((bt 5 a) ∧ (bt 6 a))) ∨ ((bt 5 b) ∧ (bt 6 b))))) 154 n (zbo ((bt 7 a) ∧ (bt 7 b) ∧ (bt 5 a) ∧ (bt 5 b)))) 155 n (zbo ((bt 8 a) ∧ (bt 8 b)))) 156 n (zbo (bt 9 a))) 146 n ((0 : Int32) ||| tx)) 156 n (zbo ((bt 9 a) ∨ (((¬ ((((0 : Int32) ||| tx) &&& (1 : Int32)) = 0)) ∧ (¬ ((ty &&& (2 : Int32)) = 0))) ∨ ((¬ ((((0 : Int32) ||| tx) &&& (2 : Int32)) = 0)) ∧ (¬ ((ty &&& (1 : Int32)) = 0)))) ∨ ((¬ ((((0 : Int32) ||| tx) &&& (4 : Int32)) = 0)) ∧ (¬ ((ty &&& (8 : Int32)) = 0))) ∨ ((¬ ((((0 : Int32) ||| tx) &&& (8 : Int32)) = 0)) ∧ (¬ ((ty &&& (4 : Int32)) = 0)))))) pst105 := by
                              refine zv_ci (S' := sI (sI (sI (sI (sI (sI (sI (sI (sI (sI (sI (sI (sI (sI S 145 n 1) 147 n (zbo ((bt 0 a) ∧ (bt 0 b)))) 148 n (zbo (((bt 1 a) ∧ (bt 0 b)) ∨ ((bt 0 a) ∧ (bt 1 b))))) 149 n (zbo ((bt 2 a) ∨ ((bt 0 a) ∧ (bt 2 b))))) 150 n (zbo ((bt 3 a) ∧ (bt 3 b)))) 151 n 1) 152 n (zbo ((bt 5 a) ∨ (bt 5 b)))) 153 n (zbo ((((bt 6 a) ∧ (bt 6 b)) ∨ ((bt 5 a) ∧ (bt 6 a))) ∨ ((bt 5 b) ∧ (bt 6 b))))) 154 n (zbo ((bt 7 a) ∧ (bt 7 b) ∧ (bt 5 a) ∧ (bt 5 b)))) 155 n (zbo ((bt 8 a) ∧ (bt 8 b)))) 156 n (zbo (bt 9 a))) 146 n ((0 : Int32) ||| tx)) 156 n (zbo ((bt 9 a) ∨ (((¬ ((((0 : Int32) ||| tx) &&& (1 : Int32)) = 0)) ∧ (¬ ((ty &&& (2 : Int32)) = 0))) ∨ ((¬ ((((0 : Int32) ||| tx) &&& (2 : Int32)) = 0)) ∧ (¬ ((ty &&& (1 : Int32)) = 0)))) ∨ ((¬ ((((0 : Int32) ||| tx) &&& (4 : Int32)) = 0)) ∧ (¬ ((ty &&& (8 : Int32)) = 0))) ∨ ((¬ ((((0 : Int32) ||| tx) &&& (8 : Int32)) = 0)) ∧ (¬ ((ty &&& (4 : Int32)) = 0)))))) 156 n (zbo (((bt 9 a) ∨ (((¬ ((((0 : Int32) ||| tx) &&& (1 : Int32)) = 0)) ∧ (¬ ((ty &&& (2 : Int32)) = 0))) ∨ ((¬ ((((0 : Int32) ||| tx) &&& (2 : Int32)) = 0)) ∧ (¬ ((ty &&& (1 : Int32)) = 0)))) ∨ ((¬ ((((0 : Int32) ||| tx) &&& (4 : Int32)) = 0)) ∧ (¬ ((ty &&& (8 : Int32)) = 0))) ∨ ((¬ ((((0 : Int32) ||| tx) &&& (8 : Int32)) = 0)) ∧ (¬ ((ty &&& (4 : Int32)) = 0)))) ∨ (bt 9 b)))) ht107 rfl rfl ⟨⟨(zhas_of (htn) rfl), (show n < gN S from by omega)⟩, zbo_rng⟩ ?_
                              refine zv_c1 ht107 rfl rfl (zv_c1 ht107 rfl rfl ?_)
                              refine zv_ei (x := (0 : Int32) ||| tx) ht107 rfl rfl (zhas_of (htn) rfl) gI_sI_at ?_
                              refine zv_c1 ht107 rfl rfl ?_
                              refine zv_ei (x := ty) ht107 rfl rfl (zhas_nc hcy (by decide)) (Eq.trans (gI_sI_ne (by omega)) hty) ?_
                              refine zv_c1 (st' := [.int (((0 : Int32) ||| tx) ||| ty), .ref n]) (S' := sI (sI (sI (sI (sI (sI (sI (sI (sI (sI (sI (sI (sI (sI S 145 n 1) 147 n (zbo ((bt 0 a) ∧ (bt 0 b)))) 148 n (zbo (((bt 1 a) ∧ (bt 0 b)) ∨ ((bt 0 a) ∧ (bt 1 b))))) 149 n (zbo ((bt 2 a) ∨ ((bt 0 a) ∧ (bt 2 b))))) 150 n (zbo ((bt 3 a) ∧ (bt 3 b)))) 151 n 1) 152 n (zbo ((bt 5 a) ∨ (bt 5 b)))) 153 n (zbo ((((bt 6 a) ∧ (bt 6 b)) ∨ ((bt 5 a) ∧ (bt 6 a))) ∨ ((bt 5 b) ∧ (bt 6 b))))) 154 n (zbo ((bt 7 a) ∧ (bt 7 b) ∧ (bt 5 a) ∧ (bt 5 b)))) 155 n (zbo ((bt 8 a) ∧ (bt 8 b)))) 156 n (zbo (bt 9 a))) 146 n ((0 : Int32) ||| tx)) 156 n (zbo ((bt 9 a) ∨ (((¬ ((((0 : Int32) ||| tx) &&& (1 : Int32)) = 0)) ∧ (¬ ((ty &&& (2 : Int32)) = 0))) ∨ ((¬ ((((0 : Int32) ||| tx) &&& (2 : Int32)) = 0)) ∧ (¬ ((ty &&& (1 : Int32)) = 0)))) ∨ ((¬ ((((0 : Int32) ||| tx) &&& (4 : Int32)) = 0)) ∧ (¬ ((ty &&& (8 : Int32)) = 0))) ∨ ((¬ ((((0 : Int32) ||| tx) &&& (8 : Int32)) = 0)) ∧ (¬ ((ty &&& (4 : Int32)) = 0)))))) 156 n (zbo (((bt 9 a) ∨ (((¬ ((((0 : Int32) ||| tx) &&& (1 : Int32)) = 0)) ∧ (¬ ((ty &&& (2 : Int32)) = 0))) ∨ ((¬ ((((0 : Int32) ||| tx) &&& (2 : Int32)) = 0)) ∧ (¬ ((ty &&& (1 : Int32)) = 0)))) ∨ ((¬ ((((0 : Int32) ||| tx) &&& (4 : Int32)) = 0)) ∧ (¬ ((ty &&& (8 : Int32)) = 0))) ∨ ((¬ ((((0 : Int32) ||| tx) &&& (8 : Int32)) = 0)) ∧ (¬ ((ty &&& (4 : Int32)) = 0)))) ∨ (bt 9 b)))) ht107 rfl rfl ?_
                              refine zv_ci (S' := sI (sI (sI (sI (sI (sI (sI (sI (sI (sI (sI (sI (sI (sI (sI S 145 n 1) 147 n (zbo ((bt 0 a) ∧ (bt 0 b)))) 148 n (zbo (((bt 1 a) ∧ (bt 0 b)) ∨ ((bt 0 a) ∧ (bt 1 b))))) 149 n (zbo ((bt 2 a) ∨ ((bt 0 a) ∧ (bt 2 b))))) 150 n (zbo ((bt 3 a) ∧ (bt 3 b)))) 151 n 1) 152 n (zbo ((bt 5 a) ∨ (bt 5 b)))) 153 n (zbo ((((bt 6 a) ∧ (bt 6 b)) ∨ ((bt 5 a) ∧ (bt 6 a))) ∨ ((bt 5 b) ∧ (bt 6 b))))) 154 n (zbo ((bt 7 a) ∧ (bt 7 b) ∧ (bt 5 a) ∧ (bt 5 b)))) 155 n (zbo ((bt 8 a) ∧ (bt 8 b)))) 156 n (zbo (bt 9 a))) 146 n ((0 : Int32) ||| tx)) 156 n (zbo ((bt 9 a) ∨ (((¬ ((((0 : Int32) ||| tx) &&& (1 : Int32)) = 0)) ∧ (¬ ((ty &&& (2 : Int32)) = 0))) ∨ ((¬ ((((0 : Int32) ||| tx) &&& (2 : Int32)) = 0)) ∧ (¬ ((ty &&& (1 : Int32)) = 0)))) ∨ ((¬ ((((0 : Int32) ||| tx) &&& (4 : Int32)) = 0)) ∧ (¬ ((ty &&& (8 : Int32)) = 0))) ∨ ((¬ ((((0 : Int32) ||| tx) &&& (8 : Int32)) = 0)) ∧ (¬ ((ty &&& (4 : Int32)) = 0)))))) 156 n (zbo (((bt 9 a) ∨ (((¬ ((((0 : Int32) ||| tx) &&& (1 : Int32)) = 0)) ∧ (¬ ((ty &&& (2 : Int32)) = 0))) ∨ ((¬ ((((0 : Int32) ||| tx) &&& (2 : Int32)) = 0)) ∧ (¬ ((ty &&& (1 : Int32)) = 0)))) ∨ ((¬ ((((0 : Int32) ||| tx) &&& (4 : Int32)) = 0)) ∧ (¬ ((ty &&& (8 : Int32)) = 0))) ∨ ((¬ ((((0 : Int32) ||| tx) &&& (8 : Int32)) = 0)) ∧ (¬ ((ty &&& (4 : Int32)) = 0)))) ∨ (bt 9 b)))) 146 n (((0 : Int32) ||| tx) ||| ty)) ht107 rfl rfl ⟨(zhas_of (htn) rfl), (show n < gN S from by omega)⟩ ?_
                              exact zv_rt ht107 rfl rfl rfl rfl k153
                            have J149 : (((bt 9 a) ∨ (((¬ ((((0 : Int32) ||| tx) &&& (1 : Int32)) = 0)) ∧ (¬ ((ty &&& (2 : Int32)) = 0))) ∨ ((¬ ((((0 : Int32) ||| tx) &&& (2 : Int32)) = 0)) ∧ (¬ ((ty &&& (1 : Int32)) = 0)))) ∨ ((¬ ((((0 : Int32) ||| tx) &&& (4 : Int32)) = 0)) ∧ (¬ ((ty &&& (8 : Int32)) = 0))) ∨ ((¬ ((((0 : Int32) ||| tx) &&& (8 : Int32)) = 0)) ∧ (¬ ((ty &&& (4 : Int32)) = 0)))) ∨ (bt 9 b)) → zEv (d - 1) 286 68 [.ref n, .ref y, .retAddr 0] [.ref n] (sI (sI (sI (sI (sI (sI (sI (sI (sI (sI (sI (sI (sI S 145 n 1) 147 n (zbo ((bt 0 a) ∧ (bt 0 b)))) 148 n (zbo (((bt 1 a) ∧ (bt 0 b)) ∨ ((bt 0 a) ∧ (bt 1 b))))) 149 n (zbo ((bt 2 a) ∨ ((bt 0 a) ∧ (bt 2 b))))) 150 n (zbo ((bt 3 a) ∧ (bt 3 b)))) 151 n 1) 152 n (zbo ((bt 5 a) ∨ (bt 5 b)))) 153 n (zbo ((((bt 6 a) ∧ (bt 6 b)) ∨ ((bt 5 a) ∧ (bt 6 a))) ∨ ((bt 5 b) ∧ (bt 6 b))))) 154 n (zbo ((bt 7 a) ∧ (bt 7 b) ∧ (bt 5 a) ∧ (bt 5 b)))) 155 n (zbo ((bt 8 a) ∧ (bt 8 b)))) 156 n (zbo (bt 9 a))) 146 n ((0 : Int32) ||| tx)) 156 n (zbo ((bt 9 a) ∨ (((¬ ((((0 : Int32) ||| tx) &&& (1 : Int32)) = 0)) ∧ (¬ ((ty &&& (2 : Int32)) = 0))) ∨ ((¬ ((((0 : Int32) ||| tx) &&& (2 : Int32)) = 0)) ∧ (¬ ((ty &&& (1 : Int32)) = 0)))) ∨ ((¬ ((((0 : Int32) ||| tx) &&& (4 : Int32)) = 0)) ∧ (¬ ((ty &&& (8 : Int32)) = 0))) ∨ ((¬ ((((0 : Int32) ||| tx) &&& (8 : Int32)) = 0)) ∧ (¬ ((ty &&& (4 : Int32)) = 0)))))) pst105 := by
                              intro b150
                              refine zv_c1 ht107 rfl rfl (zv_c1 ht107 rfl rfl ?_)
                              exact (zv_sub (zz := zbo (((bt 9 a) ∨ (((¬ ((((0 : Int32) ||| tx) &&& (1 : Int32)) = 0)) ∧ (¬ ((ty &&& (2 : Int32)) = 0))) ∨ ((¬ ((((0 : Int32) ||| tx) &&& (2 : Int32)) = 0)) ∧ (¬ ((ty &&& (1 : Int32)) = 0)))) ∨ ((¬ ((((0 : Int32) ||| tx) &&& (4 : Int32)) = 0)) ∧ (¬ ((ty &&& (8 : Int32)) = 0))) ∨ ((¬ ((((0 : Int32) ||| tx) &&& (8 : Int32)) = 0)) ∧ (¬ ((ty &&& (4 : Int32)) = 0)))) ∨ (bt 9 b))) (zy := 1) (p := fun zz => zEv (d - 1) 286 73 [.ref n, .ref y, .retAddr 0] [.int zz, .ref n] (sI (sI (sI (sI (sI (sI (sI (sI (sI (sI (sI (sI (sI S 145 n 1) 147 n (zbo ((bt 0 a) ∧ (bt 0 b)))) 148 n (zbo (((bt 1 a) ∧ (bt 0 b)) ∨ ((bt 0 a) ∧ (bt 1 b))))) 149 n (zbo ((bt 2 a) ∨ ((bt 0 a) ∧ (bt 2 b))))) 150 n (zbo ((bt 3 a) ∧ (bt 3 b)))) 151 n 1) 152 n (zbo ((bt 5 a) ∨ (bt 5 b)))) 153 n (zbo ((((bt 6 a) ∧ (bt 6 b)) ∨ ((bt 5 a) ∧ (bt 6 a))) ∨ ((bt 5 b) ∧ (bt 6 b))))) 154 n (zbo ((bt 7 a) ∧ (bt 7 b) ∧ (bt 5 a) ∧ (bt 5 b)))) 155 n (zbo ((bt 8 a) ∧ (bt 8 b)))) 156 n (zbo (bt 9 a))) 146 n ((0 : Int32) ||| tx)) 156 n (zbo ((bt 9 a) ∨ (((¬ ((((0 : Int32) ||| tx) &&& (1 : Int32)) = 0)) ∧ (¬ ((ty &&& (2 : Int32)) = 0))) ∨ ((¬ ((((0 : Int32) ||| tx) &&& (2 : Int32)) = 0)) ∧ (¬ ((ty &&& (1 : Int32)) = 0)))) ∨ ((¬ ((((0 : Int32) ||| tx) &&& (4 : Int32)) = 0)) ∧ (¬ ((ty &&& (8 : Int32)) = 0))) ∨ ((¬ ((((0 : Int32) ||| tx) &&& (8 : Int32)) = 0)) ∧ (¬ ((ty &&& (4 : Int32)) = 0)))))) pst105) (zbo_pos b150) J151)
                            refine zv_br ht107 rfl rfl rfl (fun b147 => ?_) (fun b147 => ?_)
                            · replace b147 : (bt 9 a) ∨ (((¬ ((((0 : Int32) ||| tx) &&& (1 : Int32)) = 0)) ∧ (¬ ((ty &&& (2 : Int32)) = 0))) ∨ ((¬ ((((0 : Int32) ||| tx) &&& (2 : Int32)) = 0)) ∧ (¬ ((ty &&& (1 : Int32)) = 0)))) ∨ ((¬ ((((0 : Int32) ||| tx) &&& (4 : Int32)) = 0)) ∧ (¬ ((ty &&& (8 : Int32)) = 0))) ∨ ((¬ ((((0 : Int32) ||| tx) &&& (8 : Int32)) = 0)) ∧ (¬ ((ty &&& (4 : Int32)) = 0))) := Classical.byContradiction (fun h => b147 ((zbo_eq0 : (zbo ((bt 9 a) ∨ (((¬ ((((0 : Int32) ||| tx) &&& (1 : Int32)) = 0)) ∧ (¬ ((ty &&& (2 : Int32)) = 0))) ∨ ((¬ ((((0 : Int32) ||| tx) &&& (2 : Int32)) = 0)) ∧ (¬ ((ty &&& (1 : Int32)) = 0)))) ∨ ((¬ ((((0 : Int32) ||| tx) &&& (4 : Int32)) = 0)) ∧ (¬ ((ty &&& (8 : Int32)) = 0))) ∨ ((¬ ((((0 : Int32) ||| tx) &&& (8 : Int32)) = 0)) ∧ (¬ ((ty &&& (4 : Int32)) = 0))))) = 0 ↔ ¬ ((bt 9 a) ∨ (((¬ ((((0 : Int32) ||| tx) &&& (1 : Int32)) = 0)) ∧ (¬ ((ty &&& (2 : Int32)) = 0))) ∨ ((¬ ((((0 : Int32) ||| tx) &&& (2 : Int32)) = 0)) ∧ (¬ ((ty &&& (1 : Int32)) = 0)))) ∨ ((¬ ((((0 : Int32) ||| tx) &&& (4 : Int32)) = 0)) ∧ (¬ ((ty &&& (8 : Int32)) = 0))) ∨ ((¬ ((((0 : Int32) ||| tx) &&& (8 : Int32)) = 0)) ∧ (¬ ((ty &&& (4 : Int32)) = 0))))).mpr h))
                              exact (J149 (Or.inl b147))
                            · replace b147 : ¬ ((bt 9 a) ∨ (((¬ ((((0 : Int32) ||| tx) &&& (1 : Int32)) = 0)) ∧ (¬ ((ty &&& (2 : Int32)) = 0))) ∨ ((¬ ((((0 : Int32) ||| tx) &&& (2 : Int32)) = 0)) ∧ (¬ ((ty &&& (1 : Int32)) = 0)))) ∨ ((¬ ((((0 : Int32) ||| tx) &&& (4 : Int32)) = 0)) ∧ (¬ ((ty &&& (8 : Int32)) = 0))) ∨ ((¬ ((((0 : Int32) ||| tx) &&& (8 : Int32)) = 0)) ∧ (¬ ((ty &&& (4 : Int32)) = 0)))) := (zbo_eq0 : (zbo ((bt 9 a) ∨ (((¬ ((((0 : Int32) ||| tx) &&& (1 : Int32)) = 0)) ∧ (¬ ((ty &&& (2 : Int32)) = 0))) ∨ ((¬ ((((0 : Int32) ||| tx) &&& (2 : Int32)) = 0)) ∧ (¬ ((ty &&& (1 : Int32)) = 0)))) ∨ ((¬ ((((0 : Int32) ||| tx) &&& (4 : Int32)) = 0)) ∧ (¬ ((ty &&& (8 : Int32)) = 0))) ∨ ((¬ ((((0 : Int32) ||| tx) &&& (8 : Int32)) = 0)) ∧ (¬ ((ty &&& (4 : Int32)) = 0))))) = 0 ↔ ¬ ((bt 9 a) ∨ (((¬ ((((0 : Int32) ||| tx) &&& (1 : Int32)) = 0)) ∧ (¬ ((ty &&& (2 : Int32)) = 0))) ∨ ((¬ ((((0 : Int32) ||| tx) &&& (2 : Int32)) = 0)) ∧ (¬ ((ty &&& (1 : Int32)) = 0)))) ∨ ((¬ ((((0 : Int32) ||| tx) &&& (4 : Int32)) = 0)) ∧ (¬ ((ty &&& (8 : Int32)) = 0))) ∨ ((¬ ((((0 : Int32) ||| tx) &&& (8 : Int32)) = 0)) ∧ (¬ ((ty &&& (4 : Int32)) = 0))))).mp (Classical.not_not.mp b147)
                              refine zv_c1 ht107 rfl rfl ?_
                              refine zv_ei (x := zbo (bt 9 b)) ht107 rfl rfl (zhas_nc hcy (by decide)) (Eq.trans (gI_sI_ne (by omega)) (Eq.trans (gI_sI_ne (by omega)) hmixedy)) ?_
                              refine zv_br ht107 rfl rfl rfl (fun b148 => ?_) (fun b148 => ?_)
                              · replace b148 : ¬ (bt 9 b) := (zbo_eq0 : (zbo (bt 9 b)) = 0 ↔ ¬ (bt 9 b)).mp b148
                                refine zv_c1 ht107 rfl rfl ?_
                                exact (zv_sub (zz := zbo (((bt 9 a) ∨ (((¬ ((((0 : Int32) ||| tx) &&& (1 : Int32)) = 0)) ∧ (¬ ((ty &&& (2 : Int32)) = 0))) ∨ ((¬ ((((0 : Int32) ||| tx) &&& (2 : Int32)) = 0)) ∧ (¬ ((ty &&& (1 : Int32)) = 0)))) ∨ ((¬ ((((0 : Int32) ||| tx) &&& (4 : Int32)) = 0)) ∧ (¬ ((ty &&& (8 : Int32)) = 0))) ∨ ((¬ ((((0 : Int32) ||| tx) &&& (8 : Int32)) = 0)) ∧ (¬ ((ty &&& (4 : Int32)) = 0)))) ∨ (bt 9 b))) (zy := 0) (p := fun zz => zEv (d - 1) 286 73 [.ref n, .ref y, .retAddr 0] [.int zz, .ref n] (sI (sI (sI (sI (sI (sI (sI (sI (sI (sI (sI (sI (sI S 145 n 1) 147 n (zbo ((bt 0 a) ∧ (bt 0 b)))) 148 n (zbo (((bt 1 a) ∧ (bt 0 b)) ∨ ((bt 0 a) ∧ (bt 1 b))))) 149 n (zbo ((bt 2 a) ∨ ((bt 0 a) ∧ (bt 2 b))))) 150 n (zbo ((bt 3 a) ∧ (bt 3 b)))) 151 n 1) 152 n (zbo ((bt 5 a) ∨ (bt 5 b)))) 153 n (zbo ((((bt 6 a) ∧ (bt 6 b)) ∨ ((bt 5 a) ∧ (bt 6 a))) ∨ ((bt 5 b) ∧ (bt 6 b))))) 154 n (zbo ((bt 7 a) ∧ (bt 7 b) ∧ (bt 5 a) ∧ (bt 5 b)))) 155 n (zbo ((bt 8 a) ∧ (bt 8 b)))) 156 n (zbo (bt 9 a))) 146 n ((0 : Int32) ||| tx)) 156 n (zbo ((bt 9 a) ∨ (((¬ ((((0 : Int32) ||| tx) &&& (1 : Int32)) = 0)) ∧ (¬ ((ty &&& (2 : Int32)) = 0))) ∨ ((¬ ((((0 : Int32) ||| tx) &&& (2 : Int32)) = 0)) ∧ (¬ ((ty &&& (1 : Int32)) = 0)))) ∨ ((¬ ((((0 : Int32) ||| tx) &&& (4 : Int32)) = 0)) ∧ (¬ ((ty &&& (8 : Int32)) = 0))) ∨ ((¬ ((((0 : Int32) ||| tx) &&& (8 : Int32)) = 0)) ∧ (¬ ((ty &&& (4 : Int32)) = 0)))))) pst105) (zbo_neg (fun h => h.elim b147 b148)) J151)
                              · replace b148 : bt 9 b := Classical.byContradiction (fun h => b148 ((zbo_eq0 : (zbo (bt 9 b)) = 0 ↔ ¬ (bt 9 b)).mpr h))
                                exact (J149 (Or.inr b148))
                          have J143 : ((bt 9 a) ∨ (((¬ ((((0 : Int32) ||| tx) &&& (1 : Int32)) = 0)) ∧ (¬ ((ty &&& (2 : Int32)) = 0))) ∨ ((¬ ((((0 : Int32) ||| tx) &&& (2 : Int32)) = 0)) ∧ (¬ ((ty &&& (1 : Int32)) = 0)))) ∨ ((¬ ((((0 : Int32) ||| tx) &&& (4 : Int32)) = 0)) ∧ (¬ ((ty &&& (8 : Int32)) = 0))) ∨ ((¬ ((((0 : Int32) ||| tx) &&& (8 : Int32)) = 0)) ∧ (¬ ((ty &&& (4 : Int32)) = 0)))) → zEv (d - 1) 286 45 [.ref n, .ref y, .retAddr 0] [.ref n] (sI (sI (sI (sI (sI (sI (sI (sI (sI (sI (sI (sI S 145 n 1) 147 n (zbo ((bt 0 a) ∧ (bt 0 b)))) 148 n (zbo (((bt 1 a) ∧ (bt 0 b)) ∨ ((bt 0 a) ∧ (bt 1 b))))) 149 n (zbo ((bt 2 a) ∨ ((bt 0 a) ∧ (bt 2 b))))) 150 n (zbo ((bt 3 a) ∧ (bt 3 b)))) 151 n 1) 152 n (zbo ((bt 5 a) ∨ (bt 5 b)))) 153 n (zbo ((((bt 6 a) ∧ (bt 6 b)) ∨ ((bt 5 a) ∧ (bt 6 a))) ∨ ((bt 5 b) ∧ (bt 6 b))))) 154 n (zbo ((bt 7 a) ∧ (bt 7 b) ∧ (bt 5 a) ∧ (bt 5 b)))) 155 n (zbo ((bt 8 a) ∧ (bt 8 b)))) 156 n (zbo (bt 9 a))) 146 n ((0 : Int32) ||| tx)) pst105 := by
                            intro b144
                            refine zv_c1 ht107 rfl rfl (zv_c1 ht107 rfl rfl ?_)
                            exact (zv_sub (zz := zbo ((bt 9 a) ∨ (((¬ ((((0 : Int32) ||| tx) &&& (1 : Int32)) = 0)) ∧ (¬ ((ty &&& (2 : Int32)) = 0))) ∨ ((¬ ((((0 : Int32) ||| tx) &&& (2 : Int32)) = 0)) ∧ (¬ ((ty &&& (1 : Int32)) = 0)))) ∨ ((¬ ((((0 : Int32) ||| tx) &&& (4 : Int32)) = 0)) ∧ (¬ ((ty &&& (8 : Int32)) = 0))) ∨ ((¬ ((((0 : Int32) ||| tx) &&& (8 : Int32)) = 0)) ∧ (¬ ((ty &&& (4 : Int32)) = 0))))) (zy := 1) (p := fun zz => zEv (d - 1) 286 50 [.ref n, .ref y, .retAddr 0] [.int zz, .ref n] (sI (sI (sI (sI (sI (sI (sI (sI (sI (sI (sI (sI S 145 n 1) 147 n (zbo ((bt 0 a) ∧ (bt 0 b)))) 148 n (zbo (((bt 1 a) ∧ (bt 0 b)) ∨ ((bt 0 a) ∧ (bt 1 b))))) 149 n (zbo ((bt 2 a) ∨ ((bt 0 a) ∧ (bt 2 b))))) 150 n (zbo ((bt 3 a) ∧ (bt 3 b)))) 151 n 1) 152 n (zbo ((bt 5 a) ∨ (bt 5 b)))) 153 n (zbo ((((bt 6 a) ∧ (bt 6 b)) ∨ ((bt 5 a) ∧ (bt 6 a))) ∨ ((bt 5 b) ∧ (bt 6 b))))) 154 n (zbo ((bt 7 a) ∧ (bt 7 b) ∧ (bt 5 a) ∧ (bt 5 b)))) 155 n (zbo ((bt 8 a) ∧ (bt 8 b)))) 156 n (zbo (bt 9 a))) 146 n ((0 : Int32) ||| tx)) pst105) (zbo_pos b144) J145)
                          refine zv_br ht107 rfl rfl rfl (fun b108 => ?_) (fun b108 => ?_)
                          · replace b108 : bt 9 a := Classical.byContradiction (fun h => b108 ((zbo_eq0 : (zbo (bt 9 a)) = 0 ↔ ¬ (bt 9 a)).mpr h))
                            exact zEv.wk (L := [.ref n, .ref y, .retAddr 0]) (L' := [.ref n, .ref y, .int 1]) (And.intro (Or.inl rfl) (And.intro (Or.inl rfl) (And.intro (Or.inr rfl) trivial))) (J143 (Or.inl b108))
                          · replace b108 : ¬ (bt 9 a) := (zbo_eq0 : (zbo (bt 9 a)) = 0 ↔ ¬ (bt 9 a)).mp (Classical.not_not.mp b108)
                            refine zv_c1 ht107 rfl rfl ?_
                            refine zv_ei (x := (0 : Int32) ||| tx) ht107 rfl rfl (zhas_of (htn) rfl) gI_sI_at ?_
                            refine zv_c1 ht107 rfl rfl ?_
                            refine zv_ei (x := ty) ht107 rfl rfl (zhas_nc hcy (by decide)) (Eq.trans (gI_sI_ne (by omega)) hty) ?_
                            refine zv_c1 ht107 rfl rfl (zv_c1 ht107 rfl rfl ?_)
                            have C110 : ∀ (pst109 : Outcome × zS → Prop), (pst109 (.returned (some (.int (zbo (((¬ ((((0 : Int32) ||| tx) &&& (1 : Int32)) = 0)) ∧ (¬ ((ty &&& (2 : Int32)) = 0))) ∨ ((¬ ((((0 : Int32) ||| tx) &&& (2 : Int32)) = 0)) ∧ (¬ ((ty &&& (1 : Int32)) = 0))))))), sI (sI (sI (sI (sI (sI (sI (sI (sI (sI (sI (sI S 145 n 1) 147 n (zbo ((bt 0 a) ∧ (bt 0 b)))) 148 n (zbo (((bt 1 a) ∧ (bt 0 b)) ∨ ((bt 0 a) ∧ (bt 1 b))))) 149 n (zbo ((bt 2 a) ∨ ((bt 0 a) ∧ (bt 2 b))))) 150 n (zbo ((bt 3 a) ∧ (bt 3 b)))) 151 n 1) 152 n (zbo ((bt 5 a) ∨ (bt 5 b)))) 153 n (zbo ((((bt 6 a) ∧ (bt 6 b)) ∨ ((bt 5 a) ∧ (bt 6 a))) ∨ ((bt 5 b) ∧ (bt 6 b))))) 154 n (zbo ((bt 7 a) ∧ (bt 7 b) ∧ (bt 5 a) ∧ (bt 5 b)))) 155 n (zbo ((bt 8 a) ∧ (bt 8 b)))) 156 n (zbo (bt 9 a))) 146 n ((0 : Int32) ||| tx))) → zCall ((d - 1) - 1) 9 [.int ((0 : Int32) ||| tx), .int ty, .int 1, .int 2] (sI (sI (sI (sI (sI (sI (sI (sI (sI (sI (sI (sI S 145 n 1) 147 n (zbo ((bt 0 a) ∧ (bt 0 b)))) 148 n (zbo (((bt 1 a) ∧ (bt 0 b)) ∨ ((bt 0 a) ∧ (bt 1 b))))) 149 n (zbo ((bt 2 a) ∨ ((bt 0 a) ∧ (bt 2 b))))) 150 n (zbo ((bt 3 a) ∧ (bt 3 b)))) 151 n 1) 152 n (zbo ((bt 5 a) ∨ (bt 5 b)))) 153 n (zbo ((((bt 6 a) ∧ (bt 6 b)) ∨ ((bt 5 a) ∧ (bt 6 a))) ∨ ((bt 5 b) ∧ (bt 6 b))))) 154 n (zbo ((bt 7 a) ∧ (bt 7 b) ∧ (bt 5 a) ∧ (bt 5 b)))) 155 n (zbo ((bt 8 a) ∧ (bt 8 b)))) 156 n (zbo (bt 9 a))) 146 n ((0 : Int32) ||| tx)) pst109 := by
                              intro pst109 k124
                              have ht111 : ztab 9 = ztb9 := rfl
                              show zEv ((d - 1) - 1) 9 0 [.int ((0 : Int32) ||| tx), .int ty, .int 1, .int 2] [] (sI (sI (sI (sI (sI (sI (sI (sI (sI (sI (sI (sI S 145 n 1) 147 n (zbo ((bt 0 a) ∧ (bt 0 b)))) 148 n (zbo (((bt 1 a) ∧ (bt 0 b)) ∨ ((bt 0 a) ∧ (bt 1 b))))) 149 n (zbo ((bt 2 a) ∨ ((bt 0 a) ∧ (bt 2 b))))) 150 n (zbo ((bt 3 a) ∧ (bt 3 b)))) 151 n 1) 152 n (zbo ((bt 5 a) ∨ (bt 5 b)))) 153 n (zbo ((((bt 6 a) ∧ (bt 6 b)) ∨ ((bt 5 a) ∧ (bt 6 a))) ∨ ((bt 5 b) ∧ (bt 6 b))))) 154 n (zbo ((bt 7 a) ∧ (bt 7 b) ∧ (bt 5 a) ∧ (bt 5 b)))) 155 n (zbo ((bt 8 a) ∧ (bt 8 b)))) 156 n (zbo (bt 9 a))) 146 n ((0 : Int32) ||| tx)) pst109
                              refine zv_c1 ht111 rfl rfl (zv_c1 ht111 rfl rfl ?_)
                              refine zv_c1 (st' := [.int (((0 : Int32) ||| tx) &&& (1 : Int32))]) (S' := sI (sI (sI (sI (sI (sI (sI (sI (sI (sI (sI (sI S 145 n 1) 147 n (zbo ((bt 0 a) ∧ (bt 0 b)))) 148 n (zbo (((bt 1 a) ∧ (bt 0 b)) ∨ ((bt 0 a) ∧ (bt 1 b))))) 149 n (zbo ((bt 2 a) ∨ ((bt 0 a) ∧ (bt 2 b))))) 150 n (zbo ((bt 3 a) ∧ (bt 3 b)))) 151 n 1) 152 n (zbo ((bt 5 a) ∨ (bt 5 b)))) 153 n (zbo ((((bt 6 a) ∧ (bt 6 b)) ∨ ((bt 5 a) ∧ (bt 6 a))) ∨ ((bt 5 b) ∧ (bt 6 b))))) 154 n (zbo ((bt 7 a) ∧ (bt 7 b) ∧ (bt 5 a) ∧ (bt 5 b)))) 155 n (zbo ((bt 8 a) ∧ (bt 8 b)))) 156 n (zbo (bt 9 a))) 146 n ((0 : Int32) ||| tx)) ht111 rfl rfl ?_
                              have J122 : zEv ((d - 1) - 1) 9 29 [.retAddr 0, .retAddr 0, .retAddr 0, .retAddr 0] [.int (zbo (((¬ ((((0 : Int32) ||| tx) &&& (1 : Int32)) = 0)) ∧ (¬ ((ty &&& (2 : Int32)) = 0))) ∨ ((¬ ((((0 : Int32) ||| tx) &&& (2 : Int32)) = 0)) ∧ (¬ ((ty &&& (1 : Int32)) = 0)))))] (sI (sI (sI (sI (sI (sI (sI (sI (sI (sI (sI (sI S 145 n 1) 147 n (zbo ((bt 0 a) ∧ (bt 0 b)))) 148 n (zbo (((bt 1 a) ∧ (bt 0 b)) ∨ ((bt 0 a) ∧ (bt 1 b))))) 149 n (zbo ((bt 2 a) ∨ ((bt 0 a) ∧ (bt 2 b))))) 150 n (zbo ((bt 3 a) ∧ (bt 3 b)))) 151 n 1) 152 n (zbo ((bt 5 a) ∨ (bt 5 b)))) 153 n (zbo ((((bt 6 a) ∧ (bt 6 b)) ∨ ((bt 5 a) ∧ (bt 6 a))) ∨ ((bt 5 b) ∧ (bt 6 b))))) 154 n (zbo ((bt 7 a) ∧ (bt 7 b) ∧ (bt 5 a) ∧ (bt 5 b)))) 155 n (zbo ((bt 8 a) ∧ (bt 8 b)))) 156 n (zbo (bt 9 a))) 146 n ((0 : Int32) ||| tx)) pst109 := by
                                exact zv_rc ht111 rfl rfl rfl rfl zbo_rng k124
                              have J120 : (((¬ ((((0 : Int32) ||| tx) &&& (1 : Int32)) = 0)) ∧ (¬ ((ty &&& (2 : Int32)) = 0))) ∨ ((¬ ((((0 : Int32) ||| tx) &&& (2 : Int32)) = 0)) ∧ (¬ ((ty &&& (1 : Int32)) = 0)))) → zEv ((d - 1) - 1) 9 24 [.retAddr 0, .retAddr 0, .retAddr 0, .retAddr 0] [] (sI (sI (sI (sI (sI (sI (sI (sI (sI (sI (sI (sI S 145 n 1) 147 n (zbo ((bt 0 a) ∧ (bt 0 b)))) 148 n (zbo (((bt 1 a) ∧ (bt 0 b)) ∨ ((bt 0 a) ∧ (bt 1 b))))) 149 n (zbo ((bt 2 a) ∨ ((bt 0 a) ∧ (bt 2 b))))) 150 n (zbo ((bt 3 a) ∧ (bt 3 b)))) 151 n 1) 152 n (zbo ((bt 5 a) ∨ (bt 5 b)))) 153 n (zbo ((((bt 6 a) ∧ (bt 6 b)) ∨ ((bt 5 a) ∧ (bt 6 a))) ∨ ((bt 5 b) ∧ (bt 6 b))))) 154 n (zbo ((bt 7 a) ∧ (bt 7 b) ∧ (bt 5 a) ∧ (bt 5 b)))) 155 n (zbo ((bt 8 a) ∧ (bt 8 b)))) 156 n (zbo (bt 9 a))) 146 n ((0 : Int32) ||| tx)) pst109 := by
                                intro b121
                                refine zv_c1 ht111 rfl rfl (zv_c1 ht111 rfl rfl ?_)
                                exact (zv_sub (zz := zbo (((¬ ((((0 : Int32) ||| tx) &&& (1 : Int32)) = 0)) ∧ (¬ ((ty &&& (2 : Int32)) = 0))) ∨ ((¬ ((((0 : Int32) ||| tx) &&& (2 : Int32)) = 0)) ∧ (¬ ((ty &&& (1 : Int32)) = 0))))) (zy := 1) (p := fun zz => zEv ((d - 1) - 1) 9 29 [.retAddr 0, .retAddr 0, .retAddr 0, .retAddr 0] [.int zz] (sI (sI (sI (sI (sI (sI (sI (sI (sI (sI (sI (sI S 145 n 1) 147 n (zbo ((bt 0 a) ∧ (bt 0 b)))) 148 n (zbo (((bt 1 a) ∧ (bt 0 b)) ∨ ((bt 0 a) ∧ (bt 1 b))))) 149 n (zbo ((bt 2 a) ∨ ((bt 0 a) ∧ (bt 2 b))))) 150 n (zbo ((bt 3 a) ∧ (bt 3 b)))) 151 n 1) 152 n (zbo ((bt 5 a) ∨ (bt 5 b)))) 153 n (zbo ((((bt 6 a) ∧ (bt 6 b)) ∨ ((bt 5 a) ∧ (bt 6 a))) ∨ ((bt 5 b) ∧ (bt 6 b))))) 154 n (zbo ((bt 7 a) ∧ (bt 7 b) ∧ (bt 5 a) ∧ (bt 5 b)))) 155 n (zbo ((bt 8 a) ∧ (bt 8 b)))) 156 n (zbo (bt 9 a))) 146 n ((0 : Int32) ||| tx)) pst109) (zbo_pos b121) J122)
                              have J114 : (((((0 : Int32) ||| tx) &&& (1 : Int32)) = 0) ∨ ((ty &&& (2 : Int32)) = 0)) → zEv ((d - 1) - 1) 9 12 [.int ((0 : Int32) ||| tx), .int ty, .int 1, .int 2] [] (sI (sI (sI (sI (sI (sI (sI (sI (sI (sI (sI (sI S 145 n 1) 147 n (zbo ((bt 0 a) ∧ (bt 0 b)))) 148 n (zbo (((bt 1 a) ∧ (bt 0 b)) ∨ ((bt 0 a) ∧ (bt 1 b))))) 149 n (zbo ((bt 2 a) ∨ ((bt 0 a) ∧ (bt 2 b))))) 150 n (zbo ((bt 3 a) ∧ (bt 3 b)))) 151 n 1) 152 n (zbo ((bt 5 a) ∨ (bt 5 b)))) 153 n (zbo ((((bt 6 a) ∧ (bt 6 b)) ∨ ((bt 5 a) ∧ (bt 6 a))) ∨ ((bt 5 b) ∧ (bt 6 b))))) 154 n (zbo ((bt 7 a) ∧ (bt 7 b) ∧ (bt 5 a) ∧ (bt 5 b)))) 155 n (zbo ((bt 8 a) ∧ (bt 8 b)))) 156 n (zbo (bt 9 a))) 146 n ((0 : Int32) ||| tx)) pst109 := by
                                intro b115
                                refine zv_c1 ht111 rfl rfl (zv_c1 ht111 rfl rfl ?_)
                                refine zv_c1 (st' := [.int (((0 : Int32) ||| tx) &&& (2 : Int32))]) (S' := sI (sI (sI (sI (sI (sI (sI (sI (sI (sI (sI (sI S 145 n 1) 147 n (zbo ((bt 0 a) ∧ (bt 0 b)))) 148 n (zbo (((bt 1 a) ∧ (bt 0 b)) ∨ ((bt 0 a) ∧ (bt 1 b))))) 149 n (zbo ((bt 2 a) ∨ ((bt 0 a) ∧ (bt 2 b))))) 150 n (zbo ((bt 3 a) ∧ (bt 3 b)))) 151 n 1) 152 n (zbo ((bt 5 a) ∨ (bt 5 b)))) 153 n (zbo ((((bt 6 a) ∧ (bt 6 b)) ∨ ((bt 5 a) ∧ (bt 6 a))) ∨ ((bt 5 b) ∧ (bt 6 b))))) 154 n (zbo ((bt 7 a) ∧ (bt 7 b) ∧ (bt 5 a) ∧ (bt 5 b)))) 155 n (zbo ((bt 8 a) ∧ (bt 8 b)))) 156 n (zbo (bt 9 a))) 146 n ((0 : Int32) ||| tx)) ht111 rfl rfl ?_
                                have J118 : (((((0 : Int32) ||| tx) &&& (2 : Int32)) = 0) ∨ ((ty &&& (1 : Int32)) = 0)) → zEv ((d - 1) - 1) 9 28 [.retAddr 0, .retAddr 0, .retAddr 0, .retAddr 0] [] (sI (sI (sI (sI (sI (sI (sI (sI (sI (sI (sI (sI S 145 n 1) 147 n (zbo ((bt 0 a) ∧ (bt 0 b)))) 148 n (zbo (((bt 1 a) ∧ (bt 0 b)) ∨ ((bt 0 a) ∧ (bt 1 b))))) 149 n (zbo ((bt 2 a) ∨ ((bt 0 a) ∧ (bt 2 b))))) 150 n (zbo ((bt 3 a) ∧ (bt 3 b)))) 151 n 1) 152 n (zbo ((bt 5 a) ∨ (bt 5 b)))) 153 n (zbo ((((bt 6 a) ∧ (bt 6 b)) ∨ ((bt 5 a) ∧ (bt 6 a))) ∨ ((bt 5 b) ∧ (bt 6 b))))) 154 n (zbo ((bt 7 a) ∧ (bt 7 b) ∧ (bt 5 a) ∧ (bt 5 b)))) 155 n (zbo ((bt 8 a) ∧ (bt 8 b)))) 156 n (zbo (bt 9 a))) 146 n ((0 : Int32) ||| tx)) pst109 := by
                                  intro b119
                                  refine zv_c1 ht111 rfl rfl ?_
                                  exact (zv_sub (zz := zbo (((¬ ((((0 : Int32) ||| tx) &&& (1 : Int32)) = 0)) ∧ (¬ ((ty &&& (2 : Int32)) = 0))) ∨ ((¬ ((((0 : Int32) ||| tx) &&& (2 : Int32)) = 0)) ∧ (¬ ((ty &&& (1 : Int32)) = 0))))) (zy := 0) (p := fun zz => zEv ((d - 1) - 1) 9 29 [.retAddr 0, .retAddr 0, .retAddr 0, .retAddr 0] [.int zz] (sI (sI (sI (sI (sI (sI (sI (sI (sI (sI (sI (sI S 145 n 1) 147 n (zbo ((bt 0 a) ∧ (bt 0 b)))) 148 n (zbo (((bt 1 a) ∧ (bt 0 b)) ∨ ((bt 0 a) ∧ (bt 1 b))))) 149 n (zbo ((bt 2 a) ∨ ((bt 0 a) ∧ (bt 2 b))))) 150 n (zbo ((bt 3 a) ∧ (bt 3 b)))) 151 n 1) 152 n (zbo ((bt 5 a) ∨ (bt 5 b)))) 153 n (zbo ((((bt 6 a) ∧ (bt 6 b)) ∨ ((bt 5 a) ∧ (bt 6 a))) ∨ ((bt 5 b) ∧ (bt 6 b))))) 154 n (zbo ((bt 7 a) ∧ (bt 7 b) ∧ (bt 5 a) ∧ (bt 5 b)))) 155 n (zbo ((bt 8 a) ∧ (bt 8 b)))) 156 n (zbo (bt 9 a))) 146 n ((0 : Int32) ||| tx)) pst109) (zbo_neg (b115.elim (fun y1 => (b119.elim (fun y2 => (fun h => h.elim (fun h => (fun h => h y1) h.1) (fun h => (fun h => h y2) h.1))) (fun y2 => (fun h => h.elim (fun h => (fun h => h y1) h.1) (fun h => (fun h => h y2) h.2))))) (fun y1 => (b119.elim (fun y2 => (fun h => h.elim (fun h => (fun h => h y1) h.2) (fun h => (fun h => h y2) h.1))) (fun y2 => (fun h => h.elim (fun h => (fun h => h y1) h.2) (fun h => (fun h => h y2) h.2))))))) J122)
                                refine zv_br ht111 rfl rfl rfl (fun b116 => ?_) (fun b116 => ?_)
                                · exact zEv.wk (L := [.retAddr 0, .retAddr 0, .retAddr 0, .retAddr 0]) (L' := [.int ((0 : Int32) ||| tx), .int ty, .int 1, .int 2]) (And.intro (Or.inr rfl) (And.intro (Or.inr rfl) (And.intro (Or.inr rfl) (And.intro (Or.inr rfl) trivial)))) (J118 (Or.inl b116))
                                · refine zv_c1 ht111 rfl rfl (zv_c1 ht111 rfl rfl ?_)
                                  refine zv_c1 (st' := [.int (ty &&& (1 : Int32))]) (S' := sI (sI (sI (sI (sI (sI (sI (sI (sI (sI (sI (sI S 145 n 1) 147 n (zbo ((bt 0 a) ∧ (bt 0 b)))) 148 n (zbo (((bt 1 a) ∧ (bt 0 b)) ∨ ((bt 0 a) ∧ (bt 1 b))))) 149 n (zbo ((bt 2 a) ∨ ((bt 0 a) ∧ (bt 2 b))))) 150 n (zbo ((bt 3 a) ∧ (bt 3 b)))) 151 n 1) 152 n (zbo ((bt 5 a) ∨ (bt 5 b)))) 153 n (zbo ((((bt 6 a) ∧ (bt 6 b)) ∨ ((bt 5 a) ∧ (bt 6 a))) ∨ ((bt 5 b) ∧ (bt 6 b))))) 154 n (zbo ((bt 7 a) ∧ (bt 7 b) ∧ (bt 5 a) ∧ (bt 5 b)))) 155 n (zbo ((bt 8 a) ∧ (bt 8 b)))) 156 n (zbo (bt 9 a))) 146 n ((0 : Int32) ||| tx)) ht111 rfl rfl ?_
                                  refine zv_br ht111 rfl rfl rfl (fun b117 => ?_) (fun b117 => ?_)
                                  · exact zEv.wk (L := [.retAddr 0, .retAddr 0, .retAddr 0, .retAddr 0]) (L' := [.int ((0 : Int32) ||| tx), .int ty, .int 1, .int 2]) (And.intro (Or.inr rfl) (And.intro (Or.inr rfl) (And.intro (Or.inr rfl) (And.intro (Or.inr rfl) trivial)))) (J118 (Or.inr b117))
                                  · exact zEv.wk (L := [.retAddr 0, .retAddr 0, .retAddr 0, .retAddr 0]) (L' := [.int ((0 : Int32) ||| tx), .int ty, .int 1, .int 2]) (And.intro (Or.inr rfl) (And.intro (Or.inr rfl) (And.intro (Or.inr rfl) (And.intro (Or.inr rfl) trivial)))) (J120 (Or.inr ⟨b116, b117⟩))
                              refine zv_br ht111 rfl rfl rfl (fun b112 => ?_) (fun b112 => ?_)
                              · exact (J114 (Or.inl b112))
                              · refine zv_c1 ht111 rfl rfl (zv_c1 ht111 rfl rfl ?_)
                                refine zv_c1 (st' := [.int (ty &&& (2 : Int32))]) (S' := sI (sI (sI (sI (sI (sI (sI (sI (sI (sI (sI (sI S 145 n 1) 147 n (zbo ((bt 0 a) ∧ (bt 0 b)))) 148 n (zbo (((bt 1 a) ∧ (bt 0 b)) ∨ ((bt 0 a) ∧ (bt 1 b))))) 149 n (zbo ((bt 2 a) ∨ ((bt 0 a) ∧ (bt 2 b))))) 150 n (zbo ((bt 3 a) ∧ (bt 3 b)))) 151 n 1) 152 n (zbo ((bt 5 a) ∨ (bt 5 b)))) 153 n (zbo ((((bt 6 a) ∧ (bt 6 b)) ∨ ((bt 5 a) ∧ (bt 6 a))) ∨ ((bt 5 b) ∧ (bt 6 b))))) 154 n (zbo ((bt 7 a) ∧ (bt 7 b) ∧ (bt 5 a) ∧ (bt 5 b)))) 155 n (zbo ((bt 8 a) ∧ (bt 8 b)))) 156 n (zbo (bt 9 a))) 146 n ((0 : Int32) ||| tx)) ht111 rfl rfl ?_
                                refine zv_br ht111 rfl rfl rfl (fun b113 => ?_) (fun b113 => ?_)
                                · exact zEv.wk (L := [.retAddr 0, .retAddr 0, .retAddr 0, .retAddr 0]) (L' := [.int ((0 : Int32) ||| tx), .int ty, .int 1, .int 2]) (And.intro (Or.inr rfl) (And.intro (Or.inr rfl) (And.intro (Or.inr rfl) (And.intro (Or.inr rfl) trivial)))) (J120 (Or.inl ⟨b112, b113⟩))
                                · replace b113 : (ty &&& (2 : Int32)) = 0 := Classical.not_not.mp b113
                                  exact (J114 (Or.inr b113))
                            refine zv_cl ht107 rfl rfl rfl rfl (by omega) (Nat.le_of_ble_eq_true rfl) (C110 _ ?_)
                            show zEv (d - 1) 286 25 [.ref n, .ref y, .int 1] [.int (zbo (((¬ ((((0 : Int32) ||| tx) &&& (1 : Int32)) = 0)) ∧ (¬ ((ty &&& (2 : Int32)) = 0))) ∨ ((¬ ((((0 : Int32) ||| tx) &&& (2 : Int32)) = 0)) ∧ (¬ ((ty &&& (1 : Int32)) = 0))))), .ref n] (sI (sI (sI (sI (sI (sI (sI (sI (sI (sI (sI (sI S 145 n 1) 147 n (zbo ((bt 0 a) ∧ (bt 0 b)))) 148 n (zbo (((bt 1 a) ∧ (bt 0 b)) ∨ ((bt 0 a) ∧ (bt 1 b))))) 149 n (zbo ((bt 2 a) ∨ ((bt 0 a) ∧ (bt 2 b))))) 150 n (zbo ((bt 3 a) ∧ (bt 3 b)))) 151 n 1) 152 n (zbo ((bt 5 a) ∨ (bt 5 b)))) 153 n (zbo ((((bt 6 a) ∧ (bt 6 b)) ∨ ((bt 5 a) ∧ (bt 6 a))) ∨ ((bt 5 b) ∧ (bt 6 b))))) 154 n (zbo ((bt 7 a) ∧ (bt 7 b) ∧ (bt 5 a) ∧ (bt 5 b)))) 155 n (zbo ((bt 8 a) ∧ (bt 8 b)))) 156 n (zbo (bt 9 a))) 146 n ((0 : Int32) ||| tx)) pst105
                            refine zv_br ht107 rfl rfl rfl (fun b125 => ?_) (fun b125 => ?_)
                            · replace b125 : ((¬ ((((0 : Int32) ||| tx) &&& (1 : Int32)) = 0)) ∧ (¬ ((ty &&& (2 : Int32)) = 0))) ∨ ((¬ ((((0 : Int32) ||| tx) &&& (2 : Int32)) = 0)) ∧ (¬ ((ty &&& (1 : Int32)) = 0))) := Classical.byContradiction (fun h => b125 ((zbo_eq0 : (zbo (((¬ ((((0 : Int32) ||| tx) &&& (1 : Int32)) = 0)) ∧ (¬ ((ty &&& (2 : Int32)) = 0))) ∨ ((¬ ((((0 : Int32) ||| tx) &&& (2 : Int32)) = 0)) ∧ (¬ ((ty &&& (1 : Int32)) = 0))))) = 0 ↔ ¬ (((¬ ((((0 : Int32) ||| tx) &&& (1 : Int32)) = 0)) ∧ (¬ ((ty &&& (2 : Int32)) = 0))) ∨ ((¬ ((((0 : Int32) ||| tx) &&& (2 : Int32)) = 0)) ∧ (¬ ((ty &&& (1 : Int32)) = 0))))).mpr h))
                              exact zEv.wk (L := [.ref n, .ref y, .retAddr 0]) (L' := [.ref n, .ref y, .int 1]) (And.intro (Or.inl rfl) (And.intro (Or.inl rfl) (And.intro (Or.inr rfl) trivial))) (J143 (Or.inr (Or.inl b125)))
                            · replace b125 : ¬ (((¬ ((((0 : Int32) ||| tx) &&& (1 : Int32)) = 0)) ∧ (¬ ((ty &&& (2 : Int32)) = 0))) ∨ ((¬ ((((0 : Int32) ||| tx) &&& (2 : Int32)) = 0)) ∧ (¬ ((ty &&& (1 : Int32)) = 0)))) := (zbo_eq0 : (zbo (((¬ ((((0 : Int32) ||| tx) &&& (1 : Int32)) = 0)) ∧ (¬ ((ty &&& (2 : Int32)) = 0))) ∨ ((¬ ((((0 : Int32) ||| tx) &&& (2 : Int32)) = 0)) ∧ (¬ ((ty &&& (1 : Int32)) = 0))))) = 0 ↔ ¬ (((¬ ((((0 : Int32) ||| tx) &&& (1 : Int32)) = 0)) ∧ (¬ ((ty &&& (2 : Int32)) = 0))) ∨ ((¬ ((((0 : Int32) ||| tx) &&& (2 : Int32)) = 0)) ∧ (¬ ((ty &&& (1 : Int32)) = 0))))).mp (Classical.not_not.mp b125)
                              refine zv_c1 ht107 rfl rfl ?_
                              refine zv_ei (x := (0 : Int32) ||| tx) ht107 rfl rfl (zhas_of (htn) rfl) gI_sI_at ?_
                              refine zv_c1 ht107 rfl rfl ?_
                              refine zv_ei (x := ty) ht107 rfl rfl (zhas_nc hcy (by decide)) (Eq.trans (gI_sI_ne (by omega)) hty) ?_
                              refine zv_c1 ht107 rfl rfl (zv_c1 ht107 rfl rfl ?_)
                              have C127 : ∀ (pst126 : Outcome × zS → Prop), (pst126 (.returned (some (.int (zbo (((¬ ((((0 : Int32) ||| tx) &&& (4 : Int32)) = 0)) ∧ (¬ ((ty &&& (8 : Int32)) = 0))) ∨ ((¬ ((((0 : Int32) ||| tx) &&& (8 : Int32)) = 0)) ∧ (¬ ((ty &&& (4 : Int32)) = 0))))))), sI (sI (sI (sI (sI (sI (sI (sI (sI (sI (sI (sI S 145 n 1) 147 n (zbo ((bt 0 a) ∧ (bt 0 b)))) 148 n (zbo (((bt 1 a) ∧ (bt 0 b)) ∨ ((bt 0 a) ∧ (bt 1 b))))) 149 n (zbo ((bt 2 a) ∨ ((bt 0 a) ∧ (bt 2 b))))) 150 n (zbo ((bt 3 a) ∧ (bt 3 b)))) 151 n 1) 152 n (zbo ((bt 5 a) ∨ (bt 5 b)))) 153 n (zbo ((((bt 6 a) ∧ (bt 6 b)) ∨ ((bt 5 a) ∧ (bt 6 a))) ∨ ((bt 5 b) ∧ (bt 6 b))))) 154 n (zbo ((bt 7 a) ∧ (bt 7 b) ∧ (bt 5 a) ∧ (bt 5 b)))) 155 n (zbo ((bt 8 a) ∧ (bt 8 b)))) 156 n (zbo (bt 9 a))) 146 n ((0 : Int32) ||| tx))) → zCall ((d - 1) - 1) 9 [.int ((0 : Int32) ||| tx), .int ty, .int 4, .int 8] (sI (sI (sI (sI (sI (sI (sI (sI (sI (sI (sI (sI S 145 n 1) 147 n (zbo ((bt 0 a) ∧ (bt 0 b)))) 148 n (zbo (((bt 1 a) ∧ (bt 0 b)) ∨ ((bt 0 a) ∧ (bt 1 b))))) 149 n (zbo ((bt 2 a) ∨ ((bt 0 a) ∧ (bt 2 b))))) 150 n (zbo ((bt 3 a) ∧ (bt 3 b)))) 151 n 1) 152 n (zbo ((bt 5 a) ∨ (bt 5 b)))) 153 n (zbo ((((bt 6 a) ∧ (bt 6 b)) ∨ ((bt 5 a) ∧ (bt 6 a))) ∨ ((bt 5 b) ∧ (bt 6 b))))) 154 n (zbo ((bt 7 a) ∧ (bt 7 b) ∧ (bt 5 a) ∧ (bt 5 b)))) 155 n (zbo ((bt 8 a) ∧ (bt 8 b)))) 156 n (zbo (bt 9 a))) 146 n ((0 : Int32) ||| tx)) pst126 := by
                                intro pst126 k141
                                have ht128 : ztab 9 = ztb9 := rfl
                                show zEv ((d - 1) - 1) 9 0 [.int ((0 : Int32) ||| tx), .int ty, .int 4, .int 8] [] (sI (sI (sI (sI (sI (sI (sI (sI (sI (sI (sI (sI S 145 n 1) 147 n (zbo ((bt 0 a) ∧ (bt 0 b)))) 148 n (zbo (((bt 1 a) ∧ (bt 0 b)) ∨ ((bt 0 a) ∧ (bt 1 b))))) 149 n (zbo ((bt 2 a) ∨ ((bt 0 a) ∧ (bt 2 b))))) 150 n (zbo ((bt 3 a) ∧ (bt 3 b)))) 151 n 1) 152 n (zbo ((bt 5 a) ∨ (bt 5 b)))) 153 n (zbo ((((bt 6 a) ∧ (bt 6 b)) ∨ ((bt 5 a) ∧ (bt 6 a))) ∨ ((bt 5 b) ∧ (bt 6 b))))) 154 n (zbo ((bt 7 a) ∧ (bt 7 b) ∧ (bt 5 a) ∧ (bt 5 b)))) 155 n (zbo ((bt 8 a) ∧ (bt 8 b)))) 156 n (zbo (bt 9 a))) 146 n ((0 : Int32) ||| tx)) pst126
                                refine zv_c1 ht128 rfl rfl (zv_c1 ht128 rfl rfl ?_)
                                refine zv_c1 (st' := [.int (((0 : Int32) ||| tx) &&& (4 : Int32))]) (S' := sI (sI (sI (sI (sI (sI (sI (sI (sI (sI (sI (sI S 145 n 1) 147 n (zbo ((bt 0 a) ∧ (bt 0 b)))) 148 n (zbo (((bt 1 a) ∧ (bt 0 b)) ∨ ((bt 0 a) ∧ (bt 1 b))))) 149 n (zbo ((bt 2 a) ∨ ((bt 0 a) ∧ (bt 2 b))))) 150 n (zbo ((bt 3 a) ∧ (bt 3 b)))) 151 n 1) 152 n (zbo ((bt 5 a) ∨ (bt 5 b)))) 153 n (zbo ((((bt 6 a) ∧ (bt 6 b)) ∨ ((bt 5 a) ∧ (bt 6 a))) ∨ ((bt 5 b) ∧ (bt 6 b))))) 154 n (zbo ((bt 7 a) ∧ (bt 7 b) ∧ (bt 5 a) ∧ (bt 5 b)))) 155 n (zbo ((bt 8 a) ∧ (bt 8 b)))) 156 n (zbo (bt 9 a))) 146 n ((0 : Int32) ||| tx)) ht128 rfl rfl ?_
                                have J139 : zEv ((d - 1) - 1) 9 29 [.retAddr 0, .retAddr 0, .retAddr 0, .retAddr 0] [.int (zbo (((¬ ((((0 : Int32) ||| tx) &&& (4 : Int32)) = 0)) ∧ (¬ ((ty &&& (8 : Int32)) = 0))) ∨ ((¬ ((((0 : Int32) ||| tx) &&& (8 : Int32)) = 0)) ∧ (¬ ((ty &&& (4 : Int32)) = 0)))))] (sI (sI (sI (sI (sI (sI (sI (sI (sI (sI (sI (sI S 145 n 1) 147 n (zbo ((bt 0 a) ∧ (bt 0 b)))) 148 n (zbo (((bt 1 a) ∧ (bt 0 b)) ∨ ((bt 0 a) ∧ (bt 1 b))))) 149 n (zbo ((bt 2 a) ∨ ((bt 0 a) ∧ (bt 2 b))))) 150 n (zbo ((bt 3 a) ∧ (bt 3 b)))) 151 n 1) 152 n (zbo ((bt 5 a) ∨ (bt 5 b)))) 153 n (zbo ((((bt 6 a) ∧ (bt 6 b)) ∨ ((bt 5 a) ∧ (bt 6 a))) ∨ ((bt 5 b) ∧ (bt 6 b))))) 154 n (zbo ((bt 7 a) ∧ (bt 7 b) ∧ (bt 5 a) ∧ (bt 5 b)))) 155 n (zbo ((bt 8 a) ∧ (bt 8 b)))) 156 n (zbo (bt 9 a))) 146 n ((0 : Int32) ||| tx)) pst126 := by
                                  exact zv_rc ht128 rfl rfl rfl rfl zbo_rng k141
                                have J137 : (((¬ ((((0 : Int32) ||| tx) &&& (4 : Int32)) = 0)) ∧ (¬ ((ty &&& (8 : Int32)) = 0))) ∨ ((¬ ((((0 : Int32) ||| tx) &&& (8 : Int32)) = 0)) ∧ (¬ ((ty &&& (4 : Int32)) = 0)))) → zEv ((d - 1) - 1) 9 24 [.retAddr 0, .retAddr 0, .retAddr 0, .retAddr 0] [] (sI (sI (sI (sI (sI (sI (sI (sI (sI (sI (sI (sI S 145 n 1) 147 n (zbo ((bt 0 a) ∧ (bt 0 b)))) 148 n (zbo (((bt 1 a) ∧ (bt 0 b)) ∨ ((bt 0 a) ∧ (bt 1 b))))) 149 n (zbo ((bt 2 a) ∨ ((bt 0 a) ∧ (bt 2 b))))) 150 n (zbo ((bt 3 a) ∧ (bt 3 b)))) 151 n 1) 152 n (zbo ((bt 5 a) ∨ (bt 5 b)))) 153 n (zbo ((((bt 6 a) ∧ (bt 6 b)) ∨ ((bt 5 a) ∧ (bt 6 a))) ∨ ((bt 5 b) ∧ (bt 6 b))))) 154 n (zbo ((bt 7 a) ∧ (bt 7 b) ∧ (bt 5 a) ∧ (bt 5 b)))) 155 n (zbo ((bt 8 a) ∧ (bt 8 b)))) 156 n (zbo (bt 9 a))) 146 n ((0 : Int32) ||| tx)) pst126 := by
                                  intro b138
                                  refine zv_c1 ht128 rfl rfl (zv_c1 ht128 rfl rfl ?_)
                                  exact (zv_sub (zz := zbo (((¬ ((((0 : Int32) ||| tx) &&& (4 : Int32)) = 0)) ∧ (¬ ((ty &&& (8 : Int32)) = 0))) ∨ ((¬ ((((0 : Int32) ||| tx) &&& (8 : Int32)) = 0)) ∧ (¬ ((ty &&& (4 : Int32)) = 0))))) (zy := 1) (p := fun zz => zEv ((d - 1) - 1) 9 29 [.retAddr 0, .retAddr 0, .retAddr 0, .retAddr 0] [.int zz] (sI (sI (sI (sI (sI (sI (sI (sI (sI (sI (sI (sI S 145 n 1) 147 n (zbo ((bt 0 a) ∧ (bt 0 b)))) 148 n (zbo (((bt 1 a) ∧ (bt 0 b)) ∨ ((bt 0 a) ∧ (bt 1 b))))) 149 n (zbo ((bt 2 a) ∨ ((bt 0 a) ∧ (bt 2 b))))) 150 n (zbo ((bt 3 a) ∧ (bt 3 b)))) 151 n 1) 152 n (zbo ((bt 5 a) ∨ (bt 5 b)))) 153 n (zbo ((((bt 6 a) ∧ (bt 6 b)) ∨ ((bt 5 a) ∧ (bt 6 a))) ∨ ((bt 5 b) ∧ (bt 6 b))))) 154 n (zbo ((bt 7 a) ∧ (bt 7 b) ∧ (bt 5 a) ∧ (bt 5 b)))) 155 n (zbo ((bt 8 a) ∧ (bt 8 b)))) 156 n (zbo (bt 9 a))) 146 n ((0 : Int32) ||| tx)) pst126) (zbo_pos b138) J139)
                                have J131 : (((((0 : Int32) ||| tx) &&& (4 : Int32)) = 0) ∨ ((ty &&& (8 : Int32)) = 0)) → zEv ((d - 1) - 1) 9 12 [.int ((0 : Int32) ||| tx), .int ty, .int 4, .int 8] [] (sI (sI (sI (sI (sI (sI (sI (sI (sI (sI (sI (sI S 145 n 1) 147 n (zbo ((bt 0 a) ∧ (bt 0 b)))) 148 n (zbo (((bt 1 a) ∧ (bt 0 b)) ∨ ((bt 0 a) ∧ (bt 1 b))))) 149 n (zbo ((bt 2 a) ∨ ((bt 0 a) ∧ (bt 2 b))))) 150 n (zbo ((bt 3 a) ∧ (bt 3 b)))) 151 n 1) 152 n (zbo ((bt 5 a) ∨ (bt 5 b)))) 153 n (zbo ((((bt 6 a) ∧ (bt 6 b)) ∨ ((bt 5 a) ∧ (bt 6 a))) ∨ ((bt 5 b) ∧ (bt 6 b))))) 154 n (zbo ((bt 7 a) ∧ (bt 7 b) ∧ (bt 5 a) ∧ (bt 5 b)))) 155 n (zbo ((bt 8 a) ∧ (bt 8 b)))) 156 n (zbo (bt 9 a))) 146 n ((0 : Int32) ||| tx)) pst126 := by
                                  intro b132
                                  refine zv_c1 ht128 rfl rfl (zv_c1 ht128 rfl rfl ?_)
                                  refine zv_c1 (st' := [.int (((0 : Int32) ||| tx) &&& (8 : Int32))]) (S' := sI (sI (sI (sI (sI (sI (sI (sI (sI (sI (sI (sI S 145 n 1) 147 n (zbo ((bt 0 a) ∧ (bt 0 b)))) 148 n (zbo (((bt 1 a) ∧ (bt 0 b)) ∨ ((bt 0 a) ∧ (bt 1 b))))) 149 n (zbo ((bt 2 a) ∨ ((bt 0 a) ∧ (bt 2 b))))) 150 n (zbo ((bt 3 a) ∧ (bt 3 b)))) 151 n 1) 152 n (zbo ((bt 5 a) ∨ (bt 5 b)))) 153 n (zbo ((((bt 6 a) ∧ (bt 6 b)) ∨ ((bt 5 a) ∧ (bt 6 a))) ∨ ((bt 5 b) ∧ (bt 6 b))))) 154 n (zbo ((bt 7 a) ∧ (bt 7 b) ∧ (bt 5 a) ∧ (bt 5 b)))) 155 n (zbo ((bt 8 a) ∧ (bt 8 b)))) 156 n (zbo (bt 9 a))) 146 n ((0 : Int32) ||| tx)) ht128 rfl rfl ?_
                                  have J135 : (((((0 : Int32) ||| tx) &&& (8 : Int32)) = 0) ∨ ((ty &&& (4 : Int32)) = 0)) → zEv ((d - 1) - 1) 9 28 [.retAddr 0, .retAddr 0, .retAddr 0, .retAddr 0] [] (sI (sI (sI (sI (sI (sI (sI (sI (sI (sI (sI (sI S 145 n 1) 147 n (zbo ((bt 0 a) ∧ (bt 0 b)))) 148 n (zbo (((bt 1 a) ∧ (bt 0 b)) ∨ ((bt 0 a) ∧ (bt 1 b))))) 149 n (zbo ((bt 2 a) ∨ ((bt 0 a) ∧ (bt 2 b))))) 150 n (zbo ((bt 3 a) ∧ (bt 3 b)))) 151 n 1) 152 n (zbo ((bt 5 a) ∨ (bt 5 b)))) 153 n (zbo ((((bt 6 a) ∧ (bt 6 b)) ∨ ((bt 5 a) ∧ (bt 6 a))) ∨ ((bt 5 b) ∧ (bt 6 b))))) 154 n (zbo ((bt 7 a) ∧ (bt 7 b) ∧ (bt 5 a) ∧ (bt 5 b)))) 155 n (zbo ((bt 8 a) ∧ (bt 8 b)))) 156 n (zbo (bt 9 a))) 146 n ((0 : Int32) ||| tx)) pst126 := by
                                    intro b136
                                    refine zv_c1 ht128 rfl rfl ?_
                                    exact (zv_sub (zz := zbo (((¬ ((((0 : Int32) ||| tx) &&& (4 : Int32)) = 0)) ∧ (¬ ((ty &&& (8 : Int32)) = 0))) ∨ ((¬ ((((0 : Int32) ||| tx) &&& (8 : Int32)) = 0)) ∧ (¬ ((ty &&& (4 : Int32)) = 0))))) (zy := 0) (p := fun zz => zEv ((d - 1) - 1) 9 29 [.retAddr 0, .retAddr 0, .retAddr 0, .retAddr 0] [.int zz] (sI (sI (sI (sI (sI (sI (sI (sI (sI (sI (sI (sI S 145 n 1) 147 n (zbo ((bt 0 a) ∧ (bt 0 b)))) 148 n (zbo (((bt 1 a) ∧ (bt 0 b)) ∨ ((bt 0 a) ∧ (bt 1 b))))) 149 n (zbo ((bt 2 a) ∨ ((bt 0 a) ∧ (bt 2 b))))) 150 n (zbo ((bt 3 a) ∧ (bt 3 b)))) 151 n 1) 152 n (zbo ((bt 5 a) ∨ (bt 5 b)))) 153 n (zbo ((((bt 6 a) ∧ (bt 6 b)) ∨ ((bt 5 a) ∧ (bt 6 a))) ∨ ((bt 5 b) ∧ (bt 6 b))))) 154 n (zbo ((bt 7 a) ∧ (bt 7 b) ∧ (bt 5 a) ∧ (bt 5 b)))) 155 n (zbo ((bt 8 a) ∧ (bt 8 b)))) 156 n (zbo (bt 9 a))) 146 n ((0 : Int32) ||| tx)) pst126) (zbo_neg (b132.elim (fun y1 => (b136.elim (fun y2 => (fun h => h.elim (fun h => (fun h => h y1) h.1) (fun h => (fun h => h y2) h.1))) (fun y2 => (fun h => h.elim (fun h => (fun h => h y1) h.1) (fun h => (fun h => h y2) h.2))))) (fun y1 => (b136.elim (fun y2 => (fun h => h.elim (fun h => (fun h => h y1) h.2) (fun h => (fun h => h y2) h.1))) (fun y2 => (fun h => h.elim (fun h => (fun h => h y1) h.2) (fun h => (fun h => h y2) h.2))))))) J139)
                                  refine zv_br ht128 rfl rfl rfl (fun b133 => ?_) (fun b133 => ?_)
                                  · exact zEv.wk (L := [.retAddr 0, .retAddr 0, .retAddr 0, .retAddr 0]) (L' := [.int ((0 : Int32) ||| tx), .int ty, .int 4, .int 8]) (And.intro (Or.inr rfl) (And.intro (Or.inr rfl) (And.intro (Or.inr rfl) (And.intro (Or.inr rfl) trivial)))) (J135 (Or.inl b133))
                                  · refine zv_c1 ht128 rfl rfl (zv_c1 ht128 rfl rfl ?_)
                                    refine zv_c1 (st' := [.int (ty &&& (4 : Int32))]) (S' := sI (sI (sI (sI (sI (sI (sI (sI (sI (sI (sI (sI S 145 n 1) 147 n (zbo ((bt 0 a) ∧ (bt 0 b)))) 148 n (zbo (((bt 1 a) ∧ (bt 0 b)) ∨ ((bt 0 a) ∧ (bt 1 b))))) 149 n (zbo ((bt 2 a) ∨ ((bt 0 a) ∧ (bt 2 b))))) 150 n (zbo ((bt 3 a) ∧ (bt 3 b)))) 151 n 1) 152 n (zbo ((bt 5 a) ∨ (bt 5 b)))) 153 n (zbo ((((bt 6 a) ∧ (bt 6 b)) ∨ ((bt 5 a) ∧ (bt 6 a))) ∨ ((bt 5 b) ∧ (bt 6 b))))) 154 n (zbo ((bt 7 a) ∧ (bt 7 b) ∧ (bt 5 a) ∧ (bt 5 b)))) 155 n (zbo ((bt 8 a) ∧ (bt 8 b)))) 156 n (zbo (bt 9 a))) 146 n ((0 : Int32) ||| tx)) ht128 rfl rfl ?_
                                    refine zv_br ht128 rfl rfl rfl (fun b134 => ?_) (fun b134 => ?_)
                                    · exact zEv.wk (L := [.retAddr 0, .retAddr 0, .retAddr 0, .retAddr 0]) (L' := [.int ((0 : Int32) ||| tx), .int ty, .int 4, .int 8]) (And.intro (Or.inr rfl) (And.intro (Or.inr rfl) (And.intro (Or.inr rfl) (And.intro (Or.inr rfl) trivial)))) (J135 (Or.inr b134))
                                    · exact zEv.wk (L := [.retAddr 0, .retAddr 0, .retAddr 0, .retAddr 0]) (L' := [.int ((0 : Int32) ||| tx), .int ty, .int 4, .int 8]) (And.intro (Or.inr rfl) (And.intro (Or.inr rfl) (And.intro (Or.inr rfl) (And.intro (Or.inr rfl) trivial)))) (J137 (Or.inr ⟨b133, b134⟩))
                                refine zv_br ht128 rfl rfl rfl (fun b129 => ?_) (fun b129 => ?_)
                                · exact (J131 (Or.inl b129))
                                · refine zv_c1 ht128 rfl rfl (zv_c1 ht128 rfl rfl ?_)
                                  refine zv_c1 (st' := [.int (ty &&& (8 : Int32))]) (S' := sI (sI (sI (sI (sI (sI (sI (sI (sI (sI (sI (sI S 145 n 1) 147 n (zbo ((bt 0 a) ∧ (bt 0 b)))) 148 n (zbo (((bt 1 a) ∧ (bt 0 b)) ∨ ((bt 0 a) ∧ (bt 1 b))))) 149 n (zbo ((bt 2 a) ∨ ((bt 0 a) ∧ (bt 2 b))))) 150 n (zbo ((bt 3 a) ∧ (bt 3 b)))) 151 n 1) 152 n (zbo ((bt 5 a) ∨ (bt 5 b)))) 153 n (zbo ((((bt 6 a) ∧ (bt 6 b)) ∨ ((bt 5 a) ∧ (bt 6 a))) ∨ ((bt 5 b) ∧ (bt 6 b))))) 154 n (zbo ((bt 7 a) ∧ (bt 7 b) ∧ (bt 5 a) ∧ (bt 5 b)))) 155 n (zbo ((bt 8 a) ∧ (bt 8 b)))) 156 n (zbo (bt 9 a))) 146 n ((0 : Int32) ||| tx)) ht128 rfl rfl ?_
                                  refine zv_br ht128 rfl rfl rfl (fun b130 => ?_) (fun b130 => ?_)
                                  · exact zEv.wk (L := [.retAddr 0, .retAddr 0, .retAddr 0, .retAddr 0]) (L' := [.int ((0 : Int32) ||| tx), .int ty, .int 4, .int 8]) (And.intro (Or.inr rfl) (And.intro (Or.inr rfl) (And.intro (Or.inr rfl) (And.intro (Or.inr rfl) trivial)))) (J137 (Or.inl ⟨b129, b130⟩))
                                  · replace b130 : (ty &&& (8 : Int32)) = 0 := Classical.not_not.mp b130
                                    exact (J131 (Or.inr b130))
                              refine zv_cl ht107 rfl rfl rfl rfl (by omega) (Nat.le_of_ble_eq_true rfl) (C127 _ ?_)
                              show zEv (d - 1) 286 42 [.ref n, .ref y, .int 1] [.int (zbo (((¬ ((((0 : Int32) ||| tx) &&& (4 : Int32)) = 0)) ∧ (¬ ((ty &&& (8 : Int32)) = 0))) ∨ ((¬ ((((0 : Int32) ||| tx) &&& (8 : Int32)) = 0)) ∧ (¬ ((ty &&& (4 : Int32)) = 0))))), .ref n] (sI (sI (sI (sI (sI (sI (sI (sI (sI (sI (sI (sI S 145 n 1) 147 n (zbo ((bt 0 a) ∧ (bt 0 b)))) 148 n (zbo (((bt 1 a) ∧ (bt 0 b)) ∨ ((bt 0 a) ∧ (bt 1 b))))) 149 n (zbo ((bt 2 a) ∨ ((bt 0 a) ∧ (bt 2 b))))) 150 n (zbo ((bt 3 a) ∧ (bt 3 b)))) 151 n 1) 152 n (zbo ((bt 5 a) ∨ (bt 5 b)))) 153 n (zbo ((((bt 6 a) ∧ (bt 6 b)) ∨ ((bt 5 a) ∧ (bt 6 a))) ∨ ((bt 5 b) ∧ (bt 6 b))))) 154 n (zbo ((bt 7 a) ∧ (bt 7 b) ∧ (bt 5 a) ∧ (bt 5 b)))) 155 n (zbo ((bt 8 a) ∧ (bt 8 b)))) 156 n (zbo (bt 9 a))) 146 n ((0 : Int32) ||| tx)) pst105
                              refine zv_br ht107 rfl rfl rfl (fun b142 => ?_) (fun b142 => ?_)
                              · replace b142 : ¬ (((¬ ((((0 : Int32) ||| tx) &&& (4 : Int32)) = 0)) ∧ (¬ ((ty &&& (8 : Int32)) = 0))) ∨ ((¬ ((((0 : Int32) ||| tx) &&& (8 : Int32)) = 0)) ∧ (¬ ((ty &&& (4 : Int32)) = 0)))) := (zbo_eq0 : (zbo (((¬ ((((0 : Int32) ||| tx) &&& (4 : Int32)) = 0)) ∧ (¬ ((ty &&& (8 : Int32)) = 0))) ∨ ((¬ ((((0 : Int32) ||| tx) &&& (8 : Int32)) = 0)) ∧ (¬ ((ty &&& (4 : Int32)) = 0))))) = 0 ↔ ¬ (((¬ ((((0 : Int32) ||| tx) &&& (4 : Int32)) = 0)) ∧ (¬ ((ty &&& (8 : Int32)) = 0))) ∨ ((¬ ((((0 : Int32) ||| tx) &&& (8 : Int32)) = 0)) ∧ (¬ ((ty &&& (4 : Int32)) = 0))))).mp b142
                                refine zv_c1 ht107 rfl rfl ?_
                                exact zEv.wk (L := [.ref n, .ref y, .retAddr 0]) (L' := [.ref n, .ref y, .int 1]) (And.intro (Or.inl rfl) (And.intro (Or.inl rfl) (And.intro (Or.inr rfl) trivial))) (zv_sub (zz := zbo ((bt 9 a) ∨ (((¬ ((((0 : Int32) ||| tx) &&& (1 : Int32)) = 0)) ∧ (¬ ((ty &&& (2 : Int32)) = 0))) ∨ ((¬ ((((0 : Int32) ||| tx) &&& (2 : Int32)) = 0)) ∧ (¬ ((ty &&& (1 : Int32)) = 0)))) ∨ ((¬ ((((0 : Int32) ||| tx) &&& (4 : Int32)) = 0)) ∧ (¬ ((ty &&& (8 : Int32)) = 0))) ∨ ((¬ ((((0 : Int32) ||| tx) &&& (8 : Int32)) = 0)) ∧ (¬ ((ty &&& (4 : Int32)) = 0))))) (zy := 0) (p := fun zz => zEv (d - 1) 286 50 [.ref n, .ref y, .retAddr 0] [.int zz, .ref n] (sI (sI (sI (sI (sI (sI (sI (sI (sI (sI (sI (sI S 145 n 1) 147 n (zbo ((bt 0 a) ∧ (bt 0 b)))) 148 n (zbo (((bt 1 a) ∧ (bt 0 b)) ∨ ((bt 0 a) ∧ (bt 1 b))))) 149 n (zbo ((bt 2 a) ∨ ((bt 0 a) ∧ (bt 2 b))))) 150 n (zbo ((bt 3 a) ∧ (bt 3 b)))) 151 n 1) 152 n (zbo ((bt 5 a) ∨ (bt 5 b)))) 153 n (zbo ((((bt 6 a) ∧ (bt 6 b)) ∨ ((bt 5 a) ∧ (bt 6 a))) ∨ ((bt 5 b) ∧ (bt 6 b))))) 154 n (zbo ((bt 7 a) ∧ (bt 7 b) ∧ (bt 5 a) ∧ (bt 5 b)))) 155 n (zbo ((bt 8 a) ∧ (bt 8 b)))) 156 n (zbo (bt 9 a))) 146 n ((0 : Int32) ||| tx)) pst105) (zbo_neg (fun h => h.elim b108 (fun h => h.elim b125 b142))) J145)
                              · replace b142 : ((¬ ((((0 : Int32) ||| tx) &&& (4 : Int32)) = 0)) ∧ (¬ ((ty &&& (8 : Int32)) = 0))) ∨ ((¬ ((((0 : Int32) ||| tx) &&& (8 : Int32)) = 0)) ∧ (¬ ((ty &&& (4 : Int32)) = 0))) := Classical.byContradiction (fun h => b142 ((zbo_eq0 : (zbo (((¬ ((((0 : Int32) ||| tx) &&& (4 : Int32)) = 0)) ∧ (¬ ((ty &&& (8 : Int32)) = 0))) ∨ ((¬ ((((0 : Int32) ||| tx) &&& (8 : Int32)) = 0)) ∧ (¬ ((ty &&& (4 : Int32)) = 0))))) = 0 ↔ ¬ (((¬ ((((0 : Int32) ||| tx) &&& (4 : Int32)) = 0)) ∧ (¬ ((ty &&& (8 : Int32)) = 0))) ∨ ((¬ ((((0 : Int32) ||| tx) &&& (8 : Int32)) = 0)) ∧ (¬ ((ty &&& (4 : Int32)) = 0))))).mpr h))
                                exact zEv.wk (L := [.ref n, .ref y, .retAddr 0]) (L' := [.ref n, .ref y, .int 1]) (And.intro (Or.inl rfl) (And.intro (Or.inl rfl) (And.intro (Or.inr rfl) trivial))) (J143 (Or.inr (Or.inr b142)))
                        refine zv_cl ht rfl rfl rfl (zv_tgv (htn) rfl) (by omega) (Nat.le_of_ble_eq_true rfl) (C106 _ ?_)
                        show zEv d 371 836 [.ref n, .retAddr 0, .retAddr 0, .retAddr 0, .int (zbo ((bt 8 a) ∧ (bt 8 b))), .retAddr 0, .retAddr 0] [] (sI (sI (sI (sI (sI (sI (sI (sI (sI (sI (sI (sI (sI (sI (sI S 145 n 1) 147 n (zbo ((bt 0 a) ∧ (bt 0 b)))) 148 n (zbo (((bt 1 a) ∧ (bt 0 b)) ∨ ((bt 0 a) ∧ (bt 1 b))))) 149 n (zbo ((bt 2 a) ∨ ((bt 0 a) ∧ (bt 2 b))))) 150 n (zbo ((bt 3 a) ∧ (bt 3 b)))) 151 n 1) 152 n (zbo ((bt 5 a) ∨ (bt 5 b)))) 153 n (zbo ((((bt 6 a) ∧ (bt 6 b)) ∨ ((bt 5 a) ∧ (bt 6 a))) ∨ ((bt 5 b) ∧ (bt 6 b))))) 154 n (zbo ((bt 7 a) ∧ (bt 7 b) ∧ (bt 5 a) ∧ (bt 5 b)))) 155 n (zbo ((bt 8 a) ∧ (bt 8 b)))) 156 n (zbo (bt 9 a))) 146 n ((0 : Int32) ||| tx)) 156 n (zbo ((bt 9 a) ∨ (((¬ ((((0 : Int32) ||| tx) &&& (1 : Int32)) = 0)) ∧ (¬ ((ty &&& (2 : Int32)) = 0))) ∨ ((¬ ((((0 : Int32) ||| tx) &&& (2 : Int32)) = 0)) ∧ (¬ ((ty &&& (1 : Int32)) = 0)))) ∨ ((¬ ((((0 : Int32) ||| tx) &&& (4 : Int32)) = 0)) ∧ (¬ ((ty &&& (8 : Int32)) = 0))) ∨ ((¬ ((((0 : Int32) ||| tx) &&& (8 : Int32)) = 0)) ∧ (¬ ((ty &&& (4 : Int32)) = 0)))))) 156 n (zbo (((bt 9 a) ∨ (((¬ ((((0 : Int32) ||| tx) &&& (1 : Int32)) = 0)) ∧ (¬ ((ty &&& (2 : Int32)) = 0))) ∨ ((¬ ((((0 : Int32) ||| tx) &&& (2 : Int32)) = 0)) ∧ (¬ ((ty &&& (1 : Int32)) = 0)))) ∨ ((¬ ((((0 : Int32) ||| tx) &&& (4 : Int32)) = 0)) ∧ (¬ ((ty &&& (8 : Int32)) = 0))) ∨ ((¬ ((((0 : Int32) ||| tx) &&& (8 : Int32)) = 0)) ∧ (¬ ((ty &&& (4 : Int32)) = 0)))) ∨ (bt 9 b)))) 146 n (((0 : Int32) ||| tx) ||| ty)) post
                        exact zv_rt ht rfl rfl rfl rfl (h1 b11)
                      have J89 : ((¬ (bt 7 a)) ∨ (¬ (bt 7 b)) ∨ (¬ ((bt 5 a) ∧ (bt 5 b)))) → zEv d 371 470 [.ref n, .retAddr 0, .retAddr 0, .retAddr 0, .int (zbo ((bt 8 a) ∧ (bt 8 b))), .retAddr 0, .retAddr 0] [.int (zbo ((((bt 6 a) ∧ (bt 6 b)) ∨ ((bt 5 a) ∧ (bt 6 a))) ∨ ((bt 5 b) ∧ (bt 6 b)))), .int (zbo ((bt 5 a) ∨ (bt 5 b))), .ref n] (sI (sI (sI (sI (sI (sI S 145 n 1) 147 n (zbo ((bt 0 a) ∧ (bt 0 b)))) 148 n (zbo (((bt 1 a) ∧ (bt 0 b)) ∨ ((bt 0 a) ∧ (bt 1 b))))) 149 n (zbo ((bt 2 a) ∨ ((bt 0 a) ∧ (bt 2 b))))) 150 n (zbo ((bt 3 a) ∧ (bt 3 b)))) 151 n 1) post := by
                        intro b90
                        refine zv_c1 ht rfl rfl ?_
                        exact (zv_sub (zz := zbo ((bt 7 a) ∧ (bt 7 b) ∧ (bt 5 a) ∧ (bt 5 b))) (zy := 0) (p := fun zz => zEv d 371 471 [.ref n, .retAddr 0, .retAddr 0, .retAddr 0, .int (zbo ((bt 8 a) ∧ (bt 8 b))), .retAddr 0, .retAddr 0] [.int zz, .int (zbo ((((bt 6 a) ∧ (bt 6 b)) ∨ ((bt 5 a) ∧ (bt 6 a))) ∨ ((bt 5 b) ∧ (bt 6 b)))), .int (zbo ((bt 5 a) ∨ (bt 5 b))), .ref n] (sI (sI (sI (sI (sI (sI S 145 n 1) 147 n (zbo ((bt 0 a) ∧ (bt 0 b)))) 148 n (zbo (((bt 1 a) ∧ (bt 0 b)) ∨ ((bt 0 a) ∧ (bt 1 b))))) 149 n (zbo ((bt 2 a) ∨ ((bt 0 a) ∧ (bt 2 b))))) 150 n (zbo ((bt 3 a) ∧ (bt 3 b)))) 151 n 1) post) (zbo_neg (b90.elim (fun y1 => (fun h => y1 h.1)) (fun y1 => (y1.elim (fun y2 => (fun h => (fun h => y2 h.1) h.2)) (fun y2 => (fun h => (fun h => y2 h.2) h.2)))))) J91)
                      refine zv_br ht rfl rfl rfl (fun b86 => ?_) (fun b86 => ?_)
                      · replace b86 : ¬ (bt 7 a) := (zbo_eq0 : (zbo (bt 7 a)) = 0 ↔ ¬ (bt 7 a)).mp b86
                        exact zEv.wk (L := [.ref n, .retAddr 0, .retAddr 0, .retAddr 0, .int (zbo ((bt 8 a) ∧ (bt 8 b))), .retAddr 0, .retAddr 0]) (L' := [.ref n, .retAddr 0, .retAddr 0, .retAddr 0, .int (zbo ((bt 8 a) ∧ (bt 8 b))), .retAddr 0, .int (zbo ((bt 5 a) ∧ (bt 5 b)))]) (And.intro (Or.inl rfl) (And.intro (Or.inl rfl) (And.intro (Or.inl rfl) (And.intro (Or.inl rfl) (And.intro (Or.inl rfl) (And.intro (Or.inl rfl) (And.intro (Or.inr rfl) trivial))))))) (J89 (Or.inl b86))
                      · replace b86 : bt 7 a := Classical.byContradiction (fun h => b86 ((zbo_eq0 : (zbo (bt 7 a)) = 0 ↔ ¬ (bt 7 a)).mpr h))
                        refine zv_c1 ht rfl rfl ?_
                        refine zv_g3 (q := y) ht rfl hF rfl rfl (zhas_of (htn) rfl) hpy ?_
                        refine zv_ei (x := zbo (bt 7 b)) ht rfl rfl (zhas_nc hcy (by decide)) hey ?_
                        refine zv_br ht rfl rfl rfl (fun b87 => ?_) (fun b87 => ?_)
                        · replace b87 : ¬ (bt 7 b) := (zbo_eq0 : (zbo (bt 7 b)) = 0 ↔ ¬ (bt 7 b)).mp b87
                          exact zEv.wk (L := [.ref n, .retAddr 0, .retAddr 0, .retAddr 0, .int (zbo ((bt 8 a) ∧ (bt 8 b))), .retAddr 0, .retAddr 0]) (L' := [.ref n, .retAddr 0, .retAddr 0, .retAddr 0, .int (zbo ((bt 8 a) ∧ (bt 8 b))), .retAddr 0, .int (zbo ((bt 5 a) ∧ (bt 5 b)))]) (And.intro (Or.inl rfl) (And.intro (Or.inl rfl) (And.intro (Or.inl rfl) (And.intro (Or.inl rfl) (And.intro (Or.inl rfl) (And.intro (Or.inl rfl) (And.intro (Or.inr rfl) trivial))))))) (J89 (Or.inr (Or.inl b87)))
                        · replace b87 : bt 7 b := Classical.byContradiction (fun h => b87 ((zbo_eq0 : (zbo (bt 7 b)) = 0 ↔ ¬ (bt 7 b)).mpr h))
                          refine zv_c1 ht rfl rfl ?_
                          refine zv_br ht rfl rfl rfl (fun b88 => ?_) (fun b88 => ?_)
                          · replace b88 : ¬ ((bt 5 a) ∧ (bt 5 b)) := (zbo_eq0 : (zbo ((bt 5 a) ∧ (bt 5 b))) = 0 ↔ ¬ ((bt 5 a) ∧ (bt 5 b))).mp b88
                            exact zEv.wk (L := [.ref n, .retAddr 0, .retAddr 0, .retAddr 0, .int (zbo ((bt 8 a) ∧ (bt 8 b))), .retAddr 0, .retAddr 0]) (L' := [.ref n, .retAddr 0, .retAddr 0, .retAddr 0, .int (zbo ((bt 8 a) ∧ (bt 8 b))), .retAddr 0, .int (zbo ((bt 5 a) ∧ (bt 5 b)))]) (And.intro (Or.inl rfl) (And.intro (Or.inl rfl) (And.intro (Or.inl rfl) (And.intro (Or.inl rfl) (And.intro (Or.inl rfl) (And.intro (Or.inl rfl) (And.intro (Or.inr rfl) trivial))))))) (J89 (Or.inr (Or.inr b88)))
                          · replace b88 : (bt 5 a) ∧ (bt 5 b) := Classical.byContradiction (fun h => b88 ((zbo_eq0 : (zbo ((bt 5 a) ∧ (bt 5 b))) = 0 ↔ ¬ ((bt 5 a) ∧ (bt 5 b))).mpr h))
                            refine zv_c1 ht rfl rfl (zv_c1 ht rfl rfl ?_)
                            exact zEv.wk (L := [.ref n, .retAddr 0, .retAddr 0, .retAddr 0, .int (zbo ((bt 8 a) ∧ (bt 8 b))), .retAddr 0, .retAddr 0]) (L' := [.ref n, .retAddr 0, .retAddr 0, .retAddr 0, .int (zbo ((bt 8 a) ∧ (bt 8 b))), .retAddr 0, .int (zbo ((bt 5 a) ∧ (bt 5 b)))]) (And.intro (Or.inl rfl) (And.intro (Or.inl rfl) (And.intro (Or.inl rfl) (And.intro (Or.inl rfl) (And.intro (Or.inl rfl) (And.intro (Or.inl rfl) (And.intro (Or.inr rfl) trivial))))))) (zv_sub (zz := zbo ((bt 7 a) ∧ (bt 7 b) ∧ (bt 5 a) ∧ (bt 5 b))) (zy := 1) (p := fun zz => zEv d 371 471 [.ref n, .retAddr 0, .retAddr 0, .retAddr 0, .int (zbo ((bt 8 a) ∧ (bt 8 b))), .retAddr 0, .retAddr 0] [.int zz, .int (zbo ((((bt 6 a) ∧ (bt 6 b)) ∨ ((bt 5 a) ∧ (bt 6 a))) ∨ ((bt 5 b) ∧ (bt 6 b)))), .int (zbo ((bt 5 a) ∨ (bt 5 b))), .ref n] (sI (sI (sI (sI (sI (sI S 145 n 1) 147 n (zbo ((bt 0 a) ∧ (bt 0 b)))) 148 n (zbo (((bt 1 a) ∧ (bt 0 b)) ∨ ((bt 0 a) ∧ (bt 1 b))))) 149 n (zbo ((bt 2 a) ∨ ((bt 0 a) ∧ (bt 2 b))))) 150 n (zbo ((bt 3 a) ∧ (bt 3 b)))) 151 n 1) post) (zbo_pos ⟨b86, ⟨b87, b88⟩⟩) J91)
                    have J82 : ((((bt 6 a) ∧ (bt 6 b)) ∨ ((bt 5 a) ∧ (bt 6 a))) ∨ ((bt 5 b) ∧ (bt 6 b))) → zEv d 371 436 [.ref n, .retAddr 0, .retAddr 0, .retAddr 0, .int (zbo ((bt 8 a) ∧ (bt 8 b))), .retAddr 0, .int (zbo ((bt 5 a) ∧ (bt 5 b)))] [.int (zbo ((bt 5 a) ∨ (bt 5 b))), .ref n] (sI (sI (sI (sI (sI (sI S 145 n 1) 147 n (zbo ((bt 0 a) ∧ (bt 0 b)))) 148 n (zbo (((bt 1 a) ∧ (bt 0 b)) ∨ ((bt 0 a) ∧ (bt 1 b))))) 149 n (zbo ((bt 2 a) ∨ ((bt 0 a) ∧ (bt 2 b))))) 150 n (zbo ((bt 3 a) ∧ (bt 3 b)))) 151 n 1) post := by
                      intro b83
                      refine zv_c1 ht rfl rfl (zv_c1 ht rfl rfl ?_)
                      exact (zv_sub (zz := zbo ((((bt 6 a) ∧ (bt 6 b)) ∨ ((bt 5 a) ∧ (bt 6 a))) ∨ ((bt 5 b) ∧ (bt 6 b)))) (zy := 1) (p := fun zz => zEv d 371 441 [.ref n, .retAddr 0, .retAddr 0, .retAddr 0, .int (zbo ((bt 8 a) ∧ (bt 8 b))), .retAddr 0, .int (zbo ((bt 5 a) ∧ (bt 5 b)))] [.int zz, .int (zbo ((bt 5 a) ∨ (bt 5 b))), .ref n] (sI (sI (sI (sI (sI (sI S 145 n 1) 147 n (zbo ((bt 0 a) ∧ (bt 0 b)))) 148 n (zbo (((bt 1 a) ∧ (bt 0 b)) ∨ ((bt 0 a) ∧ (bt 1 b))))) 149 n (zbo ((bt 2 a) ∨ ((bt 0 a) ∧ (bt 2 b))))) 150 n (zbo ((bt 3 a) ∧ (bt 3 b)))) 151 n 1) post) (zbo_pos b83) J84)
                    have J72 : ((¬ (bt 6 a)) ∨ (¬ (bt 6 b))) → zEv d 371 396 [.ref n, .retAddr 0, .retAddr 0, .retAddr 0, .int (zbo ((bt 8 a) ∧ (bt 8 b))), .retAddr 0, .int (zbo ((bt 5 a) ∧ (bt 5 b)))] [.int (zbo ((bt 5 a) ∨ (bt 5 b))), .ref n] (sI (sI (sI (sI (sI (sI S 145 n 1) 147 n (zbo ((bt 0 a) ∧ (bt 0 b)))) 148 n (zbo (((bt 1 a) ∧ (bt 0 b)) ∨ ((bt 0 a) ∧ (bt 1 b))))) 149 n (zbo ((bt 2 a) ∨ ((bt 0 a) ∧ (bt 2 b))))) 150 n (zbo ((bt 3 a) ∧ (bt 3 b)))) 151 n 1) post := by
                      intro b73
                      refine zv_c1 ht rfl rfl ?_
                      refine zv_g3 (q := x) ht rfl hF rfl rfl (zhas_of (htn) rfl) hpx ?_
                      refine zv_ei (x := zbo (bt 5 a)) ht rfl rfl (zhas_nc hcx (by decide)) hsx ?_
                      have J76 : ((¬ (bt 5 a)) ∨ (¬ (bt 6 a))) → zEv d 371 416 [.ref n, .retAddr 0, .retAddr 0, .retAddr 0, .int (zbo ((bt 8 a) ∧ (bt 8 b))), .retAddr 0, .int (zbo ((bt 5 a) ∧ (bt 5 b)))] [.int (zbo ((bt 5 a) ∨ (bt 5 b))), .ref n] (sI (sI (sI (sI (sI (sI S 145 n 1) 147 n (zbo ((bt 0 a) ∧ (bt 0 b)))) 148 n (zbo (((bt 1 a) ∧ (bt 0 b)) ∨ ((bt 0 a) ∧ (bt 1 b))))) 149 n (zbo ((bt 2 a) ∨ ((bt 0 a) ∧ (bt 2 b))))) 150 n (zbo ((bt 3 a) ∧ (bt 3 b)))) 151 n 1) post := by
                        intro b77
                        refine zv_c1 ht rfl rfl ?_
                        refine zv_g3 (q := y) ht rfl hF rfl rfl (zhas_of (htn) rfl) hpy ?_
                        refine zv_ei (x := zbo (bt 5 b)) ht rfl rfl (zhas_nc hcy (by decide)) hsy ?_
                        have J80 : ((¬ (bt 5 b)) ∨ (¬ (bt 6 b))) → zEv d 371 440 [.ref n, .retAddr 0, .retAddr 0, .retAddr 0, .int (zbo ((bt 8 a) ∧ (bt 8 b))), .retAddr 0, .int (zbo ((bt 5 a) ∧ (bt 5 b)))] [.int (zbo ((bt 5 a) ∨ (bt 5 b))), .ref n] (sI (sI (sI (sI (sI (sI S 145 n 1) 147 n (zbo ((bt 0 a) ∧ (bt 0 b)))) 148 n (zbo (((bt 1 a) ∧ (bt 0 b)) ∨ ((bt 0 a) ∧ (bt 1 b))))) 149 n (zbo ((bt 2 a) ∨ ((bt 0 a) ∧ (bt 2 b))))) 150 n (zbo ((bt 3 a) ∧ (bt 3 b)))) 151 n 1) post := by
                          intro b81
                          refine zv_c1 ht rfl rfl ?_
                          exact (zv_sub (zz := zbo ((((bt 6 a) ∧ (bt 6 b)) ∨ ((bt 5 a) ∧ (bt 6 a))) ∨ ((bt 5 b) ∧ (bt 6 b)))) (zy := 0) (p := fun zz => zEv d 371 441 [.ref n, .retAddr 0, .retAddr 0, .retAddr 0, .int (zbo ((bt 8 a) ∧ (bt 8 b))), .retAddr 0, .int (zbo ((bt 5 a) ∧ (bt 5 b)))] [.int zz, .int (zbo ((bt 5 a) ∨ (bt 5 b))), .ref n] (sI (sI (sI (sI (sI (sI S 145 n 1) 147 n (zbo ((bt 0 a) ∧ (bt 0 b)))) 148 n (zbo (((bt 1 a) ∧ (bt 0 b)) ∨ ((bt 0 a) ∧ (bt 1 b))))) 149 n (zbo ((bt 2 a) ∨ ((bt 0 a) ∧ (bt 2 b))))) 150 n (zbo ((bt 3 a) ∧ (bt 3 b)))) 151 n 1) post) (zbo_neg (b73.elim (fun y1 => (b77.elim (fun y2 => (b81.elim (fun y3 => (fun h => h.elim (fun h => h.elim (fun h => y1 h.1) (fun h => y2 h.1)) (fun h => y3 h.1))) (fun y3 => (fun h => h.elim (fun h => h.elim (fun h => y1 h.1) (fun h => y2 h.1)) (fun h => y3 h.2))))) (fun y2 => (b81.elim (fun y3 => (fun h => h.elim (fun h => h.elim (fun h => y2 h.1) (fun h => y2 h.2)) (fun h => y3 h.1))) (fun y3 => (fun h => h.elim (fun h => h.elim (fun h => y2 h.1) (fun h => y2 h.2)) (fun h => y3 h.2))))))) (fun y1 => (b77.elim (fun y2 => (fun h => h.elim (fun h => h.elim (fun h => y1 h.2) (fun h => y2 h.1)) (fun h => y1 h.2))) (fun y2 => (fun h => h.elim (fun h => h.elim (fun h => y2 h.1) (fun h => y2 h.2)) (fun h => y1 h.2))))))) J84)
                        refine zv_br ht rfl rfl rfl (fun b78 => ?_) (fun b78 => ?_)
                        · replace b78 : ¬ (bt 5 b) := (zbo_eq0 : (zbo (bt 5 b)) = 0 ↔ ¬ (bt 5 b)).mp b78
                          exact (J80 (Or.inl b78))
                        · replace b78 : bt 5 b := Classical.byContradiction (fun h => b78 ((zbo_eq0 : (zbo (bt 5 b)) = 0 ↔ ¬ (bt 5 b)).mpr h))
                          refine zv_c1 ht rfl rfl ?_
                          refine zv_g3 (q := y) ht rfl hF rfl rfl (zhas_of (htn) rfl) hpy ?_
                          refine zv_ei (x := zbo (bt 6 b)) ht rfl rfl (zhas_nc hcy (by decide)) hfy ?_
                          refine zv_br ht rfl rfl rfl (fun b79 => ?_) (fun b79 => ?_)
                          · replace b79 : ¬ (bt 6 b) := (zbo_eq0 : (zbo (bt 6 b)) = 0 ↔ ¬ (bt 6 b)).mp b79
                            exact (J80 (Or.inr b79))
                          · replace b79 : bt 6 b := Classical.byContradiction (fun h => b79 ((zbo_eq0 : (zbo (bt 6 b)) = 0 ↔ ¬ (bt 6 b)).mpr h))
                            exact (J82 (Or.inr ⟨b78, b79⟩))
                      refine zv_br ht rfl rfl rfl (fun b74 => ?_) (fun b74 => ?_)
                      · replace b74 : ¬ (bt 5 a) := (zbo_eq0 : (zbo (bt 5 a)) = 0 ↔ ¬ (bt 5 a)).mp b74
                        exact (J76 (Or.inl b74))
                      · replace b74 : bt 5 a := Classical.byContradiction (fun h => b74 ((zbo_eq0 : (zbo (bt 5 a)) = 0 ↔ ¬ (bt 5 a)).mpr h))
                        refine zv_c1 ht rfl rfl ?_
                        refine zv_g3 (q := x) ht rfl hF rfl rfl (zhas_of (htn) rfl) hpx ?_
                        refine zv_ei (x := zbo (bt 6 a)) ht rfl rfl (zhas_nc hcx (by decide)) hfx ?_
                        refine zv_br ht rfl rfl rfl (fun b75 => ?_) (fun b75 => ?_)
                        · replace b75 : bt 6 a := Classical.byContradiction (fun h => b75 ((zbo_eq0 : (zbo (bt 6 a)) = 0 ↔ ¬ (bt 6 a)).mpr h))
                          exact (J82 (Or.inl (Or.inr ⟨b74, b75⟩)))
                        · replace b75 : ¬ (bt 6 a) := (zbo_eq0 : (zbo (bt 6 a)) = 0 ↔ ¬ (bt 6 a)).mp (Classical.not_not.mp b75)
                          exact (J76 (Or.inr b75))
                    refine zv_br ht rfl rfl rfl (fun b70 => ?_) (fun b70 => ?_)
                    · replace b70 : ¬ (bt 6 a) := (zbo_eq0 : (zbo (bt 6 a)) = 0 ↔ ¬ (bt 6 a)).mp b70
                      exact zEv.wk (L := [.ref n, .retAddr 0, .retAddr 0, .retAddr 0, .int (zbo ((bt 8 a) ∧ (bt 8 b))), .retAddr 0, .int (zbo ((bt 5 a) ∧ (bt 5 b)))]) (L' := [.ref n, .retAddr 0, .retAddr 0, .retAddr 0, .int (zbo ((bt 8 a) ∧ (bt 8 b))), .int (zbo ((bt 5 a) ∨ (bt 5 b))), .int (zbo ((bt 5 a) ∧ (bt 5 b)))]) (And.intro (Or.inl rfl) (And.intro (Or.inl rfl) (And.intro (Or.inl rfl) (And.intro (Or.inl rfl) (And.intro (Or.inl rfl) (And.intro (Or.inr rfl) (And.intro (Or.inl rfl) trivial))))))) (J72 (Or.inl b70))
                    · replace b70 : bt 6 a := Classical.byContradiction (fun h => b70 ((zbo_eq0 : (zbo (bt 6 a)) = 0 ↔ ¬ (bt 6 a)).mpr h))
                      refine zv_c1 ht rfl rfl ?_
                      refine zv_g3 (q := y) ht rfl hF rfl rfl (zhas_of (htn) rfl) hpy ?_
                      refine zv_ei (x := zbo (bt 6 b)) ht rfl rfl (zhas_nc hcy (by decide)) hfy ?_
                      refine zv_br ht rfl rfl rfl (fun b71 => ?_) (fun b71 => ?_)
                      · replace b71 : bt 6 b := Classical.byContradiction (fun h => b71 ((zbo_eq0 : (zbo (bt 6 b)) = 0 ↔ ¬ (bt 6 b)).mpr h))
                        exact zEv.wk (L := [.ref n, .retAddr 0, .retAddr 0, .retAddr 0, .int (zbo ((bt 8 a) ∧ (bt 8 b))), .retAddr 0, .int (zbo ((bt 5 a) ∧ (bt 5 b)))]) (L' := [.ref n, .retAddr 0, .retAddr 0, .retAddr 0, .int (zbo ((bt 8 a) ∧ (bt 8 b))), .int (zbo ((bt 5 a) ∨ (bt 5 b))), .int (zbo ((bt 5 a) ∧ (bt 5 b)))]) (And.intro (Or.inl rfl) (And.intro (Or.inl rfl) (And.intro (Or.inl rfl) (And.intro (Or.inl rfl) (And.intro (Or.inl rfl) (And.intro (Or.inr rfl) (And.intro (Or.inl rfl) trivial))))))) (J82 (Or.inl (Or.inl ⟨b70, b71⟩)))
                      · replace b71 : ¬ (bt 6 b) := (zbo_eq0 : (zbo (bt 6 b)) = 0 ↔ ¬ (bt 6 b)).mp (Classical.not_not.mp b71)
                        exact zEv.wk (L := [.ref n, .retAddr 0, .retAddr 0, .retAddr 0, .int (zbo ((bt 8 a) ∧ (bt 8 b))), .retAddr 0, .int (zbo ((bt 5 a) ∧ (bt 5 b)))]) (L' := [.ref n, .retAddr 0, .retAddr 0, .retAddr 0, .int (zbo ((bt 8 a) ∧ (bt 8 b))), .int (zbo ((bt 5 a) ∨ (bt 5 b))), .int (zbo ((bt 5 a) ∧ (bt 5 b)))]) (And.intro (Or.inl rfl) (And.intro (Or.inl rfl) (And.intro (Or.inl rfl) (And.intro (Or.inl rfl) (And.intro (Or.inl rfl) (And.intro (Or.inr rfl) (And.intro (Or.inl rfl) trivial))))))) (J72 (Or.inr b71))
                  have J62 : ((¬ (bt 3 a)) ∨ (¬ (bt 3 b))) → zEv d 371 368 [.ref n, .retAddr 0, .retAddr 0, .retAddr 0, .int (zbo ((bt 8 a) ∧ (bt 8 b))), .int (zbo ((bt 5 a) ∨ (bt 5 b))), .int (zbo ((bt 5 a) ∧ (bt 5 b)))] [.int (zbo ((bt 2 a) ∨ ((bt 0 a) ∧ (bt 2 b)))), .int (zbo (((bt 1 a) ∧ (bt 0 b)) ∨ ((bt 0 a) ∧ (bt 1 b)))), .int (zbo ((bt 0 a) ∧ (bt 0 b))), .int 1, .ref n] S post := by
                    intro b63
                    refine zv_c1 ht rfl rfl ?_
                    exact (zv_sub (zz := zbo ((bt 3 a) ∧ (bt 3 b))) (zy := 0) (p := fun zz => zEv d 371 369 [.ref n, .retAddr 0, .retAddr 0, .retAddr 0, .int (zbo ((bt 8 a) ∧ (bt 8 b))), .int (zbo ((bt 5 a) ∨ (bt 5 b))), .int (zbo ((bt 5 a) ∧ (bt 5 b)))] [.int zz, .int (zbo ((bt 2 a) ∨ ((bt 0 a) ∧ (bt 2 b)))), .int (zbo (((bt 1 a) ∧ (bt 0 b)) ∨ ((bt 0 a) ∧ (bt 1 b)))), .int (zbo ((bt 0 a) ∧ (bt 0 b))), .int 1, .ref n] S post) (zbo_neg (b63.elim (fun y1 => (fun h => y1 h.1)) (fun y1 => (fun h => y1 h.2)))) J64)
                  refine zv_br ht rfl rfl rfl (fun b60 => ?_) (fun b60 => ?_)
                  · replace b60 : ¬ (bt 3 a) := (zbo_eq0 : (zbo (bt 3 a)) = 0 ↔ ¬ (bt 3 a)).mp b60
                    exact (J62 (Or.inl b60))
                  · replace b60 : bt 3 a := Classical.byContradiction (fun h => b60 ((zbo_eq0 : (zbo (bt 3 a)) = 0 ↔ ¬ (bt 3 a)).mpr h))
                    refine zv_c1 ht rfl rfl ?_
                    refine zv_g3 (q := y) ht rfl hF rfl rfl (zhas_of (htn) rfl) hpy ?_
                    refine zv_ei (x := zbo (bt 3 b)) ht rfl rfl (zhas_nc hcy (by decide)) hdy ?_
                    refine zv_br ht rfl rfl rfl (fun b61 => ?_) (fun b61 => ?_)
                    · replace b61 : ¬ (bt 3 b) := (zbo_eq0 : (zbo (bt 3 b)) = 0 ↔ ¬ (bt 3 b)).mp b61
                      exact (J62 (Or.inr b61))
                    · replace b61 : bt 3 b := Classical.byContradiction (fun h => b61 ((zbo_eq0 : (zbo (bt 3 b)) = 0 ↔ ¬ (bt 3 b)).mpr h))
                      refine zv_c1 ht rfl rfl (zv_c1 ht rfl rfl ?_)
                      exact (zv_sub (zz := zbo ((bt 3 a) ∧ (bt 3 b))) (zy := 1) (p := fun zz => zEv d 371 369 [.ref n, .retAddr 0, .retAddr 0, .retAddr 0, .int (zbo ((bt 8 a) ∧ (bt 8 b))), .int (zbo ((bt 5 a) ∨ (bt 5 b))), .int (zbo ((bt 5 a) ∧ (bt 5 b)))] [.int zz, .int (zbo ((bt 2 a) ∨ ((bt 0 a) ∧ (bt 2 b)))), .int (zbo (((bt 1 a) ∧ (bt 0 b)) ∨ ((bt 0 a) ∧ (bt 1 b)))), .int (zbo ((bt 0 a) ∧ (bt 0 b))), .int 1, .ref n] S post) (zbo_pos ⟨b60, b61⟩) J64)
                have J56 : ((bt 2 a) ∨ ((bt 0 a) ∧ (bt 2 b))) → zEv d 371 339 [.ref n, .retAddr 0, .retAddr 0, .retAddr 0, .int (zbo ((bt 8 a) ∧ (bt 8 b))), .int (zbo ((bt 5 a) ∨ (bt 5 b))), .int (zbo ((bt 5 a) ∧ (bt 5 b)))] [.int (zbo (((bt 1 a) ∧ (bt 0 b)) ∨ ((bt 0 a) ∧ (bt 1 b)))), .int (zbo ((bt 0 a) ∧ (bt 0 b))), .int 1, .ref n] S post := by
                  intro b57
                  refine zv_c1 ht rfl rfl (zv_c1 ht rfl rfl ?_)
                  exact (zv_sub (zz := zbo ((bt 2 a) ∨ ((bt 0 a) ∧ (bt 2 b)))) (zy := 1) (p := fun zz => zEv d 371 344 [.ref n, .retAddr 0, .retAddr 0, .retAddr 0, .int (zbo ((bt 8 a) ∧ (bt 8 b))), .int (zbo ((bt 5 a) ∨ (bt 5 b))), .int (zbo ((bt 5 a) ∧ (bt 5 b)))] [.int zz, .int (zbo (((bt 1 a) ∧ (bt 0 b)) ∨ ((bt 0 a) ∧ (bt 1 b)))), .int (zbo ((bt 0 a) ∧ (bt 0 b))), .int 1, .ref n] S post) (zbo_pos b57) J58)
                refine zv_br ht rfl rfl rfl (fun b51 => ?_) (fun b51 => ?_)
                · replace b51 : bt 2 a := Classical.byContradiction (fun h => b51 ((zbo_eq0 : (zbo (bt 2 a)) = 0 ↔ ¬ (bt 2 a)).mpr h))
                  exact zEv.wk (L := [.ref n, .retAddr 0, .retAddr 0, .retAddr 0, .int (zbo ((bt 8 a) ∧ (bt 8 b))), .int (zbo ((bt 5 a) ∨ (bt 5 b))), .int (zbo ((bt 5 a) ∧ (bt 5 b)))]) (L' := [.ref n, .int (zbo ((bt 0 a) ∧ (bt 0 b))), .int (zbo ((bt 1 a) ∧ (bt 0 b))), .int (zbo (((bt 1 a) ∧ (bt 0 b)) ∨ ((bt 0 a) ∧ (bt 1 b)))), .int (zbo ((bt 8 a) ∧ (bt 8 b))), .int (zbo ((bt 5 a) ∨ (bt 5 b))), .int (zbo ((bt 5 a) ∧ (bt 5 b)))]) (And.intro (Or.inl rfl) (And.intro (Or.inr rfl) (And.intro (Or.inr rfl) (And.intro (Or.inr rfl) (And.intro (Or.inl rfl) (And.intro (Or.inl rfl) (And.intro (Or.inl rfl) trivial))))))) (J56 (Or.inl b51))
                · replace b51 : ¬ (bt 2 a) := (zbo_eq0 : (zbo (bt 2 a)) = 0 ↔ ¬ (bt 2 a)).mp (Classical.not_not.mp b51)
                  refine zv_c1 ht rfl rfl ?_
                  refine zv_g3 (q := x) ht rfl hF rfl rfl (zhas_of (htn) rfl) hpx ?_
                  refine zv_ei (x := zbo (bt 0 a)) ht rfl rfl (zhas_nc hcx (by decide)) hzx ?_
                  have J54 : ((¬ (bt 0 a)) ∨ (¬ (bt 2 b))) → zEv d 371 343 [.ref n, .retAddr 0, .retAddr 0, .retAddr 0, .int (zbo ((bt 8 a) ∧ (bt 8 b))), .int (zbo ((bt 5 a) ∨ (bt 5 b))), .int (zbo ((bt 5 a) ∧ (bt 5 b)))] [.int (zbo (((bt 1 a) ∧ (bt 0 b)) ∨ ((bt 0 a) ∧ (bt 1 b)))), .int (zbo ((bt 0 a) ∧ (bt 0 b))), .int 1, .ref n] S post := by
                    intro b55
                    refine zv_c1 ht rfl rfl ?_
                    exact (zv_sub (zz := zbo ((bt 2 a) ∨ ((bt 0 a) ∧ (bt 2 b)))) (zy := 0) (p := fun zz => zEv d 371 344 [.ref n, .retAddr 0, .retAddr 0, .retAddr 0, .int (zbo ((bt 8 a) ∧ (bt 8 b))), .int (zbo ((bt 5 a) ∨ (bt 5 b))), .int (zbo ((bt 5 a) ∧ (bt 5 b)))] [.int zz, .int (zbo (((bt 1 a) ∧ (bt 0 b)) ∨ ((bt 0 a) ∧ (bt 1 b)))), .int (zbo ((bt 0 a) ∧ (bt 0 b))), .int 1, .ref n] S post) (zbo_neg (b55.elim (fun y1 => (fun h => h.elim b51 (fun h => y1 h.1))) (fun y1 => (fun h => h.elim b51 (fun h => y1 h.2))))) J58)
                  refine zv_br ht rfl rfl rfl (fun b52 => ?_) (fun b52 => ?_)
                  · replace b52 : ¬ (bt 0 a) := (zbo_eq0 : (zbo (bt 0 a)) = 0 ↔ ¬ (bt 0 a)).mp b52
                    exact zEv.wk (L := [.ref n, .retAddr 0, .retAddr 0, .retAddr 0, .int (zbo ((bt 8 a) ∧ (bt 8 b))), .int (zbo ((bt 5 a) ∨ (bt 5 b))), .int (zbo ((bt 5 a) ∧ (bt 5 b)))]) (L' := [.ref n, .int (zbo ((bt 0 a) ∧ (bt 0 b))), .int (zbo ((bt 1 a) ∧ (bt 0 b))), .int (zbo (((bt 1 a) ∧ (bt 0 b)) ∨ ((bt 0 a) ∧ (bt 1 b)))), .int (zbo ((bt 8 a) ∧ (bt 8 b))), .int (zbo ((bt 5 a) ∨ (bt 5 b))), .int (zbo ((bt 5 a) ∧ (bt 5 b)))]) (And.intro (Or.inl rfl) (And.intro (Or.inr rfl) (And.intro (Or.inr rfl) (And.intro (Or.inr rfl) (And.intro (Or.inl rfl) (And.intro (Or.inl rfl) (And.intro (Or.inl rfl) trivial))))))) (J54 (Or.inl b52))
                  · replace b52 : bt 0 a := Classical.byContradiction (fun h => b52 ((zbo_eq0 : (zbo (bt 0 a)) = 0 ↔ ¬ (bt 0 a)).mpr h))
                    refine zv_c1 ht rfl rfl ?_
                    refine zv_g3 (q := y) ht rfl hF rfl rfl (zhas_of (htn) rfl) hpy ?_
                    refine zv_ei (x := zbo (bt 2 b)) ht rfl rfl (zhas_nc hcy (by decide)) hny ?_
                    refine zv_br ht rfl rfl rfl (fun b53 => ?_) (fun b53 => ?_)
                    · replace b53 : ¬ (bt 2 b) := (zbo_eq0 : (zbo (bt 2 b)) = 0 ↔ ¬ (bt 2 b)).mp b53
                      exact zEv.wk (L := [.ref n, .retAddr 0, .retAddr 0, .retAddr 0, .int (zbo ((bt 8 a) ∧ (bt 8 b))), .int (zbo ((bt 5 a) ∨ (bt 5 b))), .int (zbo ((bt 5 a) ∧ (bt 5 b)))]) (L' := [.ref n, .int (zbo ((bt 0 a) ∧ (bt 0 b))), .int (zbo ((bt 1 a) ∧ (bt 0 b))), .int (zbo (((bt 1 a) ∧ (bt 0 b)) ∨ ((bt 0 a) ∧ (bt 1 b)))), .int (zbo ((bt 8 a) ∧ (bt 8 b))), .int (zbo ((bt 5 a) ∨ (bt 5 b))), .int (zbo ((bt 5 a) ∧ (bt 5 b)))]) (And.intro (Or.inl rfl) (And.intro (Or.inr rfl) (And.intro (Or.inr rfl) (And.intro (Or.inr rfl) (And.intro (Or.inl rfl) (And.intro (Or.inl rfl) (And.intro (Or.inl rfl) trivial))))))) (J54 (Or.inr b53))
                    · replace b53 : bt 2 b := Classical.byContradiction (fun h => b53 ((zbo_eq0 : (zbo (bt 2 b)) = 0 ↔ ¬ (bt 2 b)).mpr h))
                      exact zEv.wk (L := [.ref n, .retAddr 0, .retAddr 0, .retAddr 0, .int (zbo ((bt 8 a) ∧ (bt 8 b))), .int (zbo ((bt 5 a) ∨ (bt 5 b))), .int (zbo ((bt 5 a) ∧ (bt 5 b)))]) (L' := [.ref n, .int (zbo ((bt 0 a) ∧ (bt 0 b))), .int (zbo ((bt 1 a) ∧ (bt 0 b))), .int (zbo (((bt 1 a) ∧ (bt 0 b)) ∨ ((bt 0 a) ∧ (bt 1 b)))), .int (zbo ((bt 8 a) ∧ (bt 8 b))), .int (zbo ((bt 5 a) ∨ (bt 5 b))), .int (zbo ((bt 5 a) ∧ (bt 5 b)))]) (And.intro (Or.inl rfl) (And.intro (Or.inr rfl) (And.intro (Or.inr rfl) (And.intro (Or.inr rfl) (And.intro (Or.inl rfl) (And.intro (Or.inl rfl) (And.intro (Or.inl rfl) trivial))))))) (J56 (Or.inr ⟨b52, b53⟩))
              have J47 : ((¬ (bt 5 a)) ∨ (¬ (bt 5 b))) → zEv d 371 172 [.ref n, .int (zbo ((bt 0 a) ∧ (bt 0 b))), .int (zbo ((bt 1 a) ∧ (bt 0 b))), .int (zbo (((bt 1 a) ∧ (bt 0 b)) ∨ ((bt 0 a) ∧ (bt 1 b)))), .int (zbo ((bt 8 a) ∧ (bt 8 b))), .int (zbo ((bt 5 a) ∨ (bt 5 b))), .retAddr 0] [] S post := by
                intro b48
                refine zv_c1 ht rfl rfl ?_
                exact (zv_sub (zz := zbo ((bt 5 a) ∧ (bt 5 b))) (zy := 0) (p := fun zz => zEv d 371 173 [.ref n, .int (zbo ((bt 0 a) ∧ (bt 0 b))), .int (zbo ((bt 1 a) ∧ (bt 0 b))), .int (zbo (((bt 1 a) ∧ (bt 0 b)) ∨ ((bt 0 a) ∧ (bt 1 b)))), .int (zbo ((bt 8 a) ∧ (bt 8 b))), .int (zbo ((bt 5 a) ∨ (bt 5 b))), .retAddr 0] [.int zz] S post) (zbo_neg (b48.elim (fun y1 => (fun h => y1 h.1)) (fun y1 => (fun h => y1 h.2)))) J49)
              refine zv_br ht rfl rfl rfl (fun b45 => ?_) (fun b45 => ?_)
              · replace b45 : ¬ (bt 5 a) := (zbo_eq0 : (zbo (bt 5 a)) = 0 ↔ ¬ (bt 5 a)).mp b45
                exact (J47 (Or.inl b45))
              · replace b45 : bt 5 a := Classical.byContradiction (fun h => b45 ((zbo_eq0 : (zbo (bt 5 a)) = 0 ↔ ¬ (bt 5 a)).mpr h))
                refine zv_c1 ht rfl rfl ?_
                refine zv_g3 (q := y) ht rfl hF rfl rfl (zhas_of (htn) rfl) hpy ?_
                refine zv_ei (x := zbo (bt 5 b)) ht rfl rfl (zhas_nc hcy (by decide)) hsy ?_
                refine zv_br ht rfl rfl rfl (fun b46 => ?_) (fun b46 => ?_)
                · replace b46 : ¬ (bt 5 b) := (zbo_eq0 : (zbo (bt 5 b)) = 0 ↔ ¬ (bt 5 b)).mp b46
                  exact (J47 (Or.inr b46))
                · replace b46 : bt 5 b := Classical.byContradiction (fun h => b46 ((zbo_eq0 : (zbo (bt 5 b)) = 0 ↔ ¬ (bt 5 b)).mpr h))
                  refine zv_c1 ht rfl rfl (zv_c1 ht rfl rfl ?_)
                  exact (zv_sub (zz := zbo ((bt 5 a) ∧ (bt 5 b))) (zy := 1) (p := fun zz => zEv d 371 173 [.ref n, .int (zbo ((bt 0 a) ∧ (bt 0 b))), .int (zbo ((bt 1 a) ∧ (bt 0 b))), .int (zbo (((bt 1 a) ∧ (bt 0 b)) ∨ ((bt 0 a) ∧ (bt 1 b)))), .int (zbo ((bt 8 a) ∧ (bt 8 b))), .int (zbo ((bt 5 a) ∨ (bt 5 b))), .retAddr 0] [.int zz] S post) (zbo_pos ⟨b45, b46⟩) J49)
            have J41 : ((bt 5 a) ∨ (bt 5 b)) → zEv d 371 141 [.ref n, .int (zbo ((bt 0 a) ∧ (bt 0 b))), .int (zbo ((bt 1 a) ∧ (bt 0 b))), .int (zbo (((bt 1 a) ∧ (bt 0 b)) ∨ ((bt 0 a) ∧ (bt 1 b)))), .int (zbo ((bt 8 a) ∧ (bt 8 b))), .retAddr 0, .retAddr 0] [] S post := by
              intro b42
              refine zv_c1 ht rfl rfl (zv_c1 ht rfl rfl ?_)
              exact (zv_sub (zz := zbo ((bt 5 a) ∨ (bt 5 b))) (zy := 1) (p := fun zz => zEv d 371 146 [.ref n, .int (zbo ((bt 0 a) ∧ (bt 0 b))), .int (zbo ((bt 1 a) ∧ (bt 0 b))), .int (zbo (((bt 1 a) ∧ (bt 0 b)) ∨ ((bt 0 a) ∧ (bt 1 b)))), .int (zbo ((bt 8 a) ∧ (bt 8 b))), .retAddr 0, .retAddr 0] [.int zz] S post) (zbo_pos b42) J43)
            refine zv_br ht rfl rfl rfl (fun b39 => ?_) (fun b39 => ?_)
            · replace b39 : bt 5 a := Classical.byContradiction (fun h => b39 ((zbo_eq0 : (zbo (bt 5 a)) = 0 ↔ ¬ (bt 5 a)).mpr h))
              exact (J41 (Or.inl b39))
            · replace b39 : ¬ (bt 5 a) := (zbo_eq0 : (zbo (bt 5 a)) = 0 ↔ ¬ (bt 5 a)).mp (Classical.not_not.mp b39)
              refine zv_c1 ht rfl rfl ?_
              refine zv_g3 (q := y) ht rfl hF rfl rfl (zhas_of (htn) rfl) hpy ?_
              refine zv_ei (x := zbo (bt 5 b)) ht rfl rfl (zhas_nc hcy (by decide)) hsy ?_
              refine zv_br ht rfl rfl rfl (fun b40 => ?_) (fun b40 => ?_)
              · replace b40 : ¬ (bt 5 b) := (zbo_eq0 : (zbo (bt 5 b)) = 0 ↔ ¬ (bt 5 b)).mp b40
                refine zv_c1 ht rfl rfl ?_
                exact (zv_sub (zz := zbo ((bt 5 a) ∨ (bt 5 b))) (zy := 0) (p := fun zz => zEv d 371 146 [.ref n, .int (zbo ((bt 0 a) ∧ (bt 0 b))), .int (zbo ((bt 1 a) ∧ (bt 0 b))), .int (zbo (((bt 1 a) ∧ (bt 0 b)) ∨ ((bt 0 a) ∧ (bt 1 b)))), .int (zbo ((bt 8 a) ∧ (bt 8 b))), .retAddr 0, .retAddr 0] [.int zz] S post) (zbo_neg (fun h => h.elim b39 b40)) J43)
              · replace b40 : bt 5 b := Classical.byContradiction (fun h => b40 ((zbo_eq0 : (zbo (bt 5 b)) = 0 ↔ ¬ (bt 5 b)).mpr h))
                exact (J41 (Or.inr b40))
          have J35 : ((¬ (bt 8 a)) ∨ (¬ (bt 8 b))) → zEv d 371 118 [.ref n, .int (zbo ((bt 0 a) ∧ (bt 0 b))), .int (zbo ((bt 1 a) ∧ (bt 0 b))), .int (zbo (((bt 1 a) ∧ (bt 0 b)) ∨ ((bt 0 a) ∧ (bt 1 b)))), .retAddr 0, .retAddr 0, .retAddr 0] [] S post := by
            intro b36
            refine zv_c1 ht rfl rfl ?_
            exact (zv_sub (zz := zbo ((bt 8 a) ∧ (bt 8 b))) (zy := 0) (p := fun zz => zEv d 371 119 [.ref n, .int (zbo ((bt 0 a) ∧ (bt 0 b))), .int (zbo ((bt 1 a) ∧ (bt 0 b))), .int (zbo (((bt 1 a) ∧ (bt 0 b)) ∨ ((bt 0 a) ∧ (bt 1 b)))), .retAddr 0, .retAddr 0, .retAddr 0] [.int zz] S post) (zbo_neg (b36.elim (fun y1 => (fun h => y1 h.1)) (fun y1 => (fun h => y1 h.2)))) J37)
          refine zv_br ht rfl rfl rfl (fun b33 => ?_) (fun b33 => ?_)
          · replace b33 : ¬ (bt 8 a) := (zbo_eq0 : (zbo (bt 8 a)) = 0 ↔ ¬ (bt 8 a)).mp b33
            exact (J35 (Or.inl b33))
          · replace b33 : bt 8 a := Classical.byContradiction (fun h => b33 ((zbo_eq0 : (zbo (bt 8 a)) = 0 ↔ ¬ (bt 8 a)).mpr h))
            refine zv_c1 ht rfl rfl ?_
            refine zv_g3 (q := y) ht rfl hF rfl rfl (zhas_of (htn) rfl) hpy ?_
            refine zv_ei (x := zbo (bt 8 b)) ht rfl rfl (zhas_nc hcy (by decide)) hmy ?_
            refine zv_br ht rfl rfl rfl (fun b34 => ?_) (fun b34 => ?_)
            · replace b34 : ¬ (bt 8 b) := (zbo_eq0 : (zbo (bt 8 b)) = 0 ↔ ¬ (bt 8 b)).mp b34
              exact (J35 (Or.inr b34))
            · replace b34 : bt 8 b := Classical.byContradiction (fun h => b34 ((zbo_eq0 : (zbo (bt 8 b)) = 0 ↔ ¬ (bt 8 b)).mpr h))
              refine zv_c1 ht rfl rfl (zv_c1 ht rfl rfl ?_)
              exact (zv_sub (zz := zbo ((bt 8 a) ∧ (bt 8 b))) (zy := 1) (p := fun zz => zEv d 371 119 [.ref n, .int (zbo ((bt 0 a) ∧ (bt 0 b))), .int (zbo ((bt 1 a) ∧ (bt 0 b))), .int (zbo (((bt 1 a) ∧ (bt 0 b)) ∨ ((bt 0 a) ∧ (bt 1 b)))), .retAddr 0, .retAddr 0, .retAddr 0] [.int zz] S post) (zbo_pos ⟨b33, b34⟩) J37)
        have J29 : (((bt 1 a) ∧ (bt 0 b)) ∨ ((bt 0 a) ∧ (bt 1 b))) → zEv d 371 88 [.ref n, .int (zbo ((bt 0 a) ∧ (bt 0 b))), .int (zbo ((bt 1 a) ∧ (bt 0 b))), .retAddr 0, .retAddr 0, .retAddr 0, .retAddr 0] [] S post := by
          intro b30
          refine zv_c1 ht rfl rfl (zv_c1 ht rfl rfl ?_)
          exact (zv_sub (zz := zbo (((bt 1 a) ∧ (bt 0 b)) ∨ ((bt 0 a) ∧ (bt 1 b)))) (zy := 1) (p := fun zz => zEv d 371 93 [.ref n, .int (zbo ((bt 0 a) ∧ (bt 0 b))), .int (zbo ((bt 1 a) ∧ (bt 0 b))), .retAddr 0, .retAddr 0, .retAddr 0, .retAddr 0] [.int zz] S post) (zbo_pos b30) J31)
        refine zv_br ht rfl rfl rfl (fun b24 => ?_) (fun b24 => ?_)
        · replace b24 : (bt 1 a) ∧ (bt 0 b) := Classical.byContradiction (fun h => b24 ((zbo_eq0 : (zbo ((bt 1 a) ∧ (bt 0 b))) = 0 ↔ ¬ ((bt 1 a) ∧ (bt 0 b))).mpr h))
          exact (J29 (Or.inl b24))
        · replace b24 : ¬ ((bt 1 a) ∧ (bt 0 b)) := (zbo_eq0 : (zbo ((bt 1 a) ∧ (bt 0 b))) = 0 ↔ ¬ ((bt 1 a) ∧ (bt 0 b))).mp (Classical.not_not.mp b24)
          refine zv_c1 ht rfl rfl ?_
          refine zv_g3 (q := x) ht rfl hF rfl rfl (zhas_of (htn) rfl) hpx ?_
          refine zv_ei (x := zbo (bt 0 a)) ht rfl rfl (zhas_nc hcx (by decide)) hzx ?_
          have J27 : ((¬ (bt 0 a)) ∨ (¬ (bt 1 b))) → zEv d 371 92 [.ref n, .int (zbo ((bt 0 a) ∧ (bt 0 b))), .int (zbo ((bt 1 a) ∧ (bt 0 b))), .retAddr 0, .retAddr 0, .retAddr 0, .retAddr 0] [] S post := by
            intro b28
            refine zv_c1 ht rfl rfl ?_
            exact (zv_sub (zz := zbo (((bt 1 a) ∧ (bt 0 b)) ∨ ((bt 0 a) ∧ (bt 1 b)))) (zy := 0) (p := fun zz => zEv d 371 93 [.ref n, .int (zbo ((bt 0 a) ∧ (bt 0 b))), .int (zbo ((bt 1 a) ∧ (bt 0 b))), .retAddr 0, .retAddr 0, .retAddr 0, .retAddr 0] [.int zz] S post) (zbo_neg (b28.elim (fun y1 => (fun h => h.elim b24 (fun h => y1 h.1))) (fun y1 => (fun h => h.elim b24 (fun h => y1 h.2))))) J31)
          refine zv_br ht rfl rfl rfl (fun b25 => ?_) (fun b25 => ?_)
          · replace b25 : ¬ (bt 0 a) := (zbo_eq0 : (zbo (bt 0 a)) = 0 ↔ ¬ (bt 0 a)).mp b25
            exact (J27 (Or.inl b25))
          · replace b25 : bt 0 a := Classical.byContradiction (fun h => b25 ((zbo_eq0 : (zbo (bt 0 a)) = 0 ↔ ¬ (bt 0 a)).mpr h))
            refine zv_c1 ht rfl rfl ?_
            refine zv_g3 (q := y) ht rfl hF rfl rfl (zhas_of (htn) rfl) hpy ?_
            refine zv_ei (x := zbo (bt 1 b)) ht rfl rfl (zhas_nc hcy (by decide)) hoy ?_
            refine zv_br ht rfl rfl rfl (fun b26 => ?_) (fun b26 => ?_)
            · replace b26 : ¬ (bt 1 b) := (zbo_eq0 : (zbo (bt 1 b)) = 0 ↔ ¬ (bt 1 b)).mp b26
              exact (J27 (Or.inr b26))
            · replace b26 : bt 1 b := Classical.byContradiction (fun h => b26 ((zbo_eq0 : (zbo (bt 1 b)) = 0 ↔ ¬ (bt 1 b)).mpr h))
              exact (J29 (Or.inr ⟨b25, b26⟩))
      have J20 : ((¬ (bt 1 a)) ∨ (¬ (bt 0 b))) → zEv d 371 62 [.ref n, .int (zbo ((bt 0 a) ∧ (bt 0 b))), .retAddr 0, .retAddr 0, .retAddr 0, .retAddr 0, .retAddr 0] [] S post := by
        intro b21
        refine zv_c1 ht rfl rfl ?_
        exact (zv_sub (zz := zbo ((bt 1 a) ∧ (bt 0 b))) (zy := 0) (p := fun zz => zEv d 371 63 [.ref n, .int (zbo ((bt 0 a) ∧ (bt 0 b))), .retAddr 0, .retAddr 0, .retAddr 0, .retAddr 0, .retAddr 0] [.int zz] S post) (zbo_neg (b21.elim (fun y1 => (fun h => y1 h.1)) (fun y1 => (fun h => y1 h.2)))) J22)
      refine zv_br ht rfl rfl rfl (fun b18 => ?_) (fun b18 => ?_)
      · replace b18 : ¬ (bt 1 a) := (zbo_eq0 : (zbo (bt 1 a)) = 0 ↔ ¬ (bt 1 a)).mp b18
        exact (J20 (Or.inl b18))
      · replace b18 : bt 1 a := Classical.byContradiction (fun h => b18 ((zbo_eq0 : (zbo (bt 1 a)) = 0 ↔ ¬ (bt 1 a)).mpr h))
        refine zv_c1 ht rfl rfl ?_
        refine zv_g3 (q := y) ht rfl hF rfl rfl (zhas_of (htn) rfl) hpy ?_
        refine zv_ei (x := zbo (bt 0 b)) ht rfl rfl (zhas_nc hcy (by decide)) hzy ?_
        refine zv_br ht rfl rfl rfl (fun b19 => ?_) (fun b19 => ?_)
        · replace b19 : ¬ (bt 0 b) := (zbo_eq0 : (zbo (bt 0 b)) = 0 ↔ ¬ (bt 0 b)).mp b19
          exact (J20 (Or.inr b19))
        · replace b19 : bt 0 b := Classical.byContradiction (fun h => b19 ((zbo_eq0 : (zbo (bt 0 b)) = 0 ↔ ¬ (bt 0 b)).mpr h))
          refine zv_c1 ht rfl rfl (zv_c1 ht rfl rfl ?_)
          exact (zv_sub (zz := zbo ((bt 1 a) ∧ (bt 0 b))) (zy := 1) (p := fun zz => zEv d 371 63 [.ref n, .int (zbo ((bt 0 a) ∧ (bt 0 b))), .retAddr 0, .retAddr 0, .retAddr 0, .retAddr 0, .retAddr 0] [.int zz] S post) (zbo_pos ⟨b18, b19⟩) J22)
    have J14 : ((¬ (bt 0 a)) ∨ (¬ (bt 0 b))) → zEv d 371 36 [.ref n, .retAddr 0, .retAddr 0, .retAddr 0, .retAddr 0, .retAddr 0, .retAddr 0] [] S post := by
      intro b15
      refine zv_c1 ht rfl rfl ?_
      exact (zv_sub (zz := zbo ((bt 0 a) ∧ (bt 0 b))) (zy := 0) (p := fun zz => zEv d 371 37 [.ref n, .retAddr 0, .retAddr 0, .retAddr 0, .retAddr 0, .retAddr 0, .retAddr 0] [.int zz] S post) (zbo_neg (b15.elim (fun y1 => (fun h => y1 h.1)) (fun y1 => (fun h => y1 h.2)))) J16)
    refine zv_br ht rfl rfl rfl (fun b12 => ?_) (fun b12 => ?_)
    · replace b12 : ¬ (bt 0 a) := (zbo_eq0 : (zbo (bt 0 a)) = 0 ↔ ¬ (bt 0 a)).mp b12
      exact (J14 (Or.inl b12))
    · replace b12 : bt 0 a := Classical.byContradiction (fun h => b12 ((zbo_eq0 : (zbo (bt 0 a)) = 0 ↔ ¬ (bt 0 a)).mpr h))
      refine zv_c1 ht rfl rfl ?_
      refine zv_g3 (q := y) ht rfl hF rfl rfl (zhas_of (htn) rfl) hpy ?_
      refine zv_ei (x := zbo (bt 0 b)) ht rfl rfl (zhas_nc hcy (by decide)) hzy ?_
      refine zv_br ht rfl rfl rfl (fun b13 => ?_) (fun b13 => ?_)
      · replace b13 : ¬ (bt 0 b) := (zbo_eq0 : (zbo (bt 0 b)) = 0 ↔ ¬ (bt 0 b)).mp b13
        exact (J14 (Or.inr b13))
      · replace b13 : bt 0 b := Classical.byContradiction (fun h => b13 ((zbo_eq0 : (zbo (bt 0 b)) = 0 ↔ ¬ (bt 0 b)).mpr h))
        refine zv_c1 ht rfl rfl (zv_c1 ht rfl rfl ?_)
        exact (zv_sub (zz := zbo ((bt 0 a) ∧ (bt 0 b))) (zy := 1) (p := fun zz => zEv d 371 37 [.ref n, .retAddr 0, .retAddr 0, .retAddr 0, .retAddr 0, .retAddr 0, .retAddr 0] [.int zz] S post) (zbo_pos ⟨b12, b13⟩) J16)
  · replace b11 : ¬ (((p + 1) = 1) ∧ ((q + 1) = 4)) := (zbo_eq0 : (zbo (((p + 1) = 1) ∧ ((q + 1) = 4))) = 0 ↔ ¬ (((p + 1) = 1) ∧ ((q + 1) = 4))).mp (Classical.not_not.mp b11)
    refine zv_c1 ht rfl rfl ?_
    have C155 : ∀ (pst154 : Outcome × zS → Prop), (pst154 (.returned (some (.ref (gN S))), sI (sI (sT (sNew S 8 0 (zslots 8)) (gN S) 8 1) 136 (gN S) 3) 137 (gN S) (gI S 144 n))) → zCall (d - 1) 283 [.ref n] S pst154 := by
      intro pst154 k161
      have ht156 : ztab 283 = ztb283 := rfl
      show zEv (d - 1) 283 0 [.ref n] [] S pst154
      refine zv_ci (st' := [.ref (gN S)]) (S' := sNew S 8 0 (zslots 8)) ht156 rfl rfl (znew_ok (show 1639 ≤ gN S from by omega) (show gN S < 2000000 from by omega)) ?_
      refine zv_c1 ht156 rfl rfl (zv_c1 ht156 rfl rfl (zv_c1 ht156 rfl rfl ?_))
      refine zv_ei (x := gI S 144 n) ht156 rfl rfl (zhas_of (Eq.trans (ztyp_new (S := S) (t := 8) (n := 0) (s := zslots 8) (show n ≠ gN S from by omega)) htn) rfl) (gI_new (S := S) (t := 8) (n := 0) (s := zslots 8) (show n ≠ gN S from by omega)) ?_
      have C158 : ∀ (pst157 : Outcome × zS → Prop), (pst157 (.returned none, sI (sI (sT (sNew S 8 0 (zslots 8)) (gN S) 8 1) 136 (gN S) 3) 137 (gN S) (gI S 144 n))) → zCall ((d - 1) - 1) 269 [.ref (gN S), .int 3, .int (gI S 144 n)] (sNew S 8 0 (zslots 8)) pst157 := by
        intro pst157 k160
        have ht159 : ztab 269 = ztb269 := rfl
        show zEv ((d - 1) - 1) 269 0 [.ref (gN S), .int 3, .int (gI S 144 n)] [] (sNew S 8 0 (zslots 8)) pst157
        refine zv_c1 ht159 rfl rfl ?_
        refine zv_ci (S' := sT (sNew S 8 0 (zslots 8)) (gN S) 8 1) ht159 rfl rfl ⟨ztyp_new_at (S := S) (t := 8) (n := 0) (s := zslots 8) (show 1639 ≤ gN S from by omega), (show gN S < gN S + 1 from by omega), zlen_new_at (S := S) (t := 8) (n := 0) (s := zslots 8) (show 1639 ≤ gN S from by omega)⟩ ?_
        refine zv_c1 ht159 rfl rfl (zv_c1 ht159 rfl rfl ?_)
        refine zv_ci (S' := sI (sT (sNew S 8 0 (zslots 8)) (gN S) 8 1) 136 (gN S) 3) ht159 rfl rfl ⟨⟨(zhas_of (ztyp_sT1 (show 1639 ≤ gN S from by omega)) rfl), (show gN S < gN S + 1 from by omega)⟩, zlen_sT1 (show 1639 ≤ gN S from by omega)⟩ ?_
        refine zv_c1 ht159 rfl rfl (zv_c1 ht159 rfl rfl ?_)
        refine zv_ci (S' := sI (sI (sT (sNew S 8 0 (zslots 8)) (gN S) 8 1) 136 (gN S) 3) 137 (gN S) (gI S 144 n)) ht159 rfl rfl ⟨⟨(zhas_of (ztyp_sT1 (show 1639 ≤ gN S from by omega)) rfl), (show gN S < gN S + 1 from by omega)⟩, zlen_sT1 (show 1639 ≤ gN S from by omega)⟩ ?_
        exact zv_rt ht159 rfl rfl rfl rfl k160
      refine zv_cl ht156 rfl rfl rfl rfl (by omega) (Nat.le_of_ble_eq_true rfl) (C158 _ ?_)
      show zEv (d - 1) 283 12 [.ref n] [.ref (gN S)] (sI (sI (sT (sNew S 8 0 (zslots 8)) (gN S) 8 1) 136 (gN S) 3) 137 (gN S) (gI S 144 n)) pst154
      exact zv_rt ht156 rfl rfl rfl rfl k161
    refine zv_cl ht rfl rfl rfl (zv_tgv (htn) rfl) (by omega) (Nat.le_of_ble_eq_true rfl) (C155 _ ?_)
    show zEv d 371 11 [.ref n, .retAddr 0, .retAddr 0, .retAddr 0, .retAddr 0, .retAddr 0, .retAddr 0] [.ref (gN S)] (sI (sI (sT (sNew S 8 0 (zslots 8)) (gN S) 8 1) 136 (gN S) 3) 137 (gN S) (gI S 144 n)) post
    exact zv_th ht rfl rfl rfl ⟨ztyp_sT1 (show 1639 ≤ gN S from by omega), (show gN S < gN S + 1 from by omega)⟩ rfl (h2 b11)

theorem pj_2 {d : Nat} {S : zS} (hF : zFin true S) (hd : 2 ≤ d) (n x y : Nat) (p q a b tx ty : Int32) (hn0 : 1639 ≤ n) (hn : n < gN S) (hx : x < gN S) (hxn : x ≠ n) (hy : y < gN S) (hyn : y ≠ n) (hcx : zNc (ztyp S x) = true) (hcy : zNc (ztyp S y) = true) (hN2 : gN S < 1900000) (htn : ztyp S n = 20) (how : gI S 187 n = Int32.ofNat 2) (hpx : gP S 188 n = some x) (hpy : gP S 189 n = some y) (hbx : gI S 145 x = p + 1) (hzx : gI S 147 x = zbo (bt 0 a)) (hox : gI S 148 x = zbo (bt 1 a)) (hnx : gI S 149 x = zbo (bt 2 a)) (hdx : gI S 150 x = zbo (bt 3 a)) (hux : gI S 151 x = zbo (bt 4 a)) (hsx : gI S 152 x = zbo (bt 5 a)) (hfx : gI S 153 x = zbo (bt 6 a)) (hex : gI S 154 x = zbo (bt 7 a)) (hmx : gI S 155 x = zbo (bt 8 a)) (hmixedx : gI S 156 x = zbo (bt 9 a)) (htx : gI S 146 x = tx) (hby : gI S 145 y = q + 1) (hzy : gI S 147 y = zbo (bt 0 b)) (hoy : gI S 148 y = zbo (bt 1 b)) (hny : gI S 149 y = zbo (bt 2 b)) (hdy : gI S 150 y = zbo (bt 3 b)) (huy : gI S 151 y = zbo (bt 4 b)) (hsy : gI S 152 y = zbo (bt 5 b)) (hfy : gI S 153 y = zbo (bt 6 b)) (hey : gI S 154 y = zbo (bt 7 b)) (hmy : gI S 155 y = zbo (bt 8 b)) (hmixedy : gI S 156 y = zbo (bt 9 b)) (hty : gI S 146 y = ty) (hm0 : gI S 156 n = zbo False) (ht0 : gI S 146 n = 0) {post : Outcome × zS → Prop} (h1 : (((p + 1) = 1) ∧ (bt 3 a) ∧ ((q + 1) = 4) ∧ (bt 3 b)) → post (.returned none, sI (sI (sI (sI (sI (sI (sI (sI (sI (sI (sI (sI (sI (sI S 145 n 1) 147 n (zbo ((bt 0 a) ∧ (bt 0 b)))) 148 n (zbo (((bt 1 a) ∧ (bt 0 b)) ∨ ((bt 0 a) ∧ (bt 1 b))))) 149 n 0) 150 n 1) 151 n 1) 152 n (zbo ((bt 5 a) ∧ (bt 5 b)))) 153 n 0) 154 n 1) 155 n (zbo (((bt 8 a) ∧ (bt 8 b)) ∧ (bt 7 a) ∧ (bt 7 b) ∧ ((bt 5 a) ∨ (bt 5 b))))) 156 n (zbo (bt 9 a))) 146 n ((0 : Int32) ||| tx)) 156 n (zbo ((bt 9 a) ∨ (bt 9 b)))) 146 n (((0 : Int32) ||| tx) ||| ty))) (h2 : (¬ (((p + 1) = 1) ∧ (bt 3 a) ∧ ((q + 1) = 4) ∧ (bt 3 b))) → post (.threw (gN S), sI (sI (sT (sNew S 8 0 (zslots 8)) (gN S) 8 1) 136 (gN S) 3) 137 (gN S) (gI S 144 n))) : zCall d 371 [.ref n] S post := by
  have ht : ztab 371 = ztb371 := rfl
  show zEv d 371 0 [.ref n, .retAddr 0, .retAddr 0, .retAddr 0, .retAddr 0, .retAddr 0, .retAddr 0] [] S post
  refine zv_c1 ht rfl rfl ?_
  have C2 : ∀ (pst1 : Outcome × zS → Prop), (pst1 (.returned (some (.int (zbo (((p + 1) = 1) ∧ (bt 3 a) ∧ ((q + 1) = 4) ∧ (bt 3 b))))), S)) → zCall (d - 1) 372 [.ref n] S pst1 := by
    intro pst1 k12
    have ht3 : ztab 372 = ztb372 := rfl
    show zEv (d - 1) 372 0 [.ref n] [] S pst1
    refine zv_c1 ht3 rfl rfl ?_
    refine zv_ei (x := 2) ht3 rfl rfl (zhas_of (htn) rfl) how ?_
    refine zv_sw ht3 rfl rfl rfl rfl rfl ?_
    refine And.intro (fun h => absurd h (by decide)) (fun _ => ?_)
    refine And.intro (fun h => absurd h (by decide)) (fun _ => ?_)
    refine And.intro (fun _ => ?_) (fun h => absurd (by decide) h)
    refine zv_c1 ht3 rfl rfl ?_
    refine zv_g3 (q := x) ht3 rfl hF rfl rfl (zhas_of (htn) rfl) hpx ?_
    refine zv_ei (x := p + 1) ht3 rfl rfl (zhas_nc hcx (by decide)) hbx ?_
    refine zv_c1 ht3 rfl rfl ?_
    have J10 : zEv (d - 1) 372 143 [.retAddr 0] [.int (zbo (((p + 1) = 1) ∧ (bt 3 a) ∧ ((q + 1) = 4) ∧ (bt 3 b)))] S pst1 := by
      exact zv_rc ht3 rfl rfl rfl rfl zbo_rng k12
    have J8 : ((¬ ((p + 1) = 1)) ∨ (¬ (bt 3 a)) ∨ (¬ ((q + 1) = 4)) ∨ (¬ (bt 3 b))) → zEv (d - 1) 372 142 [.retAddr 0] [] S pst1 := by
      intro b9
      refine zv_c1 ht3 rfl rfl ?_
      exact (zv_sub (zz := zbo (((p + 1) = 1) ∧ (bt 3 a) ∧ ((q + 1) = 4) ∧ (bt 3 b))) (zy := 0) (p := fun zz => zEv (d - 1) 372 143 [.retAddr 0] [.int zz] S pst1) (zbo_neg (b9.elim (fun y1 => (fun h => y1 h.1)) (fun y1 => (y1.elim (fun y2 => (fun h => (fun h => y2 h.1) h.2)) (fun y2 => (y2.elim (fun y3 => (fun h => (fun h => (fun h => y3 h.1) h.2) h.2)) (fun y3 => (fun h => (fun h => (fun h => y3 h.2) h.2) h.2)))))))) J10)
    refine zv_br ht3 rfl rfl rfl (fun b4 => ?_) (fun b4 => ?_)
    · exact zEv.wk (L := [.retAddr 0]) (L' := [.ref n]) (And.intro (Or.inr rfl) trivial) (J8 (Or.inl b4))
    · replace b4 : (p + 1) = 1 := Classical.not_not.mp b4
      refine zv_c1 ht3 rfl rfl ?_
      refine zv_g3 (q := x) ht3 rfl hF rfl rfl (zhas_of (htn) rfl) hpx ?_
      refine zv_ei (x := zbo (bt 3 a)) ht3 rfl rfl (zhas_nc hcx (by decide)) hdx ?_
      refine zv_br ht3 rfl rfl rfl (fun b5 => ?_) (fun b5 => ?_)
      · replace b5 : ¬ (bt 3 a) := (zbo_eq0 : (zbo (bt 3 a)) = 0 ↔ ¬ (bt 3 a)).mp b5
        exact zEv.wk (L := [.retAddr 0]) (L' := [.ref n]) (And.intro (Or.inr rfl) trivial) (J8 (Or.inr (Or.inl b5)))
      · replace b5 : bt 3 a := Classical.byContradiction (fun h => b5 ((zbo_eq0 : (zbo (bt 3 a)) = 0 ↔ ¬ (bt 3 a)).mpr h))
        refine zv_c1 ht3 rfl rfl ?_
        refine zv_g3 (q := y) ht3 rfl hF rfl rfl (zhas_of (htn) rfl) hpy ?_
        refine zv_ei (x := q + 1) ht3 rfl rfl (zhas_nc hcy (by decide)) hby ?_
        refine zv_c1 ht3 rfl rfl ?_
        refine zv_br ht3 rfl rfl rfl (fun b6 => ?_) (fun b6 => ?_)
        · exact zEv.wk (L := [.retAddr 0]) (L' := [.ref n]) (And.intro (Or.inr rfl) trivial) (J8 (Or.inr (Or.inr (Or.inl b6))))
        · replace b6 : (q + 1) = 4 := Classical.not_not.mp b6
          refine zv_c1 ht3 rfl rfl ?_
          refine zv_g3 (q := y) ht3 rfl hF rfl rfl (zhas_of (htn) rfl) hpy ?_
          refine zv_ei (x := zbo (bt 3 b)) ht3 rfl rfl (zhas_nc hcy (by decide)) hdy ?_
          refine zv_br ht3 rfl rfl rfl (fun b7 => ?_) (fun b7 => ?_)
          · replace b7 : ¬ (bt 3 b) := (zbo_eq0 : (zbo (bt 3 b)) = 0 ↔ ¬ (bt 3 b)).mp b7
            exact zEv.wk (L := [.retAddr 0]) (L' := [.ref n]) (And.intro (Or.inr rfl) trivial) (J8 (Or.inr (Or.inr (Or.inr b7))))
          · replace b7 : bt 3 b := Classical.byContradiction (fun h => b7 ((zbo_eq0 : (zbo (bt 3 b)) = 0 ↔ ¬ (bt 3 b)).mpr h))
            refine zv_c1 ht3 rfl rfl (zv_c1 ht3 rfl rfl ?_)
            exact zEv.wk (L := [.retAddr 0]) (L' := [.ref n]) (And.intro (Or.inr rfl) trivial) (zv_sub (zz := zbo (((p + 1) = 1) ∧ (bt 3 a) ∧ ((q + 1) = 4) ∧ (bt 3 b))) (zy := 1) (p := fun zz => zEv (d - 1) 372 143 [.retAddr 0] [.int zz] S pst1) (zbo_pos ⟨b4, ⟨b5, ⟨b6, b7⟩⟩⟩) J10)
  refine zv_cl ht rfl rfl rfl (zv_tgv (htn) rfl) (by omega) (Nat.le_of_ble_eq_true rfl) (C2 _ ?_)
  show zEv d 371 4 [.ref n, .retAddr 0, .retAddr 0, .retAddr 0, .retAddr 0, .retAddr 0, .retAddr 0] [.int (zbo (((p + 1) = 1) ∧ (bt 3 a) ∧ ((q + 1) = 4) ∧ (bt 3 b)))] S post
  refine zv_br ht rfl rfl rfl (fun b13 => ?_) (fun b13 => ?_)
  · replace b13 : ((p + 1) = 1) ∧ (bt 3 a) ∧ ((q + 1) = 4) ∧ (bt 3 b) := Classical.byContradiction (fun h => b13 ((zbo_eq0 : (zbo (((p + 1) = 1) ∧ (bt 3 a) ∧ ((q + 1) = 4) ∧ (bt 3 b))) = 0 ↔ ¬ (((p + 1) = 1) ∧ (bt 3 a) ∧ ((q + 1) = 4) ∧ (bt 3 b))).mpr h))
    refine zv_c1 ht rfl rfl ?_
    refine zv_g3 (q := x) ht rfl hF rfl rfl (zhas_of (htn) rfl) hpx ?_
    refine zv_ei (x := zbo (bt 0 a)) ht rfl rfl (zhas_nc hcx (by decide)) hzx ?_
    have J18 : zEv d 371 37 [.ref n, .retAddr 0, .retAddr 0, .retAddr 0, .retAddr 0, .retAddr 0, .retAddr 0] [.int (zbo ((bt 0 a) ∧ (bt 0 b)))] S post := by
      refine zv_c2 (L' := [.ref n, .int (zbo ((bt 0 a) ∧ (bt 0 b))), .retAddr 0, .retAddr 0, .retAddr 0, .retAddr 0, .retAddr 0]) ht rfl rfl ?_
      refine zv_c1 ht rfl rfl ?_
      refine zv_g3 (q := x) ht rfl hF rfl rfl (zhas_of (htn) rfl) hpx ?_
      refine zv_ei (x := zbo (bt 1 a)) ht rfl rfl (zhas_nc hcx (by decide)) hox ?_
      have J24 : zEv d 371 63 [.ref n, .int (zbo ((bt 0 a) ∧ (bt 0 b))), .retAddr 0, .retAddr 0, .retAddr 0, .retAddr 0, .retAddr 0] [.int (zbo ((bt 1 a) ∧ (bt 0 b)))] S post := by
        refine zv_c2 (L' := [.ref n, .int (zbo ((bt 0 a) ∧ (bt 0 b))), .int (zbo ((bt 1 a) ∧ (bt 0 b))), .retAddr 0, .retAddr 0, .retAddr 0, .retAddr 0]) ht rfl rfl ?_
        refine zv_c1 ht rfl rfl ?_
        have J33 : zEv d 371 93 [.ref n, .int (zbo ((bt 0 a) ∧ (bt 0 b))), .int (zbo ((bt 1 a) ∧ (bt 0 b))), .retAddr 0, .retAddr 0, .retAddr 0, .retAddr 0] [.int (zbo (((bt 1 a) ∧ (bt 0 b)) ∨ ((bt 0 a) ∧ (bt 1 b))))] S post := by
          refine zv_c2 (L' := [.ref n, .int (zbo ((bt 0 a) ∧ (bt 0 b))), .int (zbo ((bt 1 a) ∧ (bt 0 b))), .int (zbo (((bt 1 a) ∧ (bt 0 b)) ∨ ((bt 0 a) ∧ (bt 1 b)))), .retAddr 0, .retAddr 0, .retAddr 0]) ht rfl rfl ?_
          refine zv_c1 ht rfl rfl ?_
          refine zv_g3 (q := x) ht rfl hF rfl rfl (zhas_of (htn) rfl) hpx ?_
          refine zv_ei (x := zbo (bt 8 a)) ht rfl rfl (zhas_nc hcx (by decide)) hmx ?_
          have J39 : zEv d 371 119 [.ref n, .int (zbo ((bt 0 a) ∧ (bt 0 b))), .int (zbo ((bt 1 a) ∧ (bt 0 b))), .int (zbo (((bt 1 a) ∧ (bt 0 b)) ∨ ((bt 0 a) ∧ (bt 1 b)))), .retAddr 0, .retAddr 0, .retAddr 0] [.int (zbo ((bt 8 a) ∧ (bt 8 b)))] S post := by
            refine zv_c2 (L' := [.ref n, .int (zbo ((bt 0 a) ∧ (bt 0 b))), .int (zbo ((bt 1 a) ∧ (bt 0 b))), .int (zbo (((bt 1 a) ∧ (bt 0 b)) ∨ ((bt 0 a) ∧ (bt 1 b)))), .int (zbo ((bt 8 a) ∧ (bt 8 b))), .retAddr 0, .retAddr 0]) ht rfl rfl ?_
            refine zv_c1 ht rfl rfl ?_
            refine zv_g3 (q := x) ht rfl hF rfl rfl (zhas_of (htn) rfl) hpx ?_
            refine zv_ei (x := zbo (bt 5 a)) ht rfl rfl (zhas_nc hcx (by decide)) hsx ?_
            have J45 : zEv d 371 146 [.ref n, .int (zbo ((bt 0 a) ∧ (bt 0 b))), .int (zbo ((bt 1 a) ∧ (bt 0 b))), .int (zbo (((bt 1 a) ∧ (bt 0 b)) ∨ ((bt 0 a) ∧ (bt 1 b)))), .int (zbo ((bt 8 a) ∧ (bt 8 b))), .retAddr 0, .retAddr 0] [.int (zbo ((bt 5 a) ∨ (bt 5 b)))] S post := by
              refine zv_c2 (L' := [.ref n, .int (zbo ((bt 0 a) ∧ (bt 0 b))), .int (zbo ((bt 1 a) ∧ (bt 0 b))), .int (zbo (((bt 1 a) ∧ (bt 0 b)) ∨ ((bt 0 a) ∧ (bt 1 b)))), .int (zbo ((bt 8 a) ∧ (bt 8 b))), .int (zbo ((bt 5 a) ∨ (bt 5 b))), .retAddr 0]) ht rfl rfl ?_
              refine zv_c1 ht rfl rfl ?_
              refine zv_g3 (q := x) ht rfl hF rfl rfl (zhas_of (htn) rfl) hpx ?_
              refine zv_ei (x := zbo (bt 5 a)) ht rfl rfl (zhas_nc hcx (by decide)) hsx ?_
              have J51 : zEv d 371 173 [.ref n, .int (zbo ((bt 0 a) ∧ (bt 0 b))), .int (zbo ((bt 1 a) ∧ (bt 0 b))), .int (zbo (((bt 1 a) ∧ (bt 0 b)) ∨ ((bt 0 a) ∧ (bt 1 b)))), .int (zbo ((bt 8 a) ∧ (bt 8 b))), .int (zbo ((bt 5 a) ∨ (bt 5 b))), .retAddr 0] [.int (zbo ((bt 5 a) ∧ (bt 5 b)))] S post := by
                refine zv_c2 (L' := [.ref n, .int (zbo ((bt 0 a) ∧ (bt 0 b))), .int (zbo ((bt 1 a) ∧ (bt 0 b))), .int (zbo (((bt 1 a) ∧ (bt 0 b)) ∨ ((bt 0 a) ∧ (bt 1 b)))), .int (zbo ((bt 8 a) ∧ (bt 8 b))), .int (zbo ((bt 5 a) ∨ (bt 5 b))), .int (zbo ((bt 5 a) ∧ (bt 5 b)))]) ht rfl rfl ?_
                refine zv_c1 ht rfl rfl ?_
                refine zv_ei (x := 2) ht rfl rfl (zhas_of (htn) rfl) how ?_
                refine zv_sw ht rfl rfl rfl rfl rfl ?_
                refine And.intro (fun h => absurd h (by decide)) (fun _ => ?_)
                refine And.intro (fun h => absurd h (by decide)) (fun _ => ?_)
                refine And.intro (fun _ => ?_) (fun h => absurd (by decide) h)
                refine zv_c1 ht rfl rfl (zv_c1 ht rfl rfl (zv_c1 ht rfl rfl (zv_c1 ht rfl rfl (zv_c1 ht rfl rfl (zv_c1 ht rfl rfl (zv_c1 ht rfl rfl ?_))))))
                have C54 : ∀ (pst53 : Outcome × zS → Prop), (pst53 (.returned none, sI (sI (sI (sI (sI (sI S 145 n 1) 147 n (zbo ((bt 0 a) ∧ (bt 0 b)))) 148 n (zbo (((bt 1 a) ∧ (bt 0 b)) ∨ ((bt 0 a) ∧ (bt 1 b))))) 149 n 0) 150 n 1) 151 n 1)) → zCall (d - 1) 284 [.ref n, .int 1, .int (zbo ((bt 0 a) ∧ (bt 0 b))), .int (zbo (((bt 1 a) ∧ (bt 0 b)) ∨ ((bt 0 a) ∧ (bt 1 b)))), .int 0, .int 1, .int 1] S pst53 := by
                  intro pst53 k56
                  have ht55 : ztab 284 = ztb284 := rfl
                  show zEv (d - 1) 284 0 [.ref n, .int 1, .int (zbo ((bt 0 a) ∧ (bt 0 b))), .int (zbo (((bt 1 a) ∧ (bt 0 b)) ∨ ((bt 0 a) ∧ (bt 1 b)))), .int 0, .int 1, .int 1] [] S pst53
                  refine zv_c1 ht55 rfl rfl (zv_c1 ht55 rfl rfl ?_)
                  refine zv_ci (S' := sI S 145 n 1) ht55 rfl rfl ⟨(zhas_of (htn) rfl), (show n < gN S from by omega)⟩ ?_
                  refine zv_c1 ht55 rfl rfl (zv_c1 ht55 rfl rfl ?_)
                  refine zv_ci (S' := sI (sI S 145 n 1) 147 n (zbo ((bt 0 a) ∧ (bt 0 b)))) ht55 rfl rfl ⟨⟨(zhas_of (htn) rfl), (show n < gN S from by omega)⟩, zbo_rng⟩ ?_
                  refine zv_c1 ht55 rfl rfl (zv_c1 ht55 rfl rfl ?_)
                  refine zv_ci (S' := sI (sI (sI S 145 n 1) 147 n (zbo ((bt 0 a) ∧ (bt 0 b)))) 148 n (zbo (((bt 1 a) ∧ (bt 0 b)) ∨ ((bt 0 a) ∧ (bt 1 b))))) ht55 rfl rfl ⟨⟨(zhas_of (htn) rfl), (show n < gN S from by omega)⟩, zbo_rng⟩ ?_
                  refine zv_c1 ht55 rfl rfl (zv_c1 ht55 rfl rfl ?_)
                  refine zv_ci (S' := sI (sI (sI (sI S 145 n 1) 147 n (zbo ((bt 0 a) ∧ (bt 0 b)))) 148 n (zbo (((bt 1 a) ∧ (bt 0 b)) ∨ ((bt 0 a) ∧ (bt 1 b))))) 149 n 0) ht55 rfl rfl ⟨⟨(zhas_of (htn) rfl), (show n < gN S from by omega)⟩, (by decide)⟩ ?_
                  refine zv_c1 ht55 rfl rfl (zv_c1 ht55 rfl rfl ?_)
                  refine zv_ci (S' := sI (sI (sI (sI (sI S 145 n 1) 147 n (zbo ((bt 0 a) ∧ (bt 0 b)))) 148 n (zbo (((bt 1 a) ∧ (bt 0 b)) ∨ ((bt 0 a) ∧ (bt 1 b))))) 149 n 0) 150 n 1) ht55 rfl rfl ⟨⟨(zhas_of (htn) rfl), (show n < gN S from by omega)⟩, (by decide)⟩ ?_
                  refine zv_c1 ht55 rfl rfl (zv_c1 ht55 rfl rfl ?_)
                  refine zv_ci (S' := sI (sI (sI (sI (sI (sI S 145 n 1) 147 n (zbo ((bt 0 a) ∧ (bt 0 b)))) 148 n (zbo (((bt 1 a) ∧ (bt 0 b)) ∨ ((bt 0 a) ∧ (bt 1 b))))) 149 n 0) 150 n 1) 151 n 1) ht55 rfl rfl ⟨⟨(zhas_of (htn) rfl), (show n < gN S from by omega)⟩, (by decide)⟩ ?_
                  exact zv_rt ht55 rfl rfl rfl rfl k56
                refine zv_cl ht rfl rfl rfl (zv_tgv (htn) rfl) (by omega) (Nat.le_of_ble_eq_true rfl) (C54 _ ?_)
                show zEv d 371 489 [.ref n, .int (zbo ((bt 0 a) ∧ (bt 0 b))), .int (zbo ((bt 1 a) ∧ (bt 0 b))), .int (zbo (((bt 1 a) ∧ (bt 0 b)) ∨ ((bt 0 a) ∧ (bt 1 b)))), .int (zbo ((bt 8 a) ∧ (bt 8 b))), .int (zbo ((bt 5 a) ∨ (bt 5 b))), .int (zbo ((bt 5 a) ∧ (bt 5 b)))] [] (sI (sI (sI (sI (sI (sI S 145 n 1) 147 n (zbo ((bt 0 a) ∧ (bt 0 b)))) 148 n (zbo (((bt 1 a) ∧ (bt 0 b)) ∨ ((bt 0 a) ∧ (bt 1 b))))) 149 n 0) 150 n 1) 151 n 1) post
                refine zv_c1 ht rfl rfl (zv_c1 ht rfl rfl (zv_c1 ht rfl rfl (zv_c1 ht rfl rfl (zv_c1 ht rfl rfl ?_))))
                have J63 : zEv d 371 529 [.ref n, .retAddr 0, .retAddr 0, .retAddr 0, .retAddr 0, .retAddr 0, .retAddr 0] [.int (zbo (((bt 8 a) ∧ (bt 8 b)) ∧ (bt 7 a) ∧ (bt 7 b) ∧ ((bt 5 a) ∨ (bt 5 b)))), .int 1, .int 0, .int (zbo ((bt 5 a) ∧ (bt 5 b))), .ref n] (sI (sI (sI (sI (sI (sI S 145 n 1) 147 n (zbo ((bt 0 a) ∧ (bt 0 b)))) 148 n (zbo (((bt 1 a) ∧ (bt 0 b)) ∨ ((bt 0 a) ∧ (bt 1 b))))) 149 n 0) 150 n 1) 151 n 1) post := by
                  have C66 : ∀ (pst65 : Outcome × zS → Prop), (pst65 (.returned none, sI (sI (sI (sI (sI (sI (sI (sI (sI (sI S 145 n 1) 147 n (zbo ((bt 0 a) ∧ (bt 0 b)))) 148 n (zbo (((bt 1 a) ∧ (bt 0 b)) ∨ ((bt 0 a) ∧ (bt 1 b))))) 149 n 0) 150 n 1) 151 n 1) 152 n (zbo ((bt 5 a) ∧ (bt 5 b)))) 153 n 0) 154 n 1) 155 n (zbo (((bt 8 a) ∧ (bt 8 b)) ∧ (bt 7 a) ∧ (bt 7 b) ∧ ((bt 5 a) ∨ (bt 5 b)))))) → zCall (d - 1) 285 [.ref n, .int (zbo ((bt 5 a) ∧ (bt 5 b))), .int 0, .int 1, .int (zbo (((bt 8 a) ∧ (bt 8 b)) ∧ (bt 7 a) ∧ (bt 7 b) ∧ ((bt 5 a) ∨ (bt 5 b))))] (sI (sI (sI (sI (sI (sI S 145 n 1) 147 n (zbo ((bt 0 a) ∧ (bt 0 b)))) 148 n (zbo (((bt 1 a) ∧ (bt 0 b)) ∨ ((bt 0 a) ∧ (bt 1 b))))) 149 n 0) 150 n 1) 151 n 1) pst65 := by
                    intro pst65 k68
                    have ht67 : ztab 285 = ztb285 := rfl
                    show zEv (d - 1) 285 0 [.ref n, .int (zbo ((bt 5 a) ∧ (bt 5 b))), .int 0, .int 1, .int (zbo (((bt 8 a) ∧ (bt 8 b)) ∧ (bt 7 a) ∧ (bt 7 b) ∧ ((bt 5 a) ∨ (bt 5 b))))] [] (sI (sI (sI (sI (sI (sI S 145 n 1) 147 n (zbo ((bt 0 a) ∧ (bt 0 b)))) 148 n (zbo (((bt 1 a) ∧ (bt 0 b)) ∨ ((bt 0 a) ∧ (bt 1 b))))) 149 n 0) 150 n 1) 151 n 1) pst65
                    refine zv_c1 ht67 rfl rfl (zv_c1 ht67 rfl rfl ?_)
                    refine zv_ci (S' := sI (sI (sI (sI (sI (sI (sI S 145 n 1) 147 n (zbo ((bt 0 a) ∧ (bt 0 b)))) 148 n (zbo (((bt 1 a) ∧ (bt 0 b)) ∨ ((bt 0 a) ∧ (bt 1 b))))) 149 n 0) 150 n 1) 151 n 1) 152 n (zbo ((bt 5 a) ∧ (bt 5 b)))) ht67 rfl rfl ⟨⟨(zhas_of (htn) rfl), (show n < gN S from by omega)⟩, zbo_rng⟩ ?_
                    refine zv_c1 ht67 rfl rfl (zv_c1 ht67 rfl rfl ?_)
                    refine zv_ci (S' := sI (sI (sI (sI (sI (sI (sI (sI S 145 n 1) 147 n (zbo ((bt 0 a) ∧ (bt 0 b)))) 148 n (zbo (((bt 1 a) ∧ (bt 0 b)) ∨ ((bt 0 a) ∧ (bt 1 b))))) 149 n 0) 150 n 1) 151 n 1) 152 n (zbo ((bt 5 a) ∧ (bt 5 b)))) 153 n 0) ht67 rfl rfl ⟨⟨(zhas_of (htn) rfl), (show n < gN S from by omega)⟩, (by decide)⟩ ?_
                    refine zv_c1 ht67 rfl rfl (zv_c1 ht67 rfl rfl ?_)
                    refine zv_ci (S' := sI (sI (sI (sI (sI (sI (sI (sI (sI S 145 n 1) 147 n (zbo ((bt 0 a) ∧ (bt 0 b)))) 148 n (zbo (((bt 1 a) ∧ (bt 0 b)) ∨ ((bt 0 a) ∧ (bt 1 b))))) 149 n 0) 150 n 1) 151 n 1) 152 n (zbo ((bt 5 a) ∧ (bt 5 b)))) 153 n 0) 154 n 1) ht67 rfl rfl ⟨⟨(zhas_of (htn) rfl), (show n < gN S from by omega)⟩, (by decide)⟩ ?_
                    refine zv_c1 ht67 rfl rfl (zv_c1 ht67 rfl rfl ?_)
                    refine zv_ci (S' := sI (sI (sI (sI (sI (sI (sI (sI (sI (sI S 145 n 1) 147 n (zbo ((bt 0 a) ∧ (bt 0 b)))) 148 n (zbo (((bt 1 a) ∧ (bt 0 b)) ∨ ((bt 0 a) ∧ (bt 1 b))))) 149 n 0) 150 n 1) 151 n 1) 152 n (zbo ((bt 5 a) ∧ (bt 5 b)))) 153 n 0) 154 n 1) 155 n (zbo (((bt 8 a) ∧ (bt 8 b)) ∧ (bt 7 a) ∧ (bt 7 b) ∧ ((bt 5 a) ∨ (bt 5 b))))) ht67 rfl rfl ⟨⟨(zhas_of (htn) rfl), (show n < gN S from by omega)⟩, zbo_rng⟩ ?_
                    exact zv_rt ht67 rfl rfl rfl rfl k68
                  refine zv_cl ht rfl rfl rfl (zv_tgv (htn) rfl) (by omega) (Nat.le_of_ble_eq_true rfl) (C66 _ ?_)
                  show zEv d 371 532 [.ref n, .retAddr 0, .retAddr 0, .retAddr 0, .retAddr 0, .retAddr 0, .retAddr 0] [] (sI (sI (sI (sI (sI (sI (sI (sI (sI (sI S 145 n 1) 147 n (zbo ((bt 0 a) ∧ (bt 0 b)))) 148 n (zbo (((bt 1 a) ∧ (bt 0 b)) ∨ ((bt 0 a) ∧ (bt 1 b))))) 149 n 0) 150 n 1) 151 n 1) 152 n (zbo ((bt 5 a) ∧ (bt 5 b)))) 153 n 0) 154 n 1) 155 n (zbo (((bt 8 a) ∧ (bt 8 b)) ∧ (bt 7 a) ∧ (bt 7 b) ∧ ((bt 5 a) ∨ (bt 5 b))))) post
                  refine zv_c1 ht rfl rfl (zv_c1 ht rfl rfl (zv_c1 ht rfl rfl ?_))
                  refine zv_g3 (q := x) ht rfl hF rfl rfl (zhas_of (htn) rfl) hpx ?_
                  refine zv_c1 ht rfl rfl ?_
                  have C70 : ∀ (pst69 : Outcome × zS → Prop), (pst69 (.returned none, sI (sI (sI (sI (sI (sI (sI (sI (sI (sI (sI (sI S 145 n 1) 147 n (zbo ((bt 0 a) ∧ (bt 0 b)))) 148 n (zbo (((bt 1 a) ∧ (bt 0 b)) ∨ ((bt 0 a) ∧ (bt 1 b))))) 149 n 0) 150 n 1) 151 n 1) 152 n (zbo ((bt 5 a) ∧ (bt 5 b)))) 153 n 0) 154 n 1) 155 n (zbo (((bt 8 a) ∧ (bt 8 b)) ∧ (bt 7 a) ∧ (bt 7 b) ∧ ((bt 5 a) ∨ (bt 5 b))))) 156 n (zbo (bt 9 a))) 146 n ((0 : Int32) ||| tx))) → zCall (d - 1) 286 [.ref n, .ref x, .int 0] (sI (sI (sI (sI (sI (sI (sI (sI (sI (sI S 145 n 1) 147 n (zbo ((bt 0 a) ∧ (bt 0 b)))) 148 n (zbo (((bt 1 a) ∧ (bt 0 b)) ∨ ((bt 0 a) ∧ (bt 1 b))))) 149 n 0) 150 n 1) 151 n 1) 152 n (zbo ((bt 5 a) ∧ (bt 5 b)))) 153 n 0) 154 n 1) 155 n (zbo (((bt 8 a) ∧ (bt 8 b)) ∧ (bt 7 a) ∧ (bt 7 b) ∧ ((bt 5 a) ∨ (bt 5 b))))) pst69 := by
                    intro pst69 k76
                    have ht71 : ztab 286 = ztb286 := rfl
                    show zEv (d - 1) 286 0 [.ref n, .ref x, .int 0] [] (sI (sI (sI (sI (sI (sI (sI (sI (sI (sI S 145 n 1) 147 n (zbo ((bt 0 a) ∧ (bt 0 b)))) 148 n (zbo (((bt 1 a) ∧ (bt 0 b)) ∨ ((bt 0 a) ∧ (bt 1 b))))) 149 n 0) 150 n 1) 151 n 1) 152 n (zbo ((bt 5 a) ∧ (bt 5 b)))) 153 n 0) 154 n 1) 155 n (zbo (((bt 8 a) ∧ (bt 8 b)) ∧ (bt 7 a) ∧ (bt 7 b) ∧ ((bt 5 a) ∨ (bt 5 b))))) pst69
                    refine zv_c1 ht71 rfl rfl ?_
                    refine zv_br ht71 rfl rfl rfl (fun _ => ?_) (fun h => absurd (by decide) h)
                    refine zv_c1 ht71 rfl rfl (zv_c1 ht71 rfl rfl ?_)
                    refine zv_ei (x := zbo False) ht71 rfl rfl (zhas_of (htn) rfl) hm0 ?_
                    refine zv_br ht71 rfl rfl rfl (fun b72 => (b72 ((zbo_eq0 : (zbo False) = 0 ↔ ¬ False).mpr trivial)).elim) (fun b72 => ?_)
                    refine zv_c1 ht71 rfl rfl ?_
                    refine zv_ei (x := zbo (bt 9 a)) ht71 rfl rfl (zhas_nc hcx (by decide)) hmixedx ?_
                    have J74 : zEv (d - 1) 286 73 [.ref n, .ref x, .retAddr 0] [.int (zbo (bt 9 a)), .ref n] (sI (sI (sI (sI (sI (sI (sI (sI (sI (sI S 145 n 1) 147 n (zbo ((bt 0 a) ∧ (bt 0 b)))) 148 n (zbo (((bt 1 a) ∧ (bt 0 b)) ∨ ((bt 0 a) ∧ (bt 1 b))))) 149 n 0) 150 n 1) 151 n 1) 152 n (zbo ((bt 5 a) ∧ (bt 5 b)))) 153 n 0) 154 n 1) 155 n (zbo (((bt 8 a) ∧ (bt 8 b)) ∧ (bt 7 a) ∧ (bt 7 b) ∧ ((bt 5 a) ∨ (bt 5 b))))) pst69 := by
                      refine zv_ci (S' := sI (sI (sI (sI (sI (sI (sI (sI (sI (sI (sI S 145 n 1) 147 n (zbo ((bt 0 a) ∧ (bt 0 b)))) 148 n (zbo (((bt 1 a) ∧ (bt 0 b)) ∨ ((bt 0 a) ∧ (bt 1 b))))) 149 n 0) 150 n 1) 151 n 1) 152 n (zbo ((bt 5 a) ∧ (bt 5 b)))) 153 n 0) 154 n 1) 155 n (zbo (((bt 8 a) ∧ (bt 8 b)) ∧ (bt 7 a) ∧ (bt 7 b) ∧ ((bt 5 a) ∨ (bt 5 b))))) 156 n (zbo (bt 9 a))) ht71 rfl rfl ⟨⟨(zhas_of (htn) rfl), (show n < gN S from by omega)⟩, zbo_rng⟩ ?_
                      refine zv_c1 ht71 rfl rfl (zv_c1 ht71 rfl rfl ?_)
                      refine zv_ei (x := 0) ht71 rfl rfl (zhas_of (htn) rfl) ht0 ?_
                      refine zv_c1 ht71 rfl rfl ?_
                      refine zv_ei (x := tx) ht71 rfl rfl (zhas_nc hcx (by decide)) htx ?_
                      refine zv_c1 (st' := [.int ((0 : Int32) ||| tx), .ref n]) (S' := sI (sI (sI (sI (sI (sI (sI (sI (sI (sI (sI S 145 n 1) 147 n (zbo ((bt 0 a) ∧ (bt 0 b)))) 148 n (zbo (((bt 1 a) ∧ (bt 0 b)) ∨ ((bt 0 a) ∧ (bt 1 b))))) 149 n 0) 150 n 1) 151 n 1) 152 n (zbo ((bt 5 a) ∧ (bt 5 b)))) 153 n 0) 154 n 1) 155 n (zbo (((bt 8 a) ∧ (bt 8 b)) ∧ (bt 7 a) ∧ (bt 7 b) ∧ ((bt 5 a) ∨ (bt 5 b))))) 156 n (zbo (bt 9 a))) ht71 rfl rfl ?_
                      refine zv_ci (S' := sI (sI (sI (sI (sI (sI (sI (sI (sI (sI (sI (sI S 145 n 1) 147 n (zbo ((bt 0 a) ∧ (bt 0 b)))) 148 n (zbo (((bt 1 a) ∧ (bt 0 b)) ∨ ((bt 0 a) ∧ (bt 1 b))))) 149 n 0) 150 n 1) 151 n 1) 152 n (zbo ((bt 5 a) ∧ (bt 5 b)))) 153 n 0) 154 n 1) 155 n (zbo (((bt 8 a) ∧ (bt 8 b)) ∧ (bt 7 a) ∧ (bt 7 b) ∧ ((bt 5 a) ∨ (bt 5 b))))) 156 n (zbo (bt 9 a))) 146 n ((0 : Int32) ||| tx)) ht71 rfl rfl ⟨(zhas_of (htn) rfl), (show n < gN S from by omega)⟩ ?_
                      exact zv_rt ht71 rfl rfl rfl rfl k76
                    refine zv_br ht71 rfl rfl rfl (fun b73 => ?_) (fun b73 => ?_)
                    · replace b73 : ¬ (bt 9 a) := (zbo_eq0 : (zbo (bt 9 a)) = 0 ↔ ¬ (bt 9 a)).mp b73
                      refine zv_c1 ht71 rfl rfl ?_
                      exact zEv.wk (L := [.ref n, .ref x, .retAddr 0]) (L' := [.ref n, .ref x, .int 0]) (And.intro (Or.inl rfl) (And.intro (Or.inl rfl) (And.intro (Or.inr rfl) trivial))) (zv_sub (zz := zbo (bt 9 a)) (zy := 0) (p := fun zz => zEv (d - 1) 286 73 [.ref n, .ref x, .retAddr 0] [.int zz, .ref n] (sI (sI (sI (sI (sI (sI (sI (sI (sI (sI S 145 n 1) 147 n (zbo ((bt 0 a) ∧ (bt 0 b)))) 148 n (zbo (((bt 1 a) ∧ (bt 0 b)) ∨ ((bt 0 a) ∧ (bt 1 b))))) 149 n 0) 150 n 1) 151 n 1) 152 n (zbo ((bt 5 a) ∧ (bt 5 b)))) 153 n 0) 154 n 1) 155 n (zbo (((bt 8 a) ∧ (bt 8 b)) ∧ (bt 7 a) ∧ (bt 7 b) ∧ ((bt 5 a) ∨ (bt 5 b))))) pst69) (zbo_neg b73) J74)
                    · replace b73 : bt 9 a := Classical.byContradiction (fun h => b73 ((zbo_eq0 : (zbo (bt 9 a)) = 0 ↔ ¬ (bt 9 a)).mpr h))
                      refine zv_c1 ht71 rfl rfl (zv_c1 ht71 rfl rfl ?_)
                      exact zEv.wk (L := [.ref n, .ref x, .retAddr 0]) (L' := [.ref n, .ref x, .int 0]) (And.intro (Or.inl rfl) (And.intro (Or.inl rfl) (And.intro (Or.inr rfl) trivial))) (zv_sub (zz := zbo (bt 9 a)) (zy := 1) (p := fun zz => zEv (d - 1) 286 73 [.ref n, .ref x, .retAddr 0] [.int zz, .ref n] (sI (sI (sI (sI (sI (sI (sI (sI (sI (sI S 145 n 1) 147 n (zbo ((bt 0 a) ∧ (bt 0 b)))) 148 n (zbo (((bt 1 a) ∧ (bt 0 b)) ∨ ((bt 0 a) ∧ (bt 1 b))))) 149 n 0) 150 n 1) 151 n 1) 152 n (zbo ((bt 5 a) ∧ (bt 5 b)))) 153 n 0) 154 n 1) 155 n (zbo (((bt 8 a) ∧ (bt 8 b)) ∧ (bt 7 a) ∧ (bt 7 b) ∧ ((bt 5 a) ∨ (bt 5 b))))) pst69) (zbo_pos b73) J74)
                  refine zv_cl ht rfl rfl rfl (zv_tgv (htn) rfl) (by omega) (Nat.le_of_ble_eq_true rfl) (C70 _ ?_)
                  show zEv d 371 815 [.ref n, .retAddr 0, .retAddr 0, .retAddr 0, .retAddr 0, .retAddr 0, .retAddr 0] [] (sI (sI (sI (sI (sI (sI (sI (sI (sI (sI (sI (sI S 145 n 1) 147 n (zbo ((bt 0 a) ∧ (bt 0 b)))) 148 n (zbo (((bt 1 a) ∧ (bt 0 b)) ∨ ((bt 0 a) ∧ (bt 1 b))))) 149 n 0) 150 n 1) 151 n 1) 152 n (zbo ((bt 5 a) ∧ (bt 5 b)))) 153 n 0) 154 n 1) 155 n (zbo (((bt 8 a) ∧ (bt 8 b)) ∧ (bt 7 a) ∧ (bt 7 b) ∧ ((bt 5 a) ∨ (bt 5 b))))) 156 n (zbo (bt 9 a))) 146 n ((0 : Int32) ||| tx)) post
                  refine zv_c1 ht rfl rfl (zv_c1 ht rfl rfl ?_)
                  refine zv_g3 (q := y) ht rfl hF rfl rfl (zhas_of (htn) rfl) hpy ?_
                  refine zv_c1 ht rfl rfl ?_
                  refine zv_ei (x := 2) ht rfl rfl (zhas_of (htn) rfl) how ?_
                  refine zv_c1 ht rfl rfl ?_
                  refine zv_br ht rfl rfl rfl (fun _ => ?_) (fun h => absurd (by decide) h)
                  refine zv_c1 ht rfl rfl ?_
                  have C78 : ∀ (pst77 : Outcome × zS → Prop), (pst77 (.returned none, sI (sI (sI (sI (sI (sI (sI (sI (sI (sI (sI (sI (sI (sI S 145 n 1) 147 n (zbo ((bt 0 a) ∧ (bt 0 b)))) 148 n (zbo (((bt 1 a) ∧ (bt 0 b)) ∨ ((bt 0 a) ∧ (bt 1 b))))) 149 n 0) 150 n 1) 151 n 1) 152 n (zbo ((bt 5 a) ∧ (bt 5 b)))) 153 n 0) 154 n 1) 155 n (zbo (((bt 8 a) ∧ (bt 8 b)) ∧ (bt 7 a) ∧ (bt 7 b) ∧ ((bt 5 a) ∨ (bt 5 b))))) 156 n (zbo (bt 9 a))) 146 n ((0 : Int32) ||| tx)) 156 n (zbo ((bt 9 a) ∨ (bt 9 b)))) 146 n (((0 : Int32) ||| tx) ||| ty))) → zCall (d - 1) 286 [.ref n, .ref y, .int 0] (sI (sI (sI (sI (sI (sI (sI (sI (sI (sI (sI (sI S 145 n 1) 147 n (zbo ((bt 0 a) ∧ (bt 0 b)))) 148 n (zbo (((bt 1 a) ∧ (bt 0 b)) ∨ ((bt 0 a) ∧ (bt 1 b))))) 149 n 0) 150 n 1) 151 n 1) 152 n (zbo ((bt 5 a) ∧ (bt 5 b)))) 153 n 0) 154 n 1) 155 n (zbo (((bt 8 a) ∧ (bt 8 b)) ∧ (bt 7 a) ∧ (bt 7 b) ∧ ((bt 5 a) ∨ (bt 5 b))))) 156 n (zbo (bt 9 a))) 146 n ((0 : Int32) ||| tx)) pst77 := by
                    intro pst77 k86
                    have ht79 : ztab 286 = ztb286 := rfl
                    show zEv (d - 1) 286 0 [.ref n, .ref y, .int 0] [] (sI (sI (sI (sI (sI (sI (sI (sI (sI (sI (sI (sI S 145 n 1) 147 n (zbo ((bt 0 a) ∧ (bt 0 b)))) 148 n (zbo (((bt 1 a) ∧ (bt 0 b)) ∨ ((bt 0 a) ∧ (bt 1 b))))) 149 n 0) 150 n 1) 151 n 1) 152 n (zbo ((bt 5 a) ∧ (bt 5 b)))) 153 n 0) 154 n 1) 155 n (zbo (((bt 8 a) ∧ (bt 8 b)) ∧ (bt 7 a) ∧ (bt 7 b) ∧ ((bt 5 a) ∨ (bt 5 b))))) 156 n (zbo (bt 9 a))) 146 n ((0 : Int32) ||| tx)) pst77
                    refine zv_c1 ht79 rfl rfl ?_
                    refine zv_br ht79 rfl rfl rfl (fun _ => ?_) (fun h => absurd (by decide) h)
                    refine zv_c1 ht79 rfl rfl (zv_c1 ht79 rfl rfl ?_)
                    refine zv_ei (x := zbo (bt 9 a)) ht79 rfl rfl (zhas_of (htn) rfl) gI_sI_at ?_
                    have J84 : zEv (d - 1) 286 73 [.ref n, .ref y, .retAddr 0] [.int (zbo ((bt 9 a) ∨ (bt 9 b))), .ref n] (sI (sI (sI (sI (sI (sI (sI (sI (sI (sI (sI (sI S 145 n 1) 147 n (zbo ((bt 0 a) ∧ (bt 0 b)))) 148 n (zbo (((bt 1 a) ∧ (bt 0 b)) ∨ ((bt 0 a) ∧ (bt 1 b))))) 149 n 0) 150 n 1) 151 n 1) 152 n (zbo ((bt 5 a) ∧ (bt 5 b)))) 153 n 0) 154 n 1) 155 n (zbo (((bt 8 a) ∧ (bt 8 b)) ∧ (bt 7 a) ∧ (bt 7 b) ∧ ((bt 5 a) ∨ (bt 5 b))))) 156 n (zbo (bt 9 a))) 146 n ((0 : Int32) ||| tx)) pst77 := by
                      refine zv_ci (S' := sI (sI (sI (sI (sI (sI (sI (sI (sI (sI (sI (sI (sI S 145 n 1) 147 n (zbo ((bt 0 a) ∧ (bt 0 b)))) 148 n (zbo (((bt 1 a) ∧ (bt 0 b)) ∨ ((bt 0 a) ∧ (bt 1 b))))) 149 n 0) 150 n 1) 151 n 1) 152 n (zbo ((bt 5 a) ∧ (bt 5 b)))) 153 n 0) 154 n 1) 155 n (zbo (((bt 8 a) ∧ (bt 8 b)) ∧ (bt 7 a) ∧ (bt 7 b) ∧ ((bt 5 a) ∨ (bt 5 b))))) 156 n (zbo (bt 9 a))) 146 n ((0 : Int32) ||| tx)) 156 n (zbo ((bt 9 a) ∨ (bt 9 b)))) ht79 rfl rfl ⟨⟨(zhas_of (htn) rfl), (show n < gN S from by omega)⟩, zbo_rng⟩ ?_
                      refine zv_c1 ht79 rfl rfl (zv_c1 ht79 rfl rfl ?_)
                      refine zv_ei (x := (0 : Int32) ||| tx) ht79 rfl rfl (zhas_of (htn) rfl) gI_sI_at ?_
                      refine zv_c1 ht79 rfl rfl ?_
                      refine zv_ei (x := ty) ht79 rfl rfl (zhas_nc hcy (by decide)) (Eq.trans (gI_sI_ne (by omega)) hty) ?_
                      refine zv_c1 (st' := [.int (((0 : Int32) ||| tx) ||| ty), .ref n]) (S' := sI (sI (sI (sI (sI (sI (sI (sI (sI (sI (sI (sI (sI S 145 n 1) 147 n (zbo ((bt 0 a) ∧ (bt 0 b)))) 148 n (zbo (((bt 1 a) ∧ (bt 0 b)) ∨ ((bt 0 a) ∧ (bt 1 b))))) 149 n 0) 150 n 1) 151 n 1) 152 n (zbo ((bt 5 a) ∧ (bt 5 b)))) 153 n 0) 154 n 1) 155 n (zbo (((bt 8 a) ∧ (bt 8 b)) ∧ (bt 7 a) ∧ (bt 7 b) ∧ ((bt 5 a) ∨ (bt 5 b))))) 156 n (zbo (bt 9 a))) 146 n ((0 : Int32) ||| tx)) 156 n (zbo ((bt 9 a) ∨ (bt 9 b)))) ht79 rfl rfl ?_
                      refine zv_ci (S' := sI (sI (sI (sI (sI (sI (sI (sI (sI (sI (sI (sI (sI (sI S 145 n 1) 147 n (zbo ((bt 0 a) ∧ (bt 0 b)))) 148 n (zbo (((bt 1 a) ∧ (bt 0 b)) ∨ ((bt 0 a) ∧ (bt 1 b))))) 149 n 0) 150 n 1) 151 n 1) 152 n (zbo ((bt 5 a) ∧ (bt 5 b)))) 153 n 0) 154 n 1) 155 n (zbo (((bt 8 a) ∧ (bt 8 b)) ∧ (bt 7 a) ∧ (bt 7 b) ∧ ((bt 5 a) ∨ (bt 5 b))))) 156 n (zbo (bt 9 a))) 146 n ((0 : Int32) ||| tx)) 156 n (zbo ((bt 9 a) ∨ (bt 9 b)))) 146 n (((0 : Int32) ||| tx) ||| ty)) ht79 rfl rfl ⟨(zhas_of (htn) rfl), (show n < gN S from by omega)⟩ ?_
                      exact zv_rt ht79 rfl rfl rfl rfl k86
                    have J82 : ((bt 9 a) ∨ (bt 9 b)) → zEv (d - 1) 286 68 [.ref n, .ref y, .retAddr 0] [.ref n] (sI (sI (sI (sI (sI (sI (sI (sI (sI (sI (sI (sI S 145 n 1) 147 n (zbo ((bt 0 a) ∧ (bt 0 b)))) 148 n (zbo (((bt 1 a) ∧ (bt 0 b)) ∨ ((bt 0 a) ∧ (bt 1 b))))) 149 n 0) 150 n 1) 151 n 1) 152 n (zbo ((bt 5 a) ∧ (bt 5 b)))) 153 n 0) 154 n 1) 155 n (zbo (((bt 8 a) ∧ (bt 8 b)) ∧ (bt 7 a) ∧ (bt 7 b) ∧ ((bt 5 a) ∨ (bt 5 b))))) 156 n (zbo (bt 9 a))) 146 n ((0 : Int32) ||| tx)) pst77 := by
                      intro b83
                      refine zv_c1 ht79 rfl rfl (zv_c1 ht79 rfl rfl ?_)
                      exact (zv_sub (zz := zbo ((bt 9 a) ∨ (bt 9 b))) (zy := 1) (p := fun zz => zEv (d - 1) 286 73 [.ref n, .ref y, .retAddr 0] [.int zz, .ref n] (sI (sI (sI (sI (sI (sI (sI (sI (sI (sI (sI (sI S 145 n 1) 147 n (zbo ((bt 0 a) ∧ (bt 0 b)))) 148 n (zbo (((bt 1 a) ∧ (bt 0 b)) ∨ ((bt 0 a) ∧ (bt 1 b))))) 149 n 0) 150 n 1) 151 n 1) 152 n (zbo ((bt 5 a) ∧ (bt 5 b)))) 153 n 0) 154 n 1) 155 n (zbo (((bt 8 a) ∧ (bt 8 b)) ∧ (bt 7 a) ∧ (bt 7 b) ∧ ((bt 5 a) ∨ (bt 5 b))))) 156 n (zbo (bt 9 a))) 146 n ((0 : Int32) ||| tx)) pst77) (zbo_pos b83) J84)
                    refine zv_br ht79 rfl rfl rfl (fun b80 => ?_) (fun b80 => ?_)
                    · replace b80 : bt 9 a := Classical.byContradiction (fun h => b80 ((zbo_eq0 : (zbo (bt 9 a)) = 0 ↔ ¬ (bt 9 a)).mpr h))
                      exact zEv.wk (L := [.ref n, .ref y, .retAddr 0]) (L' := [.ref n, .ref y, .int 0]) (And.intro (Or.inl rfl) (And.intro (Or.inl rfl) (And.intro (Or.inr rfl) trivial))) (J82 (Or.inl b80))
                    · replace b80 : ¬ (bt 9 a) := (zbo_eq0 : (zbo (bt 9 a)) = 0 ↔ ¬ (bt 9 a)).mp (Classical.not_not.mp b80)
                      refine zv_c1 ht79 rfl rfl ?_
                      refine zv_ei (x := zbo (bt 9 b)) ht79 rfl rfl (zhas_nc hcy (by decide)) (Eq.trans (gI_sI_ne (by omega)) hmixedy) ?_
                      refine zv_br ht79 rfl rfl rfl (fun b81 => ?_) (fun b81 => ?_)
                      · replace b81 : ¬ (bt 9 b) := (zbo_eq0 : (zbo (bt 9 b)) = 0 ↔ ¬ (bt 9 b)).mp b81
                        refine zv_c1 ht79 rfl rfl ?_
                        exact zEv.wk (L := [.ref n, .ref y, .retAddr 0]) (L' := [.ref n, .ref y, .int 0]) (And.intro (Or.inl rfl) (And.intro (Or.inl rfl) (And.intro (Or.inr rfl) trivial))) (zv_sub (zz := zbo ((bt 9 a) ∨ (bt 9 b))) (zy := 0) (p := fun zz => zEv (d - 1) 286 73 [.ref n, .ref y, .retAddr 0] [.int zz, .ref n] (sI (sI (sI (sI (sI (sI (sI (sI (sI (sI (sI (sI S 145 n 1) 147 n (zbo ((bt 0 a) ∧ (bt 0 b)))) 148 n (zbo (((bt 1 a) ∧ (bt 0 b)) ∨ ((bt 0 a) ∧ (bt 1 b))))) 149 n 0) 150 n 1) 151 n 1) 152 n (zbo ((bt 5 a) ∧ (bt 5 b)))) 153 n 0) 154 n 1) 155 n (zbo (((bt 8 a) ∧ (bt 8 b)) ∧ (bt 7 a) ∧ (bt 7 b) ∧ ((bt 5 a) ∨ (bt 5 b))))) 156 n (zbo (bt 9 a))) 146 n ((0 : Int32) ||| tx)) pst77) (zbo_neg (fun h => h.elim b80 b81)) J84)
                      · replace b81 : bt 9 b := Classical.byContradiction (fun h => b81 ((zbo_eq0 : (zbo (bt 9 b)) = 0 ↔ ¬ (bt 9 b)).mpr h))
                        exact zEv.wk (L := [.ref n, .ref y, .retAddr 0]) (L' := [.ref n, .ref y, .int 0]) (And.intro (Or.inl rfl) (And.intro (Or.inl rfl) (And.intro (Or.inr rfl) trivial))) (J82 (Or.inr b81))
                  refine zv_cl ht rfl rfl rfl (zv_tgv (htn) rfl) (by omega) (Nat.le_of_ble_eq_true rfl) (C78 _ ?_)
                  show zEv d 371 836 [.ref n, .retAddr 0, .retAddr 0, .retAddr 0, .retAddr 0, .retAddr 0, .retAddr 0] [] (sI (sI (sI (sI (sI (sI (sI (sI (sI (sI (sI (sI (sI (sI S 145 n 1) 147 n (zbo ((bt 0 a) ∧ (bt 0 b)))) 148 n (zbo (((bt 1 a) ∧ (bt 0 b)) ∨ ((bt 0 a) ∧ (bt 1 b))))) 149 n 0) 150 n 1) 151 n 1) 152 n (zbo ((bt 5 a) ∧ (bt 5 b)))) 153 n 0) 154 n 1) 155 n (zbo (((bt 8 a) ∧ (bt 8 b)) ∧ (bt 7 a) ∧ (bt 7 b) ∧ ((bt 5 a) ∨ (bt 5 b))))) 156 n (zbo (bt 9 a))) 146 n ((0 : Int32) ||| tx)) 156 n (zbo ((bt 9 a) ∨ (bt 9 b)))) 146 n (((0 : Int32) ||| tx) ||| ty)) post
                  exact zv_rt ht rfl rfl rfl rfl (h1 b13)
                have J61 : ((¬ ((bt 8 a) ∧ (bt 8 b))) ∨ (¬ (bt 7 a)) ∨ (¬ (bt 7 b)) ∨ (¬ ((bt 5 a) ∨ (bt 5 b)))) → zEv d 371 528 [.ref n, .retAddr 0, .retAddr 0, .retAddr 0, .retAddr 0, .retAddr 0, .retAddr 0] [.int 1, .int 0, .int (zbo ((bt 5 a) ∧ (bt 5 b))), .ref n] (sI (sI (sI (sI (sI (sI S 145 n 1) 147 n (zbo ((bt 0 a) ∧ (bt 0 b)))) 148 n (zbo (((bt 1 a) ∧ (bt 0 b)) ∨ ((bt 0 a) ∧ (bt 1 b))))) 149 n 0) 150 n 1) 151 n 1) post := by
                  intro b62
                  refine zv_c1 ht rfl rfl ?_
                  exact (zv_sub (zz := zbo (((bt 8 a) ∧ (bt 8 b)) ∧ (bt 7 a) ∧ (bt 7 b) ∧ ((bt 5 a) ∨ (bt 5 b)))) (zy := 0) (p := fun zz => zEv d 371 529 [.ref n, .retAddr 0, .retAddr 0, .retAddr 0, .retAddr 0, .retAddr 0, .retAddr 0] [.int zz, .int 1, .int 0, .int (zbo ((bt 5 a) ∧ (bt 5 b))), .ref n] (sI (sI (sI (sI (sI (sI S 145 n 1) 147 n (zbo ((bt 0 a) ∧ (bt 0 b)))) 148 n (zbo (((bt 1 a) ∧ (bt 0 b)) ∨ ((bt 0 a) ∧ (bt 1 b))))) 149 n 0) 150 n 1) 151 n 1) post) (zbo_neg (b62.elim (fun y1 => (fun h => y1 h.1)) (fun y1 => (y1.elim (fun y2 => (fun h => (fun h => y2 h.1) h.2)) (fun y2 => (y2.elim (fun y3 => (fun h => (fun h => (fun h => y3 h.1) h.2) h.2)) (fun y3 => (fun h => (fun h => (fun h => y3 h.2) h.2) h.2)))))))) J63)
                refine zv_br ht rfl rfl rfl (fun b57 => ?_) (fun b57 => ?_)
                · replace b57 : ¬ ((bt 8 a) ∧ (bt 8 b)) := (zbo_eq0 : (zbo ((bt 8 a) ∧ (bt 8 b))) = 0 ↔ ¬ ((bt 8 a) ∧ (bt 8 b))).mp b57
                  exact zEv.wk (L := [.ref n, .retAddr 0, .retAddr 0, .retAddr 0, .retAddr 0, .retAddr 0, .retAddr 0]) (L' := [.ref n, .int (zbo ((bt 0 a) ∧ (bt 0 b))), .int (zbo ((bt 1 a) ∧ (bt 0 b))), .int (zbo (((bt 1 a) ∧ (bt 0 b)) ∨ ((bt 0 a) ∧ (bt 1 b)))), .int (zbo ((bt 8 a) ∧ (bt 8 b))), .int (zbo ((bt 5 a) ∨ (bt 5 b))), .int (zbo ((bt 5 a) ∧ (bt 5 b)))]) (And.intro (Or.inl rfl) (And.intro (Or.inr rfl) (And.intro (Or.inr rfl) (And.intro (Or.inr rfl) (And.intro (Or.inr rfl) (And.intro (Or.inr rfl) (And.intro (Or.inr rfl) trivial))))))) (J61 (Or.inl b57))
                · replace b57 : (bt 8 a) ∧ (bt 8 b) := Classical.byContradiction (fun h => b57 ((zbo_eq0 : (zbo ((bt 8 a) ∧ (bt 8 b))) = 0 ↔ ¬ ((bt 8 a) ∧ (bt 8 b))).mpr h))
                  refine zv_c1 ht rfl rfl ?_
                  refine zv_g3 (q := x) ht rfl hF rfl rfl (zhas_of (htn) rfl) hpx ?_
                  refine zv_ei (x := zbo (bt 7 a)) ht rfl rfl (zhas_nc hcx (by decide)) hex ?_
                  refine zv_br ht rfl rfl rfl (fun b58 => ?_) (fun b58 => ?_)
                  · replace b58 : ¬ (bt 7 a) := (zbo_eq0 : (zbo (bt 7 a)) = 0 ↔ ¬ (bt 7 a)).mp b58
                    exact zEv.wk (L := [.ref n, .retAddr 0, .retAddr 0, .retAddr 0, .retAddr 0, .retAddr 0, .retAddr 0]) (L' := [.ref n, .int (zbo ((bt 0 a) ∧ (bt 0 b))), .int (zbo ((bt 1 a) ∧ (bt 0 b))), .int (zbo (((bt 1 a) ∧ (bt 0 b)) ∨ ((bt 0 a) ∧ (bt 1 b)))), .int (zbo ((bt 8 a) ∧ (bt 8 b))), .int (zbo ((bt 5 a) ∨ (bt 5 b))), .int (zbo ((bt 5 a) ∧ (bt 5 b)))]) (And.intro (Or.inl rfl) (And.intro (Or.inr rfl) (And.intro (Or.inr rfl) (And.intro (Or.inr rfl) (And.intro (Or.inr rfl) (And.intro (Or.inr rfl) (And.intro (Or.inr rfl) trivial))))))) (J61 (Or.inr (Or.inl b58)))
                  · replace b58 : bt 7 a := Classical.byContradiction (fun h => b58 ((zbo_eq0 : (zbo (bt 7 a)) = 0 ↔ ¬ (bt 7 a)).mpr h))
                    refine zv_c1 ht rfl rfl ?_
                    refine zv_g3 (q := y) ht rfl hF rfl rfl (zhas_of (htn) rfl) hpy ?_
                    refine zv_ei (x := zbo (bt 7 b)) ht rfl rfl (zhas_nc hcy (by decide)) hey ?_
                    refine zv_br ht rfl rfl rfl (fun b59 => ?_) (fun b59 => ?_)
                    · replace b59 : ¬ (bt 7 b) := (zbo_eq0 : (zbo (bt 7 b)) = 0 ↔ ¬ (bt 7 b)).mp b59
                      exact zEv.wk (L := [.ref n, .retAddr 0, .retAddr 0, .retAddr 0, .retAddr 0, .retAddr 0, .retAddr 0]) (L' := [.ref n, .int (zbo ((bt 0 a) ∧ (bt 0 b))), .int (zbo ((bt 1 a) ∧ (bt 0 b))), .int (zbo (((bt 1 a) ∧ (bt 0 b)) ∨ ((bt 0 a) ∧ (bt 1 b)))), .int (zbo ((bt 8 a) ∧ (bt 8 b))), .int (zbo ((bt 5 a) ∨ (bt 5 b))), .int (zbo ((bt 5 a) ∧ (bt 5 b)))]) (And.intro (Or.inl rfl) (And.intro (Or.inr rfl) (And.intro (Or.inr rfl) (And.intro (Or.inr rfl) (And.intro (Or.inr rfl) (And.intro (Or.inr rfl) (And.intro (Or.inr rfl) trivial))))))) (J61 (Or.inr (Or.inr (Or.inl b59))))
                    · replace b59 : bt 7 b := Classical.byContradiction (fun h => b59 ((zbo_eq0 : (zbo (bt 7 b)) = 0 ↔ ¬ (bt 7 b)).mpr h))
                      refine zv_c1 ht rfl rfl ?_
                      refine zv_br ht rfl rfl rfl (fun b60 => ?_) (fun b60 => ?_)
                      · replace b60 : ¬ ((bt 5 a) ∨ (bt 5 b)) := (zbo_eq0 : (zbo ((bt 5 a) ∨ (bt 5 b))) = 0 ↔ ¬ ((bt 5 a) ∨ (bt 5 b))).mp b60
                        exact zEv.wk (L := [.ref n, .retAddr 0, .retAddr 0, .retAddr 0, .retAddr 0, .retAddr 0, .retAddr 0]) (L' := [.ref n, .int (zbo ((bt 0 a) ∧ (bt 0 b))), .int (zbo ((bt 1 a) ∧ (bt 0 b))), .int (zbo (((bt 1 a) ∧ (bt 0 b)) ∨ ((bt 0 a) ∧ (bt 1 b)))), .int (zbo ((bt 8 a) ∧ (bt 8 b))), .int (zbo ((bt 5 a) ∨ (bt 5 b))), .int (zbo ((bt 5 a) ∧ (bt 5 b)))]) (And.intro (Or.inl rfl) (And.intro (Or.inr rfl) (And.intro (Or.inr rfl) (And.intro (Or.inr rfl) (And.intro (Or.inr rfl) (And.intro (Or.inr rfl) (And.intro (Or.inr rfl) trivial))))))) (J61 (Or.inr (Or.inr (Or.inr b60))))
                      · replace b60 : (bt 5 a) ∨ (bt 5 b) := Classical.byContradiction (fun h => b60 ((zbo_eq0 : (zbo ((bt 5 a) ∨ (bt 5 b))) = 0 ↔ ¬ ((bt 5 a) ∨ (bt 5 b))).mpr h))
                        refine zv_c1 ht rfl rfl (zv_c1 ht rfl rfl ?_)
                        exact zEv.wk (L := [.ref n, .retAddr 0, .retAddr 0, .retAddr 0, .retAddr 0, .retAddr 0, .retAddr 0]) (L' := [.ref n, .int (zbo ((bt 0 a) ∧ (bt 0 b))), .int (zbo ((bt 1 a) ∧ (bt 0 b))), .int (zbo (((bt 1 a) ∧ (bt 0 b)) ∨ ((bt 0 a) ∧ (bt 1 b)))), .int (zbo ((bt 8 a) ∧ (bt 8 b))), .int (zbo ((bt 5 a) ∨ (bt 5 b))), .int (zbo ((bt 5 a) ∧ (bt 5 b)))]) (And.intro (Or.inl rfl) (And.intro (Or.inr rfl) (And.intro (Or.inr rfl) (And.intro (Or.inr rfl) (And.intro (Or.inr rfl) (And.intro (Or.inr rfl) (And.intro (Or.inr rfl) trivial))))))) (zv_sub (zz := zbo (((bt 8 a) ∧ (bt 8 b)) ∧ (bt 7 a) ∧ (bt 7 b) ∧ ((bt 5 a) ∨ (bt 5 b)))) (zy := 1) (p := fun zz => zEv d 371 529 [.ref n, .retAddr 0, .retAddr 0, .retAddr 0, .retAddr 0, .retAddr 0, .retAddr 0] [.int zz, .int 1, .int 0, .int (zbo ((bt 5 a) ∧ (bt 5 b))), .ref n] (sI (sI (sI (sI (sI (sI S 145 n 1) 147 n (zbo ((bt 0 a) ∧ (bt 0 b)))) 148 n (zbo (((bt 1 a) ∧ (bt 0 b)) ∨ ((bt 0 a) ∧ (bt 1 b))))) 149 n 0) 150 n 1) 151 n 1) post) (zbo_pos ⟨b57, ⟨b58, ⟨b59, b60⟩⟩⟩) J63)
              have J49 : ((¬ (bt 5 a)) ∨ (¬ (bt 5 b))) → zEv d 371 172 [.ref n, .int (zbo ((bt 0 a) ∧ (bt 0 b))), .int (zbo ((bt 1 a) ∧ (bt 0 b))), .int (zbo (((bt 1 a) ∧ (bt 0 b)) ∨ ((bt 0 a) ∧ (bt 1 b)))), .int (zbo ((bt 8 a) ∧ (bt 8 b))), .int (zbo ((bt 5 a) ∨ (bt 5 b))), .retAddr 0] [] S post := by
                intro b50
                refine zv_c1 ht rfl rfl ?_
                exact (zv_sub (zz := zbo ((bt 5 a) ∧ (bt 5 b))) (zy := 0) (p := fun zz => zEv d 371 173 [.ref n, .int (zbo ((bt 0 a) ∧ (bt 0 b))), .int (zbo ((bt 1 a) ∧ (bt 0 b))), .int (zbo (((bt 1 a) ∧ (bt 0 b)) ∨ ((bt 0 a) ∧ (bt 1 b)))), .int (zbo ((bt 8 a) ∧ (bt 8 b))), .int (zbo ((bt 5 a) ∨ (bt 5 b))), .retAddr 0] [.int zz] S post) (zbo_neg (b50.elim (fun y1 => (fun h => y1 h.1)) (fun y1 => (fun h => y1 h.2)))) J51)
              refine zv_br ht rfl rfl rfl (fun b47 => ?_) (fun b47 => ?_)
              · replace b47 : ¬ (bt 5 a) := (zbo_eq0 : (zbo (bt 5 a)) = 0 ↔ ¬ (bt 5 a)).mp b47
                exact (J49 (Or.inl b47))
              · replace b47 : bt 5 a := Classical.byContradiction (fun h => b47 ((zbo_eq0 : (zbo (bt 5 a)) = 0 ↔ ¬ (bt 5 a)).mpr h))
                refine zv_c1 ht rfl rfl ?_
                refine zv_g3 (q := y) ht rfl hF rfl rfl (zhas_of (htn) rfl) hpy ?_
                refine zv_ei (x := zbo (bt 5 b)) ht rfl rfl (zhas_nc hcy (by decide)) hsy ?_
                refine zv_br ht rfl rfl rfl (fun b48 => ?_) (fun b48 => ?_)
                · replace b48 : ¬ (bt 5 b) := (zbo_eq0 : (zbo (bt 5 b)) = 0 ↔ ¬ (bt 5 b)).mp b48
                  exact (J49 (Or.inr b48))
                · replace b48 : bt 5 b := Classical.byContradiction (fun h => b48 ((zbo_eq0 : (zbo (bt 5 b)) = 0 ↔ ¬ (bt 5 b)).mpr h))
                  refine zv_c1 ht rfl rfl (zv_c1 ht rfl rfl ?_)
                  exact (zv_sub (zz := zbo ((bt 5 a) ∧ (bt 5 b))) (zy := 1) (p := fun zz => zEv d 371 173 [.ref n, .int (zbo ((bt 0 a) ∧ (bt 0 b))), .int (zbo ((bt 1 a) ∧ (bt 0 b))), .int (zbo (((bt 1 a) ∧ (bt 0 b)) ∨ ((bt 0 a) ∧ (bt 1 b)))), .int (zbo ((bt 8 a) ∧ (bt 8 b))), .int (zbo ((bt 5 a) ∨ (bt 5 b))), .retAddr 0] [.int zz] S post) (zbo_pos ⟨b47, b48⟩) J51)
            have J43 : ((bt 5 a) ∨ (bt 5 b)) → zEv d 371 141 [.ref n, .int (zbo ((bt 0 a) ∧ (bt 0 b))), .int (zbo ((bt 1 a) ∧ (bt 0 b))), .int (zbo (((bt 1 a) ∧ (bt 0 b)) ∨ ((bt 0 a) ∧ (bt 1 b)))), .int (zbo ((bt 8 a) ∧ (bt 8 b))), .retAddr 0, .retAddr 0] [] S post := by
              intro b44
              refine zv_c1 ht rfl rfl (zv_c1 ht rfl rfl ?_)
              exact (zv_sub (zz := zbo ((bt 5 a) ∨ (bt 5 b))) (zy := 1) (p := fun zz => zEv d 371 146 [.ref n, .int (zbo ((bt 0 a) ∧ (bt 0 b))), .int (zbo ((bt 1 a) ∧ (bt 0 b))), .int (zbo (((bt 1 a) ∧ (bt 0 b)) ∨ ((bt 0 a) ∧ (bt 1 b)))), .int (zbo ((bt 8 a) ∧ (bt 8 b))), .retAddr 0, .retAddr 0] [.int zz] S post) (zbo_pos b44) J45)
            refine zv_br ht rfl rfl rfl (fun b41 => ?_) (fun b41 => ?_)
            · replace b41 : bt 5 a := Classical.byContradiction (fun h => b41 ((zbo_eq0 : (zbo (bt 5 a)) = 0 ↔ ¬ (bt 5 a)).mpr h))
              exact (J43 (Or.inl b41))
            · replace b41 : ¬ (bt 5 a) := (zbo_eq0 : (zbo (bt 5 a)) = 0 ↔ ¬ (bt 5 a)).mp (Classical.not_not.mp b41)
              refine zv_c1 ht rfl rfl ?_
              refine zv_g3 (q := y) ht rfl hF rfl rfl (zhas_of (htn) rfl) hpy ?_
              refine zv_ei (x := zbo (bt 5 b)) ht rfl rfl (zhas_nc hcy (by decide)) hsy ?_
              refine zv_br ht rfl rfl rfl (fun b42 => ?_) (fun b42 => ?_)
              · replace b42 : ¬ (bt 5 b) := (zbo_eq0 : (zbo (bt 5 b)) = 0 ↔ ¬ (bt 5 b)).mp b42
                refine zv_c1 ht rfl rfl ?_
                exact (zv_sub (zz := zbo ((bt 5 a) ∨ (bt 5 b))) (zy := 0) (p := fun zz => zEv d 371 146 [.ref n, .int (zbo ((bt 0 a) ∧ (bt 0 b))), .int (zbo ((bt 1 a) ∧ (bt 0 b))), .int (zbo (((bt 1 a) ∧ (bt 0 b)) ∨ ((bt 0 a) ∧ (bt 1 b)))), .int (zbo ((bt 8 a) ∧ (bt 8 b))), .retAddr 0, .retAddr 0] [.int zz] S post) (zbo_neg (fun h => h.elim b41 b42)) J45)
              · replace b42 : bt 5 b := Classical.byContradiction (fun h => b42 ((zbo_eq0 : (zbo (bt 5 b)) = 0 ↔ ¬ (bt 5 b)).mpr h))
                exact (J43 (Or.inr b42))
          have J37 : ((¬ (bt 8 a)) ∨ (¬ (bt 8 b))) → zEv d 371 118 [.ref n, .int (zbo ((bt 0 a) ∧ (bt 0 b))), .int (zbo ((bt 1 a) ∧ (bt 0 b))), .int (zbo (((bt 1 a) ∧ (bt 0 b)) ∨ ((bt 0 a) ∧ (bt 1 b)))), .retAddr 0, .retAddr 0, .retAddr 0] [] S post := by
            intro b38
            refine zv_c1 ht rfl rfl ?_
            exact (zv_sub (zz := zbo ((bt 8 a) ∧ (bt 8 b))) (zy := 0) (p := fun zz => zEv d 371 119 [.ref n, .int (zbo ((bt 0 a) ∧ (bt 0 b))), .int (zbo ((bt 1 a) ∧ (bt 0 b))), .int (zbo (((bt 1 a) ∧ (bt 0 b)) ∨ ((bt 0 a) ∧ (bt 1 b)))), .retAddr 0, .retAddr 0, .retAddr 0] [.int zz] S post) (zbo_neg (b38.elim (fun y1 => (fun h => y1 h.1)) (fun y1 => (fun h => y1 h.2)))) J39)
          refine zv_br ht rfl rfl rfl (fun b35 => ?_) (fun b35 => ?_)
          · replace b35 : ¬ (bt 8 a) := (zbo_eq0 : (zbo (bt 8 a)) = 0 ↔ ¬ (bt 8 a)).mp b35
            exact (J37 (Or.inl b35))
          · replace b35 : bt 8 a := Classical.byContradiction (fun h => b35 ((zbo_eq0 : (zbo (bt 8 a)) = 0 ↔ ¬ (bt 8 a)).mpr h))
            refine zv_c1 ht rfl rfl ?_
            refine zv_g3 (q := y) ht rfl hF rfl rfl (zhas_of (htn) rfl) hpy ?_
            refine zv_ei (x := zbo (bt 8 b)) ht rfl rfl (zhas_nc hcy (by decide)) hmy ?_
            refine zv_br ht rfl rfl rfl (fun b36 => ?_) (fun b36 => ?_)
            · replace b36 : ¬ (bt 8 b) := (zbo_eq0 : (zbo (bt 8 b)) = 0 ↔ ¬ (bt 8 b)).mp b36
              exact (J37 (Or.inr b36))
            · replace b36 : bt 8 b := Classical.byContradiction (fun h => b36 ((zbo_eq0 : (zbo (bt 8 b)) = 0 ↔ ¬ (bt 8 b)).mpr h))
              refine zv_c1 ht rfl rfl (zv_c1 ht rfl rfl ?_)
              exact (zv_sub (zz := zbo ((bt 8 a) ∧ (bt 8 b))) (zy := 1) (p := fun zz => zEv d 371 119 [.ref n, .int (zbo ((bt 0 a) ∧ (bt 0 b))), .int (zbo ((bt 1 a) ∧ (bt 0 b))), .int (zbo (((bt 1 a) ∧ (bt 0 b)) ∨ ((bt 0 a) ∧ (bt 1 b)))), .retAddr 0, .retAddr 0, .retAddr 0] [.int zz] S post) (zbo_pos ⟨b35, b36⟩) J39)
        have J31 : (((bt 1 a) ∧ (bt 0 b)) ∨ ((bt 0 a) ∧ (bt 1 b))) → zEv d 371 88 [.ref n, .int (zbo ((bt 0 a) ∧ (bt 0 b))), .int (zbo ((bt 1 a) ∧ (bt 0 b))), .retAddr 0, .retAddr 0, .retAddr 0, .retAddr 0] [] S post := by
          intro b32
          refine zv_c1 ht rfl rfl (zv_c1 ht rfl rfl ?_)
          exact (zv_sub (zz := zbo (((bt 1 a) ∧ (bt 0 b)) ∨ ((bt 0 a) ∧ (bt 1 b)))) (zy := 1) (p := fun zz => zEv d 371 93 [.ref n, .int (zbo ((bt 0 a) ∧ (bt 0 b))), .int (zbo ((bt 1 a) ∧ (bt 0 b))), .retAddr 0, .retAddr 0, .retAddr 0, .retAddr 0] [.int zz] S post) (zbo_pos b32) J33)
        refine zv_br ht rfl rfl rfl (fun b26 => ?_) (fun b26 => ?_)
        · replace b26 : (bt 1 a) ∧ (bt 0 b) := Classical.byContradiction (fun h => b26 ((zbo_eq0 : (zbo ((bt 1 a) ∧ (bt 0 b))) = 0 ↔ ¬ ((bt 1 a) ∧ (bt 0 b))).mpr h))
          exact (J31 (Or.inl b26))
        · replace b26 : ¬ ((bt 1 a) ∧ (bt 0 b)) := (zbo_eq0 : (zbo ((bt 1 a) ∧ (bt 0 b))) = 0 ↔ ¬ ((bt 1 a) ∧ (bt 0 b))).mp (Classical.not_not.mp b26)
          refine zv_c1 ht rfl rfl ?_
          refine zv_g3 (q := x) ht rfl hF rfl rfl (zhas_of (htn) rfl) hpx ?_
          refine zv_ei (x := zbo (bt 0 a)) ht rfl rfl (zhas_nc hcx (by decide)) hzx ?_
          have J29 : ((¬ (bt 0 a)) ∨ (¬ (bt 1 b))) → zEv d 371 92 [.ref n, .int (zbo ((bt 0 a) ∧ (bt 0 b))), .int (zbo ((bt 1 a) ∧ (bt 0 b))), .retAddr 0, .retAddr 0, .retAddr 0, .retAddr 0] [] S post := by
            intro b30
            refine zv_c1 ht rfl rfl ?_
            exact (zv_sub (zz := zbo (((bt 1 a) ∧ (bt 0 b)) ∨ ((bt 0 a) ∧ (bt 1 b)))) (zy := 0) (p := fun zz => zEv d 371 93 [.ref n, .int (zbo ((bt 0 a) ∧ (bt 0 b))), .int (zbo ((bt 1 a) ∧ (bt 0 b))), .retAddr 0, .retAddr 0, .retAddr 0, .retAddr 0] [.int zz] S post) (zbo_neg (b30.elim (fun y1 => (fun h => h.elim b26 (fun h => y1 h.1))) (fun y1 => (fun h => h.elim b26 (fun h => y1 h.2))))) J33)
          refine zv_br ht rfl rfl rfl (fun b27 => ?_) (fun b27 => ?_)
          · replace b27 : ¬ (bt 0 a) := (zbo_eq0 : (zbo (bt 0 a)) = 0 ↔ ¬ (bt 0 a)).mp b27
            exact (J29 (Or.inl b27))
          · replace b27 : bt 0 a := Classical.byContradiction (fun h => b27 ((zbo_eq0 : (zbo (bt 0 a)) = 0 ↔ ¬ (bt 0 a)).mpr h))
            refine zv_c1 ht rfl rfl ?_
            refine zv_g3 (q := y) ht rfl hF rfl rfl (zhas_of (htn) rfl) hpy ?_
            refine zv_ei (x := zbo (bt 1 b)) ht rfl rfl (zhas_nc hcy (by decide)) hoy ?_
            refine zv_br ht rfl rfl rfl (fun b28 => ?_) (fun b28 => ?_)
            · replace b28 : ¬ (bt 1 b) := (zbo_eq0 : (zbo (bt 1 b)) = 0 ↔ ¬ (bt 1 b)).mp b28
              exact (J29 (Or.inr b28))
            · replace b28 : bt 1 b := Classical.byContradiction (fun h => b28 ((zbo_eq0 : (zbo (bt 1 b)) = 0 ↔ ¬ (bt 1 b)).mpr h))
              exact (J31 (Or.inr ⟨b27, b28⟩))
      have J22 : ((¬ (bt 1 a)) ∨ (¬ (bt 0 b))) → zEv d 371 62 [.ref n, .int (zbo ((bt 0 a) ∧ (bt 0 b))), .retAddr 0, .retAddr 0, .retAddr 0, .retAddr 0, .retAddr 0] [] S post := by
        intro b23
        refine zv_c1 ht rfl rfl ?_
        exact (zv_sub (zz := zbo ((bt 1 a) ∧ (bt 0 b))) (zy := 0) (p := fun zz => zEv d 371 63 [.ref n, .int (zbo ((bt 0 a) ∧ (bt 0 b))), .retAddr 0, .retAddr 0, .retAddr 0, .retAddr 0, .retAddr 0] [.int zz] S post) (zbo_neg (b23.elim (fun y1 => (fun h => y1 h.1)) (fun y1 => (fun h => y1 h.2)))) J24)
      refine zv_br ht rfl rfl rfl (fun b20 => ?_) (fun b20 => ?_)
      · replace b20 : ¬ (bt 1 a) := (zbo_eq0 : (zbo (bt 1 a)) = 0 ↔ ¬ (bt 1 a)).mp b20
        exact (J22 (Or.inl b20))
      · replace b20 : bt 1 a := Classical.byContradiction (fun h => b20 ((zbo_eq0 : (zbo (bt 1 a)) = 0 ↔ ¬ (bt 1 a)).mpr h))
        refine zv_c1 ht rfl rfl ?_
        refine zv_g3 (q := y) ht rfl hF rfl rfl (zhas_of (htn) rfl) hpy ?_
        refine zv_ei (x := zbo (bt 0 b)) ht rfl rfl (zhas_nc hcy (by decide)) hzy ?_
        refine zv_br ht rfl rfl rfl (fun b21 => ?_) (fun b21 => ?_)
        · replace b21 : ¬ (bt 0 b) := (zbo_eq0 : (zbo (bt 0 b)) = 0 ↔ ¬ (bt 0 b)).mp b21
          exact (J22 (Or.inr b21))
        · replace b21 : bt 0 b := Classical.byContradiction (fun h => b21 ((zbo_eq0 : (zbo (bt 0 b)) = 0 ↔ ¬ (bt 0 b)).mpr h))
          refine zv_c1 ht rfl rfl (zv_c1 ht rfl rfl ?_)
          exact (zv_sub (zz := zbo ((bt 1 a) ∧ (bt 0 b))) (zy := 1) (p := fun zz => zEv d 371 63 [.ref n, .int (zbo ((bt 0 a) ∧ (bt 0 b))), .retAddr 0, .retAddr 0, .retAddr 0, .retAddr 0, .retAddr 0] [.int zz] S post) (zbo_pos ⟨b20, b21⟩) J24)
    have J16 : ((¬ (bt 0 a)) ∨ (¬ (bt 0 b))) → zEv d 371 36 [.ref n, .retAddr 0, .retAddr 0, .retAddr 0, .retAddr 0, .retAddr 0, .retAddr 0] [] S post := by
      intro b17
      refine zv_c1 ht rfl rfl ?_
      exact (zv_sub (zz := zbo ((bt 0 a) ∧ (bt 0 b))) (zy := 0) (p := fun zz => zEv d 371 37 [.ref n, .retAddr 0, .retAddr 0, .retAddr 0, .retAddr 0, .retAddr 0, .retAddr 0] [.int zz] S post) (zbo_neg (b17.elim (fun y1 => (fun h => y1 h.1)) (fun y1 => (fun h => y1 h.2)))) J18)
    refine zv_br ht rfl rfl rfl (fun b14 => ?_) (fun b14 => ?_)
    · replace b14 : ¬ (bt 0 a) := (zbo_eq0 : (zbo (bt 0 a)) = 0 ↔ ¬ (bt 0 a)).mp b14
      exact (J16 (Or.inl b14))
    · replace b14 : bt 0 a := Classical.byContradiction (fun h => b14 ((zbo_eq0 : (zbo (bt 0 a)) = 0 ↔ ¬ (bt 0 a)).mpr h))
      refine zv_c1 ht rfl rfl ?_
      refine zv_g3 (q := y) ht rfl hF rfl rfl (zhas_of (htn) rfl) hpy ?_
      refine zv_ei (x := zbo (bt 0 b)) ht rfl rfl (zhas_nc hcy (by decide)) hzy ?_
      refine zv_br ht rfl rfl rfl (fun b15 => ?_) (fun b15 => ?_)
      · replace b15 : ¬ (bt 0 b) := (zbo_eq0 : (zbo (bt 0 b)) = 0 ↔ ¬ (bt 0 b)).mp b15
        exact (J16 (Or.inr b15))
      · replace b15 : bt 0 b := Classical.byContradiction (fun h => b15 ((zbo_eq0 : (zbo (bt 0 b)) = 0 ↔ ¬ (bt 0 b)).mpr h))
        refine zv_c1 ht rfl rfl (zv_c1 ht rfl rfl ?_)
        exact (zv_sub (zz := zbo ((bt 0 a) ∧ (bt 0 b))) (zy := 1) (p := fun zz => zEv d 371 37 [.ref n, .retAddr 0, .retAddr 0, .retAddr 0, .retAddr 0, .retAddr 0, .retAddr 0] [.int zz] S post) (zbo_pos ⟨b14, b15⟩) J18)
  · replace b13 : ¬ (((p + 1) = 1) ∧ (bt 3 a) ∧ ((q + 1) = 4) ∧ (bt 3 b)) := (zbo_eq0 : (zbo (((p + 1) = 1) ∧ (bt 3 a) ∧ ((q + 1) = 4) ∧ (bt 3 b))) = 0 ↔ ¬ (((p + 1) = 1) ∧ (bt 3 a) ∧ ((q + 1) = 4) ∧ (bt 3 b))).mp (Classical.not_not.mp b13)
    refine zv_c1 ht rfl rfl ?_
    have C88 : ∀ (pst87 : Outcome × zS → Prop), (pst87 (.returned (some (.ref (gN S))), sI (sI (sT (sNew S 8 0 (zslots 8)) (gN S) 8 1) 136 (gN S) 3) 137 (gN S) (gI S 144 n))) → zCall (d - 1) 283 [.ref n] S pst87 := by
      intro pst87 k94
      have ht89 : ztab 283 = ztb283 := rfl
      show zEv (d - 1) 283 0 [.ref n] [] S pst87
      refine zv_ci (st' := [.ref (gN S)]) (S' := sNew S 8 0 (zslots 8)) ht89 rfl rfl (znew_ok (show 1639 ≤ gN S from by omega) (show gN S < 2000000 from by omega)) ?_
      refine zv_c1 ht89 rfl rfl (zv_c1 ht89 rfl rfl (zv_c1 ht89 rfl rfl ?_))
      refine zv_ei (x := gI S 144 n) ht89 rfl rfl (zhas_of (Eq.trans (ztyp_new (S := S) (t := 8) (n := 0) (s := zslots 8) (show n ≠ gN S from by omega)) htn) rfl) (gI_new (S := S) (t := 8) (n := 0) (s := zslots 8) (show n ≠ gN S from by omega)) ?_
      have C91 : ∀ (pst90 : Outcome × zS → Prop), (pst90 (.returned none, sI (sI (sT (sNew S 8 0 (zslots 8)) (gN S) 8 1) 136 (gN S) 3) 137 (gN S) (gI S 144 n))) → zCall ((d - 1) - 1) 269 [.ref (gN S), .int 3, .int (gI S 144 n)] (sNew S 8 0 (zslots 8)) pst90 := by
        intro pst90 k93
        have ht92 : ztab 269 = ztb269 := rfl
        show zEv ((d - 1) - 1) 269 0 [.ref (gN S), .int 3, .int (gI S 144 n)] [] (sNew S 8 0 (zslots 8)) pst90
        refine zv_c1 ht92 rfl rfl ?_
        refine zv_ci (S' := sT (sNew S 8 0 (zslots 8)) (gN S) 8 1) ht92 rfl rfl ⟨ztyp_new_at (S := S) (t := 8) (n := 0) (s := zslots 8) (show 1639 ≤ gN S from by omega), (show gN S < gN S + 1 from by omega), zlen_new_at (S := S) (t := 8) (n := 0) (s := zslots 8) (show 1639 ≤ gN S from by omega)⟩ ?_
        refine zv_c1 ht92 rfl rfl (zv_c1 ht92 rfl rfl ?_)
        refine zv_ci (S' := sI (sT (sNew S 8 0 (zslots 8)) (gN S) 8 1) 136 (gN S) 3) ht92 rfl rfl ⟨⟨(zhas_of (ztyp_sT1 (show 1639 ≤ gN S from by omega)) rfl), (show gN S < gN S + 1 from by omega)⟩, zlen_sT1 (show 1639 ≤ gN S from by omega)⟩ ?_
        refine zv_c1 ht92 rfl rfl (zv_c1 ht92 rfl rfl ?_)
        refine zv_ci (S' := sI (sI (sT (sNew S 8 0 (zslots 8)) (gN S) 8 1) 136 (gN S) 3) 137 (gN S) (gI S 144 n)) ht92 rfl rfl ⟨⟨(zhas_of (ztyp_sT1 (show 1639 ≤ gN S from by omega)) rfl), (show gN S < gN S + 1 from by omega)⟩, zlen_sT1 (show 1639 ≤ gN S from by omega)⟩ ?_
        exact zv_rt ht92 rfl rfl rfl rfl k93
      refine zv_cl ht89 rfl rfl rfl rfl (by omega) (Nat.le_of_ble_eq_true rfl) (C91 _ ?_)
      show zEv (d - 1) 283 12 [.ref n] [.ref (gN S)] (sI (sI (sT (sNew S 8 0 (zslots 8)) (gN S) 8 1) 136 (gN S) 3) 137 (gN S) (gI S 144 n)) pst87
      exact zv_rt ht89 rfl rfl rfl rfl k94
    refine zv_cl ht rfl rfl rfl (zv_tgv (htn) rfl) (by omega) (Nat.le_of_ble_eq_true rfl) (C88 _ ?_)
    show zEv d 371 11 [.ref n, .retAddr 0, .retAddr 0, .retAddr 0, .retAddr 0, .retAddr 0, .retAddr 0] [.ref (gN S)] (sI (sI (sT (sNew S 8 0 (zslots 8)) (gN S) 8 1) 136 (gN S) 3) 137 (gN S) (gI S 144 n)) post
    exact zv_th ht rfl rfl rfl ⟨ztyp_sT1 (show 1639 ≤ gN S from by omega), (show gN S < gN S + 1 from by omega)⟩ rfl (h2 b13)

theorem pj_3 {d : Nat} {S : zS} (hF : zFin true S) (hd : 2 ≤ d) (n x y : Nat) (p q a b tx ty : Int32) (hn0 : 1639 ≤ n) (hn : n < gN S) (hx : x < gN S) (hxn : x ≠ n) (hy : y < gN S) (hyn : y ≠ n) (hcx : zNc (ztyp S x) = true) (hcy : zNc (ztyp S y) = true) (hN2 : gN S < 1900000) (htn : ztyp S n = 20) (how : gI S 187 n = Int32.ofNat 3) (hpx : gP S 188 n = some x) (hpy : gP S 189 n = some y) (hbx : gI S 145 x = p + 1) (hzx : gI S 147 x = zbo (bt 0 a)) (hox : gI S 148 x = zbo (bt 1 a)) (hnx : gI S 149 x = zbo (bt 2 a)) (hdx : gI S 150 x = zbo (bt 3 a)) (hux : gI S 151 x = zbo (bt 4 a)) (hsx : gI S 152 x = zbo (bt 5 a)) (hfx : gI S 153 x = zbo (bt 6 a)) (hex : gI S 154 x = zbo (bt 7 a)) (hmx : gI S 155 x = zbo (bt 8 a)) (hmixedx : gI S 156 x = zbo (bt 9 a)) (htx : gI S 146 x = tx) (hby : gI S 145 y = q + 1) (hzy : gI S 147 y = zbo (bt 0 b)) (hoy : gI S 148 y = zbo (bt 1 b)) (hny : gI S 149 y = zbo (bt 2 b)) (hdy : gI S 150 y = zbo (bt 3 b)) (huy : gI S 151 y = zbo (bt 4 b)) (hsy : gI S 152 y = zbo (bt 5 b)) (hfy : gI S 153 y = zbo (bt 6 b)) (hey : gI S 154 y = zbo (bt 7 b)) (hmy : gI S 155 y = zbo (bt 8 b)) (hmixedy : gI S 156 y = zbo (bt 9 b)) (hty : gI S 146 y = ty) (hm0 : gI S 156 n = zbo False) (ht0 : gI S 146 n = 0) {post : Outcome × zS → Prop} (h1 : ((((p + 1) = 1) ∧ (bt 3 a) ∧ (bt 4 a)) ∧ ((q + 1) = 2)) → post (.returned none, sI (sI (sI (sI (sI (sI (sI (sI (sI (sI (sI (sI (sI (sI S 145 n 2) 147 n (zbo ((bt 0 a) ∧ (bt 0 b)))) 148 n (zbo ((bt 1 a) ∧ (bt 0 b)))) 149 n 0) 150 n 0) 151 n 0) 152 n (zbo ((bt 5 a) ∧ (bt 5 b)))) 153 n 1) 154 n 0) 155 n (zbo (((bt 8 a) ∧ (bt 8 b)) ∧ (bt 7 a) ∧ ((bt 5 a) ∨ (bt 5 b))))) 156 n (zbo (bt 9 a))) 146 n ((0 : Int32) ||| tx)) 156 n (zbo ((bt 9 a) ∨ (bt 9 b)))) 146 n (((0 : Int32) ||| tx) ||| ty))) (h2 : (¬ ((((p + 1) = 1) ∧ (bt 3 a) ∧ (bt 4 a)) ∧ ((q + 1) = 2))) → post (.threw (gN S), sI (sI (sT (sNew S 8 0 (zslots 8)) (gN S) 8 1) 136 (gN S) 3) 137 (gN S) (gI S 144 n))) : zCall d 371 [.ref n] S post := by
  have ht : ztab 371 = ztb371 := rfl
  show zEv d 371 0 [.ref n, .retAddr 0, .retAddr 0, .retAddr 0, .retAddr 0, .retAddr 0, .retAddr 0] [] S post
  refine zv_c1 ht rfl rfl ?_
  have C2 : ∀ (pst1 : Outcome × zS → Prop), (pst1 (.returned (some (.int (zbo ((((p + 1) = 1) ∧ (bt 3 a) ∧ (bt 4 a)) ∧ ((q + 1) = 2))))), S)) → zCall (d - 1) 372 [.ref n] S pst1 := by
    intro pst1 k21
    have ht3 : ztab 372 = ztb372 := rfl
    show zEv (d - 1) 372 0 [.ref n] [] S pst1
    refine zv_c1 ht3 rfl rfl ?_
    refine zv_ei (x := 3) ht3 rfl rfl (zhas_of (htn) rfl) how ?_
    refine zv_sw ht3 rfl rfl rfl rfl rfl ?_
    refine And.intro (fun h => absurd h (by decide)) (fun _ => ?_)
    refine And.intro (fun h => absurd h (by decide)) (fun _ => ?_)
    refine And.intro (fun h => absurd h (by decide)) (fun _ => ?_)
    refine And.intro (fun _ => ?_) (fun h => absurd (by decide) h)
    refine zv_c1 ht3 rfl rfl ?_
    refine zv_g3 (q := x) ht3 rfl hF rfl rfl (zhas_of (htn) rfl) hpx ?_
    have C5 : ∀ (pst4 : Outcome × zS → Prop), (pst4 (.returned (some (.int (zbo (((p + 1) = 1) ∧ (bt 3 a) ∧ (bt 4 a))))), S)) → zCall ((d - 1) - 1) 281 [.ref x] S pst4 := by
      intro pst4 k14
      have ht6 : ztab 281 = ztb281 := rfl
      show zEv ((d - 1) - 1) 281 0 [.ref x] [] S pst4
      refine zv_c1 ht6 rfl rfl ?_
      refine zv_ei (x := p + 1) ht6 rfl rfl (zhas_nc hcx (by decide)) hbx ?_
      refine zv_c1 ht6 rfl rfl ?_
      have J12 : zEv ((d - 1) - 1) 281 27 [.retAddr 0] [.int (zbo (((p + 1) = 1) ∧ (bt 3 a) ∧ (bt 4 a)))] S pst4 := by
        exact zv_rc ht6 rfl rfl rfl rfl zbo_rng k14
      have J10 : ((¬ ((p + 1) = 1)) ∨ (¬ (bt 3 a)) ∨ (¬ (bt 4 a))) → zEv ((d - 1) - 1) 281 26 [.retAddr 0] [] S pst4 := by
        intro b11
        refine zv_c1 ht6 rfl rfl ?_
        exact (zv_sub (zz := zbo (((p + 1) = 1) ∧ (bt 3 a) ∧ (bt 4 a))) (zy := 0) (p := fun zz => zEv ((d - 1) - 1) 281 27 [.retAddr 0] [.int zz] S pst4) (zbo_neg (b11.elim (fun y1 => (fun h => y1 h.1)) (fun y1 => (y1.elim (fun y2 => (fun h => (fun h => y2 h.1) h.2)) (fun y2 => (fun h => (fun h => y2 h.2) h.2)))))) J12)
      refine zv_br ht6 rfl rfl rfl (fun b7 => ?_) (fun b7 => ?_)
      · exact zEv.wk (L := [.retAddr 0]) (L' := [.ref x]) (And.intro (Or.inr rfl) trivial) (J10 (Or.inl b7))
      · replace b7 : (p + 1) = 1 := Classical.not_not.mp b7
        refine zv_c1 ht6 rfl rfl ?_
        refine zv_ei (x := zbo (bt 3 a)) ht6 rfl rfl (zhas_nc hcx (by decide)) hdx ?_
        refine zv_br ht6 rfl rfl rfl (fun b8 => ?_) (fun b8 => ?_)
        · replace b8 : ¬ (bt 3 a) := (zbo_eq0 : (zbo (bt 3 a)) = 0 ↔ ¬ (bt 3 a)).mp b8
          exact zEv.wk (L := [.retAddr 0]) (L' := [.ref x]) (And.intro (Or.inr rfl) trivial) (J10 (Or.inr (Or.inl b8)))
        · replace b8 : bt 3 a := Classical.byContradiction (fun h => b8 ((zbo_eq0 : (zbo (bt 3 a)) = 0 ↔ ¬ (bt 3 a)).mpr h))
          refine zv_c1 ht6 rfl rfl ?_
          refine zv_ei (x := zbo (bt 4 a)) ht6 rfl rfl (zhas_nc hcx (by decide)) hux ?_
          refine zv_br ht6 rfl rfl rfl (fun b9 => ?_) (fun b9 => ?_)
          · replace b9 : ¬ (bt 4 a) := (zbo_eq0 : (zbo (bt 4 a)) = 0 ↔ ¬ (bt 4 a)).mp b9
            exact zEv.wk (L := [.retAddr 0]) (L' := [.ref x]) (And.intro (Or.inr rfl) trivial) (J10 (Or.inr (Or.inr b9)))
          · replace b9 : bt 4 a := Classical.byContradiction (fun h => b9 ((zbo_eq0 : (zbo (bt 4 a)) = 0 ↔ ¬ (bt 4 a)).mpr h))
            refine zv_c1 ht6 rfl rfl (zv_c1 ht6 rfl rfl ?_)
            exact zEv.wk (L := [.retAddr 0]) (L' := [.ref x]) (And.intro (Or.inr rfl) trivial) (zv_sub (zz := zbo (((p + 1) = 1) ∧ (bt 3 a) ∧ (bt 4 a))) (zy := 1) (p := fun zz => zEv ((d - 1) - 1) 281 27 [.retAddr 0] [.int zz] S pst4) (zbo_pos ⟨b7, ⟨b8, b9⟩⟩) J12)
    refine zv_cl ht3 rfl rfl rfl (zv_tgA hcx (by decide)) (by omega) (Nat.le_of_ble_eq_true rfl) (C5 _ ?_)
    show zEv (d - 1) 372 151 [.ref n] [.int (zbo (((p + 1) = 1) ∧ (bt 3 a) ∧ (bt 4 a)))] S pst1
    have J19 : zEv (d - 1) 372 170 [.retAddr 0] [.int (zbo ((((p + 1) = 1) ∧ (bt 3 a) ∧ (bt 4 a)) ∧ ((q + 1) = 2)))] S pst1 := by
      exact zv_rc ht3 rfl rfl rfl rfl zbo_rng k21
    have J17 : ((¬ (((p + 1) = 1) ∧ (bt 3 a) ∧ (bt 4 a))) ∨ (¬ ((q + 1) = 2))) → zEv (d - 1) 372 169 [.retAddr 0] [] S pst1 := by
      intro b18
      refine zv_c1 ht3 rfl rfl ?_
      exact (zv_sub (zz := zbo ((((p + 1) = 1) ∧ (bt 3 a) ∧ (bt 4 a)) ∧ ((q + 1) = 2))) (zy := 0) (p := fun zz => zEv (d - 1) 372 170 [.retAddr 0] [.int zz] S pst1) (zbo_neg (b18.elim (fun y1 => (fun h => y1 h.1)) (fun y1 => (fun h => y1 h.2)))) J19)
    refine zv_br ht3 rfl rfl rfl (fun b15 => ?_) (fun b15 => ?_)
    · replace b15 : ¬ (((p + 1) = 1) ∧ (bt 3 a) ∧ (bt 4 a)) := (zbo_eq0 : (zbo (((p + 1) = 1) ∧ (bt 3 a) ∧ (bt 4 a))) = 0 ↔ ¬ (((p + 1) = 1) ∧ (bt 3 a) ∧ (bt 4 a))).mp b15
      exact zEv.wk (L := [.retAddr 0]) (L' := [.ref n]) (And.intro (Or.inr rfl) trivial) (J17 (Or.inl b15))
    · replace b15 : ((p + 1) = 1) ∧ (bt 3 a) ∧ (bt 4 a) := Classical.byContradiction (fun h => b15 ((zbo_eq0 : (zbo (((p + 1) = 1) ∧ (bt 3 a) ∧ (bt 4 a))) = 0 ↔ ¬ (((p + 1) = 1) ∧ (bt 3 a) ∧ (bt 4 a))).mpr h))
      refine zv_c1 ht3 rfl rfl ?_
      refine zv_g3 (q := y) ht3 rfl hF rfl rfl (zhas_of (htn) rfl) hpy ?_
      refine zv_ei (x := q + 1) ht3 rfl rfl (zhas_nc hcy (by decide)) hby ?_
      refine zv_c1 ht3 rfl rfl ?_
      refine zv_br ht3 rfl rfl rfl (fun b16 => ?_) (fun b16 => ?_)
      · exact zEv.wk (L := [.retAddr 0]) (L' := [.ref n]) (And.intro (Or.inr rfl) trivial) (J17 (Or.inr b16))
      · replace b16 : (q + 1) = 2 := Classical.not_not.mp b16
        refine zv_c1 ht3 rfl rfl (zv_c1 ht3 rfl rfl ?_)
        exact zEv.wk (L := [.retAddr 0]) (L' := [.ref n]) (And.intro (Or.inr rfl) trivial) (zv_sub (zz := zbo ((((p + 1) = 1) ∧ (bt 3 a) ∧ (bt 4 a)) ∧ ((q + 1) = 2))) (zy := 1) (p := fun zz => zEv (d - 1) 372 170 [.retAddr 0] [.int zz] S pst1) (zbo_pos ⟨b15, b16⟩) J19)
  refine zv_cl ht rfl rfl rfl (zv_tgv (htn) rfl) (by omega) (Nat.le_of_ble_eq_true rfl) (C2 _ ?_)
  show zEv d 371 4 [.ref n, .retAddr 0, .retAddr 0, .retAddr 0, .retAddr 0, .retAddr 0, .retAddr 0] [.int (zbo ((((p + 1) = 1) ∧ (bt 3 a) ∧ (bt 4 a)) ∧ ((q + 1) = 2)))] S post
  refine zv_br ht rfl rfl rfl (fun b22 => ?_) (fun b22 => ?_)
  · replace b22 : (((p + 1) = 1) ∧ (bt 3 a) ∧ (bt 4 a)) ∧ ((q + 1) = 2) := Classical.byContradiction (fun h => b22 ((zbo_eq0 : (zbo ((((p + 1) = 1) ∧ (bt 3 a) ∧ (bt 4 a)) ∧ ((q + 1) = 2))) = 0 ↔ ¬ ((((p + 1) = 1) ∧ (bt 3 a) ∧ (bt 4 a)) ∧ ((q + 1) = 2))).mpr h))
    refine zv_c1 ht rfl rfl ?_
    refine zv_g3 (q := x) ht rfl hF rfl rfl (zhas_of (htn) rfl) hpx ?_
    refine zv_ei (x := zbo (bt 0 a)) ht rfl rfl (zhas_nc hcx (by decide)) hzx ?_
    have J27 : zEv d 371 37 [.ref n, .retAddr 0, .retAddr 0, .retAddr 0, .retAddr 0, .retAddr 0, .retAddr 0] [.int (zbo ((bt 0 a) ∧ (bt 0 b)))] S post := by
      refine zv_c2 (L' := [.ref n, .int (zbo ((bt 0 a) ∧ (bt 0 b))), .retAddr 0, .retAddr 0, .retAddr 0, .retAddr 0, .retAddr 0]) ht rfl rfl ?_
      refine zv_c1 ht rfl rfl ?_
      refine zv_g3 (q := x) ht rfl hF rfl rfl (zhas_of (htn) rfl) hpx ?_
      refine zv_ei (x := zbo (bt 1 a)) ht rfl rfl (zhas_nc hcx (by decide)) hox ?_
      have J33 : zEv d 371 63 [.ref n, .int (zbo ((bt 0 a) ∧ (bt 0 b))), .retAddr 0, .retAddr 0, .retAddr 0, .retAddr 0, .retAddr 0] [.int (zbo ((bt 1 a) ∧ (bt 0 b)))] S post := by
        refine zv_c2 (L' := [.ref n, .int (zbo ((bt 0 a) ∧ (bt 0 b))), .int (zbo ((bt 1 a) ∧ (bt 0 b))), .retAddr 0, .retAddr 0, .retAddr 0, .retAddr 0]) ht rfl rfl ?_
        refine zv_c1 ht rfl rfl ?_
        have J42 : zEv d 371 93 [.ref n, .int (zbo ((bt 0 a) ∧ (bt 0 b))), .int (zbo ((bt 1 a) ∧ (bt 0 b))), .retAddr 0, .retAddr 0, .retAddr 0, .retAddr 0] [.int (zbo (((bt 1 a) ∧ (bt 0 b)) ∨ ((bt 0 a) ∧ (bt 1 b))))] S post := by
          refine zv_c2 (L' := [.ref n, .int (zbo ((bt 0 a) ∧ (bt 0 b))), .int (zbo ((bt 1 a) ∧ (bt 0 b))), .int (zbo (((bt 1 a) ∧ (bt 0 b)) ∨ ((bt 0 a) ∧ (bt 1 b)))), .retAddr 0, .retAddr 0, .retAddr 0]) ht rfl rfl ?_
          refine zv_c1 ht rfl rfl ?_
          refine zv_g3 (q := x) ht rfl hF rfl rfl (zhas_of (htn) rfl) hpx ?_
          refine zv_ei (x := zbo (bt 8 a)) ht rfl rfl (zhas_nc hcx (by decide)) hmx ?_
          have J48 : zEv d 371 119 [.ref n, .int (zbo ((bt 0 a) ∧ (bt 0 b))), .int (zbo ((bt 1 a) ∧ (bt 0 b))), .int (zbo (((bt 1 a) ∧ (bt 0 b)) ∨ ((bt 0 a) ∧ (bt 1 b)))), .retAddr 0, .retAddr 0, .retAddr 0] [.int (zbo ((bt 8 a) ∧ (bt 8 b)))] S post := by
            refine zv_c2 (L' := [.ref n, .int (zbo ((bt 0 a) ∧ (bt 0 b))), .int (zbo ((bt 1 a) ∧ (bt 0 b))), .int (zbo (((bt 1 a) ∧ (bt 0 b)) ∨ ((bt 0 a) ∧ (bt 1 b)))), .int (zbo ((bt 8 a) ∧ (bt 8 b))), .retAddr 0, .retAddr 0]) ht rfl rfl ?_
            refine zv_c1 ht rfl rfl ?_
            refine zv_g3 (q := x) ht rfl hF rfl rfl (zhas_of (htn) rfl) hpx ?_
            refine zv_ei (x := zbo (bt 5 a)) ht rfl rfl (zhas_nc hcx (by decide)) hsx ?_
            have J54 : zEv d 371 146 [.ref n, .int (zbo ((bt 0 a) ∧ (bt 0 b))), .int (zbo ((bt 1 a) ∧ (bt 0 b))), .int (zbo (((bt 1 a) ∧ (bt 0 b)) ∨ ((bt 0 a) ∧ (bt 1 b)))), .int (zbo ((bt 8 a) ∧ (bt 8 b))), .retAddr 0, .retAddr 0] [.int (zbo ((bt 5 a) ∨ (bt 5 b)))] S post := by
              refine zv_c2 (L' := [.ref n, .int (zbo ((bt 0 a) ∧ (bt 0 b))), .int (zbo ((bt 1 a) ∧ (bt 0 b))), .int (zbo (((bt 1 a) ∧ (bt 0 b)) ∨ ((bt 0 a) ∧ (bt 1 b)))), .int (zbo ((bt 8 a) ∧ (bt 8 b))), .int (zbo ((bt 5 a) ∨ (bt 5 b))), .retAddr 0]) ht rfl rfl ?_
              refine zv_c1 ht rfl rfl ?_
              refine zv_g3 (q := x) ht rfl hF rfl rfl (zhas_of (htn) rfl) hpx ?_
              refine zv_ei (x := zbo (bt 5 a)) ht rfl rfl (zhas_nc hcx (by decide)) hsx ?_
              have J60 : zEv d 371 173 [.ref n, .int (zbo ((bt 0 a) ∧ (bt 0 b))), .int (zbo ((bt 1 a) ∧ (bt 0 b))), .int (zbo (((bt 1 a) ∧ (bt 0 b)) ∨ ((bt 0 a) ∧ (bt 1 b)))), .int (zbo ((bt 8 a) ∧ (bt 8 b))), .int (zbo ((bt 5 a) ∨ (bt 5 b))), .retAddr 0] [.int (zbo ((bt 5 a) ∧ (bt 5 b)))] S post := by
                refine zv_c2 (L' := [.ref n, .int (zbo ((bt 0 a) ∧ (bt 0 b))), .int (zbo ((bt 1 a) ∧ (bt 0 b))), .int (zbo (((bt 1 a) ∧ (bt 0 b)) ∨ ((bt 0 a) ∧ (bt 1 b)))), .int (zbo ((bt 8 a) ∧ (bt 8 b))), .int (zbo ((bt 5 a) ∨ (bt 5 b))), .int (zbo ((bt 5 a) ∧ (bt 5 b)))]) ht rfl rfl ?_
                refine zv_c1 ht rfl rfl ?_
                refine zv_ei (x := 3) ht rfl rfl (zhas_of (htn) rfl) how ?_
                refine zv_sw ht rfl rfl rfl rfl rfl ?_
                refine And.intro (fun h => absurd h (by decide)) (fun _ => ?_)
                refine And.intro (fun h => absurd h (by decide)) (fun _ => ?_)
                refine And.intro (fun h => absurd h (by decide)) (fun _ => ?_)
                refine And.intro (fun _ => ?_) (fun h => absurd (by decide) h)
                refine zv_c1 ht rfl rfl (zv_c1 ht rfl rfl (zv_c1 ht rfl rfl (zv_c1 ht rfl rfl (zv_c1 ht rfl rfl (zv_c1 ht rfl rfl (zv_c1 ht rfl rfl ?_))))))
                have C63 : ∀ (pst62 : Outcome × zS → Prop), (pst62 (.returned none, sI (sI (sI (sI (sI (sI S 145 n 2) 147 n (zbo ((bt 0 a) ∧ (bt 0 b)))) 148 n (zbo ((bt 1 a) ∧ (bt 0 b)))) 149 n 0) 150 n 0) 151 n 0)) → zCall (d - 1) 284 [.ref n, .int 2, .int (zbo ((bt 0 a) ∧ (bt 0 b))), .int (zbo ((bt 1 a) ∧ (bt 0 b))), .int 0, .int 0, .int 0] S pst62 := by
                  intro pst62 k65
                  have ht64 : ztab 284 = ztb284 := rfl
                  show zEv (d - 1) 284 0 [.ref n, .int 2, .int (zbo ((bt 0 a) ∧ (bt 0 b))), .int (zbo ((bt 1 a) ∧ (bt 0 b))), .int 0, .int 0, .int 0] [] S pst62
                  refine zv_c1 ht64 rfl rfl (zv_c1 ht64 rfl rfl ?_)
                  refine zv_ci (S' := sI S 145 n 2) ht64 rfl rfl ⟨(zhas_of (htn) rfl), (show n < gN S from by omega)⟩ ?_
                  refine zv_c1 ht64 rfl rfl (zv_c1 ht64 rfl rfl ?_)
                  refine zv_ci (S' := sI (sI S 145 n 2) 147 n (zbo ((bt 0 a) ∧ (bt 0 b)))) ht64 rfl rfl ⟨⟨(zhas_of (htn) rfl), (show n < gN S from by omega)⟩, zbo_rng⟩ ?_
                  refine zv_c1 ht64 rfl rfl (zv_c1 ht64 rfl rfl ?_)
                  refine zv_ci (S' := sI (sI (sI S 145 n 2) 147 n (zbo ((bt 0 a) ∧ (bt 0 b)))) 148 n (zbo ((bt 1 a) ∧ (bt 0 b)))) ht64 rfl rfl ⟨⟨(zhas_of (htn) rfl), (show n < gN S from by omega)⟩, zbo_rng⟩ ?_
                  refine zv_c1 ht64 rfl rfl (zv_c1 ht64 rfl rfl ?_)
                  refine zv_ci (S' := sI (sI (sI (sI S 145 n 2) 147 n (zbo ((bt 0 a) ∧ (bt 0 b)))) 148 n (zbo ((bt 1 a) ∧ (bt 0 b)))) 149 n 0) ht64 rfl rfl ⟨⟨(zhas_of (htn) rfl), (show n < gN S from by omega)⟩, (by decide)⟩ ?_
                  refine zv_c1 ht64 rfl rfl (zv_c1 ht64 rfl rfl ?_)
                  refine zv_ci (S' := sI (sI (sI (sI (sI S 145 n 2) 147 n (zbo ((bt 0 a) ∧ (bt 0 b)))) 148 n (zbo ((bt 1 a) ∧ (bt 0 b)))) 149 n 0) 150 n 0) ht64 rfl rfl ⟨⟨(zhas_of (htn) rfl), (show n < gN S from by omega)⟩, (by decide)⟩ ?_
                  refine zv_c1 ht64 rfl rfl (zv_c1 ht64 rfl rfl ?_)
                  refine zv_ci (S' := sI (sI (sI (sI (sI (sI S 145 n 2) 147 n (zbo ((bt 0 a) ∧ (bt 0 b)))) 148 n (zbo ((bt 1 a) ∧ (bt 0 b)))) 149 n 0) 150 n 0) 151 n 0) ht64 rfl rfl ⟨⟨(zhas_of (htn) rfl), (show n < gN S from by omega)⟩, (by decide)⟩ ?_
                  exact zv_rt ht64 rfl rfl rfl rfl k65
                refine zv_cl ht rfl rfl rfl (zv_tgv (htn) rfl) (by omega) (Nat.le_of_ble_eq_true rfl) (C63 _ ?_)
                show zEv d 371 545 [.ref n, .int (zbo ((bt 0 a) ∧ (bt 0 b))), .int (zbo ((bt 1 a) ∧ (bt 0 b))), .int (zbo (((bt 1 a) ∧ (bt 0 b)) ∨ ((bt 0 a) ∧ (bt 1 b)))), .int (zbo ((bt 8 a) ∧ (bt 8 b))), .int (zbo ((bt 5 a) ∨ (bt 5 b))), .int (zbo ((bt 5 a) ∧ (bt 5 b)))] [] (sI (sI (sI (sI (sI (sI S 145 n 2) 147 n (zbo ((bt 0 a) ∧ (bt 0 b)))) 148 n (zbo ((bt 1 a) ∧ (bt 0 b)))) 149 n 0) 150 n 0) 151 n 0) post
                refine zv_c1 ht rfl rfl (zv_c1 ht rfl rfl (zv_c1 ht rfl rfl (zv_c1 ht rfl rfl (zv_c1 ht rfl rfl ?_))))
                have J71 : zEv d 371 575 [.ref n, .retAddr 0, .retAddr 0, .retAddr 0, .retAddr 0, .retAddr 0, .retAddr 0] [.int (zbo (((bt 8 a) ∧ (bt 8 b)) ∧ (bt 7 a) ∧ ((bt 5 a) ∨ (bt 5 b)))), .int 0, .int 1, .int (zbo ((bt 5 a) ∧ (bt 5 b))), .ref n] (sI (sI (sI (sI (sI (sI S 145 n 2) 147 n (zbo ((bt 0 a) ∧ (bt 0 b)))) 148 n (zbo ((bt 1 a) ∧ (bt 0 b)))) 149 n 0) 150 n 0) 151 n 0) post := by
                  have C74 : ∀ (pst73 : Outcome × zS → Prop), (pst73 (.returned none, sI (sI (sI (sI (sI (sI (sI (sI (sI (sI S 145 n 2) 147 n (zbo ((bt 0 a) ∧ (bt 0 b)))) 148 n (zbo ((bt 1 a) ∧ (bt 0 b)))) 149 n 0) 150 n 0) 151 n 0) 152 n (zbo ((bt 5 a) ∧ (bt 5 b)))) 153 n 1) 154 n 0) 155 n (zbo (((bt 8 a) ∧ (bt 8 b)) ∧ (bt 7 a) ∧ ((bt 5 a) ∨ (bt 5 b)))))) → zCall (d - 1) 285 [.ref n, .int (zbo ((bt 5 a) ∧ (bt 5 b))), .int 1, .int 0, .int (zbo (((bt 8 a) ∧ (bt 8 b)) ∧ (bt 7 a) ∧ ((bt 5 a) ∨ (bt 5 b))))] (sI (sI (sI (sI (sI (sI S 145 n 2) 147 n (zbo ((bt 0 a) ∧ (bt 0 b)))) 148 n (zbo ((bt 1 a) ∧ (bt 0 b)))) 149 n 0) 150 n 0) 151 n 0) pst73 := by
                    intro pst73 k76
                    have ht75 : ztab 285 = ztb285 := rfl
                    show zEv (d - 1) 285 0 [.ref n, .int (zbo ((bt 5 a) ∧ (bt 5 b))), .int 1, .int 0, .int (zbo (((bt 8 a) ∧ (bt 8 b)) ∧ (bt 7 a) ∧ ((bt 5 a) ∨ (bt 5 b))))] [] (sI (sI (sI (sI (sI (sI S 145 n 2) 147 n (zbo ((bt 0 a) ∧ (bt 0 b)))) 148 n (zbo ((bt 1 a) ∧ (bt 0 b)))) 149 n 0) 150 n 0) 151 n 0) pst73
                    refine zv_c1 ht75 rfl rfl (zv_c1 ht75 rfl rfl ?_)
                    refine zv_ci (S' := sI (sI (sI (sI (sI (sI (sI S 145 n 2) 147 n (zbo ((bt 0 a) ∧ (bt 0 b)))) 148 n (zbo ((bt 1 a) ∧ (bt 0 b)))) 149 n 0) 150 n 0) 151 n 0) 152 n (zbo ((bt 5 a) ∧ (bt 5 b)))) ht75 rfl rfl ⟨⟨(zhas_of (htn) rfl), (show n < gN S from by omega)⟩, zbo_rng⟩ ?_
                    refine zv_c1 ht75 rfl rfl (zv_c1 ht75 rfl rfl ?_)
                    refine zv_ci (S' := sI (sI (sI (sI (sI (sI (sI (sI S 145 n 2) 147 n (zbo ((bt 0 a) ∧ (bt 0 b)))) 148 n (zbo ((bt 1 a) ∧ (bt 0 b)))) 149 n 0) 150 n 0) 151 n 0) 152 n (zbo ((bt 5 a) ∧ (bt 5 b)))) 153 n 1) ht75 rfl rfl ⟨⟨(zhas_of (htn) rfl), (show n < gN S from by omega)⟩, (by decide)⟩ ?_
                    refine zv_c1 ht75 rfl rfl (zv_c1 ht75 rfl rfl ?_)
                    refine zv_ci (S' := sI (sI (sI (sI (sI (sI (sI (sI (sI S 145 n 2) 147 n (zbo ((bt 0 a) ∧ (bt 0 b)))) 148 n (zbo ((bt 1 a) ∧ (bt 0 b)))) 149 n 0) 150 n 0) 151 n 0) 152 n (zbo ((bt 5 a) ∧ (bt 5 b)))) 153 n 1) 154 n 0) ht75 rfl rfl ⟨⟨(zhas_of (htn) rfl), (show n < gN S from by omega)⟩, (by decide)⟩ ?_
                    refine zv_c1 ht75 rfl rfl (zv_c1 ht75 rfl rfl ?_)
                    refine zv_ci (S' := sI (sI (sI (sI (sI (sI (sI (sI (sI (sI S 145 n 2) 147 n (zbo ((bt 0 a) ∧ (bt 0 b)))) 148 n (zbo ((bt 1 a) ∧ (bt 0 b)))) 149 n 0) 150 n 0) 151 n 0) 152 n (zbo ((bt 5 a) ∧ (bt 5 b)))) 153 n 1) 154 n 0) 155 n (zbo (((bt 8 a) ∧ (bt 8 b)) ∧ (bt 7 a) ∧ ((bt 5 a) ∨ (bt 5 b))))) ht75 rfl rfl ⟨⟨(zhas_of (htn) rfl), (show n < gN S from by omega)⟩, zbo_rng⟩ ?_
                    exact zv_rt ht75 rfl rfl rfl rfl k76
                  refine zv_cl ht rfl rfl rfl (zv_tgv (htn) rfl) (by omega) (Nat.le_of_ble_eq_true rfl) (C74 _ ?_)
                  show zEv d 371 578 [.ref n, .retAddr 0, .retAddr 0, .retAddr 0, .retAddr 0, .retAddr 0, .retAddr 0] [] (sI (sI (sI (sI (sI (sI (sI (sI (sI (sI S 145 n 2) 147 n (zbo ((bt 0 a) ∧ (bt 0 b)))) 148 n (zbo ((bt 1 a) ∧ (bt 0 b)))) 149 n 0) 150 n 0) 151 n 0) 152 n (zbo ((bt 5 a) ∧ (bt 5 b)))) 153 n 1) 154 n 0) 155 n (zbo (((bt 8 a) ∧ (bt 8 b)) ∧ (bt 7 a) ∧ ((bt 5 a) ∨ (bt 5 b))))) post
                  refine zv_c1 ht rfl rfl (zv_c1 ht rfl rfl (zv_c1 ht rfl rfl ?_))
                  refine zv_g3 (q := x) ht rfl hF rfl rfl (zhas_of (htn) rfl) hpx ?_
                  refine zv_c1 ht rfl rfl ?_
                  have C78 : ∀ (pst77 : Outcome × zS → Prop), (pst77 (.returned none, sI (sI (sI (sI (sI (sI (sI (sI (sI (sI (sI (sI S 145 n 2) 147 n (zbo ((bt 0 a) ∧ (bt 0 b)))) 148 n (zbo ((bt 1 a) ∧ (bt 0 b)))) 149 n 0) 150 n 0) 151 n 0) 152 n (zbo ((bt 5 a) ∧ (bt 5 b)))) 153 n 1) 154 n 0) 155 n (zbo (((bt 8 a) ∧ (bt 8 b)) ∧ (bt 7 a) ∧ ((bt 5 a) ∨ (bt 5 b))))) 156 n (zbo (bt 9 a))) 146 n ((0 : Int32) ||| tx))) → zCall (d - 1) 286 [.ref n, .ref x, .int 0] (sI (sI (sI (sI (sI (sI (sI (sI (sI (sI S 145 n 2) 147 n (zbo ((bt 0 a) ∧ (bt 0 b)))) 148 n (zbo ((bt 1 a) ∧ (bt 0 b)))) 149 n 0) 150 n 0) 151 n 0) 152 n (zbo ((bt 5 a) ∧ (bt 5 b)))) 153 n 1) 154 n 0) 155 n (zbo (((bt 8 a) ∧ (bt 8 b)) ∧ (bt 7 a) ∧ ((bt 5 a) ∨ (bt 5 b))))) pst77 := by
                    intro pst77 k84
                    have ht79 : ztab 286 = ztb286 := rfl
                    show zEv (d - 1) 286 0 [.ref n, .ref x, .int 0] [] (sI (sI (sI (sI (sI (sI (sI (sI (sI (sI S 145 n 2) 147 n (zbo ((bt 0 a) ∧ (bt 0 b)))) 148 n (zbo ((bt 1 a) ∧ (bt 0 b)))) 149 n 0) 150 n 0) 151 n 0) 152 n (zbo ((bt 5 a) ∧ (bt 5 b)))) 153 n 1) 154 n 0) 155 n (zbo (((bt 8 a) ∧ (bt 8 b)) ∧ (bt 7 a) ∧ ((bt 5 a) ∨ (bt 5 b))))) pst77
                    refine zv_c1 ht79 rfl rfl ?_
                    refine zv_br ht79 rfl rfl rfl (fun _ => ?_) (fun h => absurd (by decide) h)
                    refine zv_c1 ht79 rfl rfl (zv_c1 ht79 rfl rfl ?_)
                    refine zv_ei (x := zbo False) ht79 rfl rfl (zhas_of (htn) rfl) hm0 ?_
                    refine zv_br ht79 rfl rfl rfl (fun b80 => (b80 ((zbo_eq0 : (zbo False) = 0 ↔ ¬ False).mpr trivial)).elim) (fun b80 => ?_)
                    refine zv_c1 ht79 rfl rfl ?_
                    refine zv_ei (x := zbo (bt 9 a)) ht79 rfl rfl (zhas_nc hcx (by decide)) hmixedx ?_
                    have J82 : zEv (d - 1) 286 73 [.ref n, .ref x, .retAddr 0] [.int (zbo (bt 9 a)), .ref n] (sI (sI (sI (sI (sI (sI (sI (sI (sI (sI S 145 n 2) 147 n (zbo ((bt 0 a) ∧ (bt 0 b)))) 148 n (zbo ((bt 1 a) ∧ (bt 0 b)))) 149 n 0) 150 n 0) 151 n 0) 152 n (zbo ((bt 5 a) ∧ (bt 5 b)))) 153 n 1) 154 n 0) 155 n (zbo (((bt 8 a) ∧ (bt 8 b)) ∧ (bt 7 a) ∧ ((bt 5 a) ∨ (bt 5 b))))) pst77 := by
                      refine zv_ci (S' := sI (sI (sI (sI (sI (sI (sI (sI (sI (sI (sI S 145 n 2) 147 n (zbo ((bt 0 a) ∧ (bt 0 b)))) 148 n (zbo ((bt 1 a) ∧ (bt 0 b)))) 149 n 0) 150 n 0) 151 n 0) 152 n (zbo ((bt 5 a) ∧ (bt 5 b)))) 153 n 1) 154 n 0) 155 n (zbo (((bt 8 a) ∧ (bt 8 b)) ∧ (bt 7 a) ∧ ((bt 5 a) ∨ (bt 5 b))))) 156 n (zbo (bt 9 a))) ht79 rfl rfl ⟨⟨(zhas_of (htn) rfl), (show n < gN S from by omega)⟩, zbo_rng⟩ ?_
                      refine zv_c1 ht79 rfl rfl (zv_c1 ht79 rfl rfl ?_)
                      refine zv_ei (x := 0) ht79 rfl rfl (zhas_of (htn) rfl) ht0 ?_
                      refine zv_c1 ht79 rfl rfl ?_
                      refine zv_ei (x := tx) ht79 rfl rfl (zhas_nc hcx (by decide)) htx ?_
                      refine zv_c1 (st' := [.int ((0 : Int32) ||| tx), .ref n]) (S' := sI (sI (sI (sI (sI (sI (sI (sI (sI (sI (sI S 145 n 2) 147 n (zbo ((bt 0 a) ∧ (bt 0 b)))) 148 n (zbo ((bt 1 a) ∧ (bt 0 b)))) 149 n 0) 150 n 0) 151 n 0) 152 n (zbo ((bt 5 a) ∧ (bt 5 b)))) 153 n 1) 154 n 0) 155 n (zbo (((bt 8 a) ∧ (bt 8 b)) ∧ (bt 7 a) ∧ ((bt 5 a) ∨ (bt 5 b))))) 156 n (zbo (bt 9 a))) ht79 rfl rfl ?_
                      refine zv_ci (S' := sI (sI (sI (sI (sI (sI (sI (sI (sI (sI (sI (sI S 145 n 2) 147 n (zbo ((bt 0 a) ∧ (bt 0 b)))) 148 n (zbo ((bt 1 a) ∧ (bt 0 b)))) 149 n 0) 150 n 0) 151 n 0) 152 n (zbo ((bt 5 a) ∧ (bt 5 b)))) 153 n 1) 154 n 0) 155 n (zbo (((bt 8 a) ∧ (bt 8 b)) ∧ (bt 7 a) ∧ ((bt 5 a) ∨ (bt 5 b))))) 156 n (zbo (bt 9 a))) 146 n ((0 : Int32) ||| tx)) ht79 rfl rfl ⟨(zhas_of (htn) rfl), (show n < gN S from by omega)⟩ ?_
                      exact zv_rt ht79 rfl rfl rfl rfl k84
                    refine zv_br ht79 rfl rfl rfl (fun b81 => ?_) (fun b81 => ?_)
                    · replace b81 : ¬ (bt 9 a) := (zbo_eq0 : (zbo (bt 9 a)) = 0 ↔ ¬ (bt 9 a)).mp b81
                      refine zv_c1 ht79 rfl rfl ?_
                      exact zEv.wk (L := [.ref n, .ref x, .retAddr 0]) (L' := [.ref n, .ref x, .int 0]) (And.intro (Or.inl rfl) (And.intro (Or.inl rfl) (And.intro (Or.inr rfl) trivial))) (zv_sub (zz := zbo (bt 9 a)) (zy := 0) (p := fun zz => zEv (d - 1) 286 73 [.ref n, .ref x, .retAddr 0] [.int zz, .ref n] (sI (sI (sI (sI (sI (sI (sI (sI (sI (sI S 145 n 2) 147 n (zbo ((bt 0 a) ∧ (bt 0 b)))) 148 n (zbo ((bt 1 a) ∧ (bt 0 b)))) 149 n 0) 150 n 0) 151 n 0) 152 n (zbo ((bt 5 a) ∧ (bt 5 b)))) 153 n 1) 154 n 0) 155 n (zbo (((bt 8 a) ∧ (bt 8 b)) ∧ (bt 7 a) ∧ ((bt 5 a) ∨ (bt 5 b))))) pst77) (zbo_neg b81) J82)
                    · replace b81 : bt 9 a := Classical.byContradiction (fun h => b81 ((zbo_eq0 : (zbo (bt 9 a)) = 0 ↔ ¬ (bt 9 a)).mpr h))
                      refine zv_c1 ht79 rfl rfl (zv_c1 ht79 rfl rfl ?_)
                      exact zEv.wk (L := [.ref n, .ref x, .retAddr 0]) (L' := [.ref n, .ref x, .int 0]) (And.intro (Or.inl rfl) (And.intro (Or.inl rfl) (And.intro (Or.inr rfl) trivial))) (zv_sub (zz := zbo (bt 9 a)) (zy := 1) (p := fun zz => zEv (d - 1) 286 73 [.ref n, .ref x, .retAddr 0] [.int zz, .ref n] (sI (sI (sI (sI (sI (sI (sI (sI (sI (sI S 145 n 2) 147 n (zbo ((bt 0 a) ∧ (bt 0 b)))) 148 n (zbo ((bt 1 a) ∧ (bt 0 b)))) 149 n 0) 150 n 0) 151 n 0) 152 n (zbo ((bt 5 a) ∧ (bt 5 b)))) 153 n 1) 154 n 0) 155 n (zbo (((bt 8 a) ∧ (bt 8 b)) ∧ (bt 7 a) ∧ ((bt 5 a) ∨ (bt 5 b))))) pst77) (zbo_pos b81) J82)
                  refine zv_cl ht rfl rfl rfl (zv_tgv (htn) rfl) (by omega) (Nat.le_of_ble_eq_true rfl) (C78 _ ?_)
                  show zEv d 371 815 [.ref n, .retAddr 0, .retAddr 0, .retAddr 0, .retAddr 0, .retAddr 0, .retAddr 0] [] (sI (sI (sI (sI (sI (sI (sI (sI (sI (sI (sI (sI S 145 n 2) 147 n (zbo ((bt 0 a) ∧ (bt 0 b)))) 148 n (zbo ((bt 1 a) ∧ (bt 0 b)))) 149 n 0) 150 n 0) 151 n 0) 152 n (zbo ((bt 5 a) ∧ (bt 5 b)))) 153 n 1) 154 n 0) 155 n (zbo (((bt 8 a) ∧ (bt 8 b)) ∧ (bt 7 a) ∧ ((bt 5 a) ∨ (bt 5 b))))) 156 n (zbo (bt 9 a))) 146 n ((0 : Int32) ||| tx)) post
                  refine zv_c1 ht rfl rfl (zv_c1 ht rfl rfl ?_)
                  refine zv_g3 (q := y) ht rfl hF rfl rfl (zhas_of (htn) rfl) hpy ?_
                  refine zv_c1 ht rfl rfl ?_
                  refine zv_ei (x := 3) ht rfl rfl (zhas_of (htn) rfl) how ?_
                  refine zv_c1 ht rfl rfl ?_
                  refine zv_br ht rfl rfl rfl (fun _ => ?_) (fun h => absurd (by decide) h)
                  refine zv_c1 ht rfl rfl ?_
                  have C86 : ∀ (pst85 : Outcome × zS → Prop), (pst85 (.returned none, sI (sI (sI (sI (sI (sI (sI (sI (sI (sI (sI (sI (sI (sI S 145 n 2) 147 n (zbo ((bt 0 a) ∧ (bt 0 b)))) 148 n (zbo ((bt 1 a) ∧ (bt 0 b)))) 149 n 0) 150 n 0) 151 n 0) 152 n (zbo ((bt 5 a) ∧ (bt 5 b)))) 153 n 1) 154 n 0) 155 n (zbo (((bt 8 a) ∧ (bt 8 b)) ∧ (bt 7 a) ∧ ((bt 5 a) ∨ (bt 5 b))))) 156 n (zbo (bt 9 a))) 146 n ((0 : Int32) ||| tx)) 156 n (zbo ((bt 9 a) ∨ (bt 9 b)))) 146 n (((0 : Int32) ||| tx) ||| ty))) → zCall (d - 1) 286 [.ref n, .ref y, .int 0] (sI (sI (sI (sI (sI (sI (sI (sI (sI (sI (sI (sI S 145 n 2) 147 n (zbo ((bt 0 a) ∧ (bt 0 b)))) 148 n (zbo ((bt 1 a) ∧ (bt 0 b)))) 149 n 0) 150 n 0) 151 n 0) 152 n (zbo ((bt 5 a) ∧ (bt 5 b)))) 153 n 1) 154 n 0) 155 n (zbo (((bt 8 a) ∧ (bt 8 b)) ∧ (bt 7 a) ∧ ((bt 5 a) ∨ (bt 5 b))))) 156 n (zbo (bt 9 a))) 146 n ((0 : Int32) ||| tx)) pst85 := by
                    intro pst85 k94
                    have ht87 : ztab 286 = ztb286 := rfl
                    show zEv (d - 1) 286 0 [.ref n, .ref y, .int 0] [] (sI (sI (sI (sI (sI (sI (sI (sI (sI (sI (sI (sI S 145 n 2) 147 n (zbo ((bt 0 a) ∧ (bt 0 b)))) 148 n (zbo ((bt 1 a) ∧ (bt 0 b)))) 149 n 0) 150 n 0) 151 n 0) 152 n (zbo ((bt 5 a) ∧ (bt 5 b)))) 153 n 1) 154 n 0) 155 n (zbo (((bt 8 a) ∧ (bt 8 b)) ∧ (bt 7 a) ∧ ((bt 5 a) ∨ (bt 5 b))))) 156 n (zbo (bt 9 a))) 146 n ((0 : Int32) ||| tx)) pst85
                    refine zv_c1 ht87 rfl rfl ?_
                    refine zv_br ht87 rfl rfl rfl (fun _ => ?_) (fun h => absurd (by decide) h)
                    refine zv_c1 ht87 rfl rfl (zv_c1 ht87 rfl rfl ?_)
                    refine zv_ei (x := zbo (bt 9 a)) ht87 rfl rfl (zhas_of (htn) rfl) gI_sI_at ?_
                    have J92 : zEv (d - 1) 286 73 [.ref n, .ref y, .retAddr 0] [.int (zbo ((bt 9 a) ∨ (bt 9 b))), .ref n] (sI (sI (sI (sI (sI (sI (sI (sI (sI (sI (sI (sI S 145 n 2) 147 n (zbo ((bt 0 a) ∧ (bt 0 b)))) 148 n (zbo ((bt 1 a) ∧ (bt 0 b)))) 149 n 0) 150 n 0) 151 n 0) 152 n (zbo ((bt 5 a) ∧ (bt 5 b)))) 153 n 1) 154 n 0) 155 n (zbo (((bt 8 a) ∧ (bt 8 b)) ∧ (bt 7 a) ∧ ((bt 5 a) ∨ (bt 5 b))))) 156 n (zbo (bt 9 a))) 146 n ((0 : Int32) ||| tx)) pst85 := by
                      refine zv_ci (S' := sI (sI (sI (sI (sI (sI (sI (sI (sI (sI (sI (sI (sI S 145 n 2) 147 n (zbo ((bt 0 a) ∧ (bt 0 b)))) 148 n (zbo ((bt 1 a) ∧ (bt 0 b)))) 149 n 0) 150 n 0) 151 n 0) 152 n (zbo ((bt 5 a) ∧ (bt 5 b)))) 153 n 1) 154 n 0) 155 n (zbo (((bt 8 a) ∧ (bt 8 b)) ∧ (bt 7 a) ∧ ((bt 5 a) ∨ (bt 5 b))))) 156 n (zbo (bt 9 a))) 146 n ((0 : Int32) ||| tx)) 156 n (zbo ((bt 9 a) ∨ (bt 9 b)))) ht87 rfl rfl ⟨⟨(zhas_of (htn) rfl), (show n < gN S from by omega)⟩, zbo_rng⟩ ?_
                      refine zv_c1 ht87 rfl rfl (zv_c1 ht87 rfl rfl ?_)
                      refine zv_ei (x := (0 : Int32) ||| tx) ht87 rfl rfl (zhas_of (htn) rfl) gI_sI_at ?_
                      refine zv_c1 ht87 rfl rfl ?_
                      refine zv_ei (x := ty) ht87 rfl rfl (zhas_nc hcy (by decide)) (Eq.trans (gI_sI_ne (by omega)) hty) ?_
                      refine zv_c1 (st' := [.int (((0 : Int32) ||| tx) ||| ty), .ref n]) (S' := sI (sI (sI (sI (sI (sI (sI (sI (sI (sI (sI (sI (sI S 145 n 2) 147 n (zbo ((bt 0 a) ∧ (bt 0 b)))) 148 n (zbo ((bt 1 a) ∧ (bt 0 b)))) 149 n 0) 150 n 0) 151 n 0) 152 n (zbo ((bt 5 a) ∧ (bt 5 b)))) 153 n 1) 154 n 0) 155 n (zbo (((bt 8 a) ∧ (bt 8 b)) ∧ (bt 7 a) ∧ ((bt 5 a) ∨ (bt 5 b))))) 156 n (zbo (bt 9 a))) 146 n ((0 : Int32) ||| tx)) 156 n (zbo ((bt 9 a) ∨ (bt 9 b)))) ht87 rfl rfl ?_
                      refine zv_ci (S' := sI (sI (sI (sI (sI (sI (sI (sI (sI (sI (sI (sI (sI (sI S 145 n 2) 147 n (zbo ((bt 0 a) ∧ (bt 0 b)))) 148 n (zbo ((bt 1 a) ∧ (bt 0 b)))) 149 n 0) 150 n 0) 151 n 0) 152 n (zbo ((bt 5 a) ∧ (bt 5 b)))) 153 n 1) 154 n 0) 155 n (zbo (((bt 8 a) ∧ (bt 8 b)) ∧ (bt 7 a) ∧ ((bt 5 a) ∨ (bt 5 b))))) 156 n (zbo (bt 9 a))) 146 n ((0 : Int32) ||| tx)) 156 n (zbo ((bt 9 a) ∨ (bt 9 b)))) 146 n (((0 : Int32) ||| tx) ||| ty)) ht87 rfl rfl ⟨(zhas_of (htn) rfl), (show n < gN S from by omega)⟩ ?_
                      exact zv_rt ht87 rfl rfl rfl rfl k94
                    have J90 : ((bt 9 a) ∨ (bt 9 b)) → zEv (d - 1) 286 68 [.ref n, .ref y, .retAddr 0] [.ref n] (sI (sI (sI (sI (sI (sI (sI (sI (sI (sI (sI (sI S 145 n 2) 147 n (zbo ((bt 0 a) ∧ (bt 0 b)))) 148 n (zbo ((bt 1 a) ∧ (bt 0 b)))) 149 n 0) 150 n 0) 151 n 0) 152 n (zbo ((bt 5 a) ∧ (bt 5 b)))) 153 n 1) 154 n 0) 155 n (zbo (((bt 8 a) ∧ (bt 8 b)) ∧ (bt 7 a) ∧ ((bt 5 a) ∨ (bt 5 b))))) 156 n (zbo (bt 9 a))) 146 n ((0 : Int32) ||| tx)) pst85 := by
                      intro b91
                      refine zv_c1 ht87 rfl rfl (zv_c1 ht87 rfl rfl ?_)
                      exact (zv_sub (zz := zbo ((bt 9 a) ∨ (bt 9 b))) (zy := 1) (p := fun zz => zEv (d - 1) 286 73 [.ref n, .ref y, .retAddr 0] [.int zz, .ref n] (sI (sI (sI (sI (sI (sI (sI (sI (sI (sI (sI (sI S 145 n 2) 147 n (zbo ((bt 0 a) ∧ (bt 0 b)))) 148 n (zbo ((bt 1 a) ∧ (bt 0 b)))) 149 n 0) 150 n 0) 151 n 0) 152 n (zbo ((bt 5 a) ∧ (bt 5 b)))) 153 n 1) 154 n 0) 155 n (zbo (((bt 8 a) ∧ (bt 8 b)) ∧ (bt 7 a) ∧ ((bt 5 a) ∨ (bt 5 b))))) 156 n (zbo (bt 9 a))) 146 n ((0 : Int32) ||| tx)) pst85) (zbo_pos b91) J92)
                    refine zv_br ht87 rfl rfl rfl (fun b88 => ?_) (fun b88 => ?_)
                    · replace b88 : bt 9 a := Classical.byContradiction (fun h => b88 ((zbo_eq0 : (zbo (bt 9 a)) = 0 ↔ ¬ (bt 9 a)).mpr h))
                      exact zEv.wk (L := [.ref n, .ref y, .retAddr 0]) (L' := [.ref n, .ref y, .int 0]) (And.intro (Or.inl rfl) (And.intro (Or.inl rfl) (And.intro (Or.inr rfl) trivial))) (J90 (Or.inl b88))
                    · replace b88 : ¬ (bt 9 a) := (zbo_eq0 : (zbo (bt 9 a)) = 0 ↔ ¬ (bt 9 a)).mp (Classical.not_not.mp b88)
                      refine zv_c1 ht87 rfl rfl ?_
                      refine zv_ei (x := zbo (bt 9 b)) ht87 rfl rfl (zhas_nc hcy (by decide)) (Eq.trans (gI_sI_ne (by omega)) hmixedy) ?_
                      refine zv_br ht87 rfl rfl rfl (fun b89 => ?_) (fun b89 => ?_)
                      · replace b89 : ¬ (bt 9 b) := (zbo_eq0 : (zbo (bt 9 b)) = 0 ↔ ¬ (bt 9 b)).mp b89
                        refine zv_c1 ht87 rfl rfl ?_
                        exact zEv.wk (L := [.ref n, .ref y, .retAddr 0]) (L' := [.ref n, .ref y, .int 0]) (And.intro (Or.inl rfl) (And.intro (Or.inl rfl) (And.intro (Or.inr rfl) trivial))) (zv_sub (zz := zbo ((bt 9 a) ∨ (bt 9 b))) (zy := 0) (p := fun zz => zEv (d - 1) 286 73 [.ref n, .ref y, .retAddr 0] [.int zz, .ref n] (sI (sI (sI (sI (sI (sI (sI (sI (sI (sI (sI (sI S 145 n 2) 147 n (zbo ((bt 0 a) ∧ (bt 0 b)))) 148 n (zbo ((bt 1 a) ∧ (bt 0 b)))) 149 n 0) 150 n 0) 151 n 0) 152 n (zbo ((bt 5 a) ∧ (bt 5 b)))) 153 n 1) 154 n 0) 155 n (zbo (((bt 8 a) ∧ (bt 8 b)) ∧ (bt 7 a) ∧ ((bt 5 a) ∨ (bt 5 b))))) 156 n (zbo (bt 9 a))) 146 n ((0 : Int32) ||| tx)) pst85) (zbo_neg (fun h => h.elim b88 b89)) J92)
                      · replace b89 : bt 9 b := Classical.byContradiction (fun h => b89 ((zbo_eq0 : (zbo (bt 9 b)) = 0 ↔ ¬ (bt 9 b)).mpr h))
                        exact zEv.wk (L := [.ref n, .ref y, .retAddr 0]) (L' := [.ref n, .ref y, .int 0]) (And.intro (Or.inl rfl) (And.intro (Or.inl rfl) (And.intro (Or.inr rfl) trivial))) (J90 (Or.inr b89))
                  refine zv_cl ht rfl rfl rfl (zv_tgv (htn) rfl) (by omega) (Nat.le_of_ble_eq_true rfl) (C86 _ ?_)
                  show zEv d 371 836 [.ref n, .retAddr 0, .retAddr 0, .retAddr 0, .retAddr 0, .retAddr 0, .retAddr 0] [] (sI (sI (sI (sI (sI (sI (sI (sI (sI (sI (sI (sI (sI (sI S 145 n 2) 147 n (zbo ((bt 0 a) ∧ (bt 0 b)))) 148 n (zbo ((bt 1 a) ∧ (bt 0 b)))) 149 n 0) 150 n 0) 151 n 0) 152 n (zbo ((bt 5 a) ∧ (bt 5 b)))) 153 n 1) 154 n 0) 155 n (zbo (((bt 8 a) ∧ (bt 8 b)) ∧ (bt 7 a) ∧ ((bt 5 a) ∨ (bt 5 b))))) 156 n (zbo (bt 9 a))) 146 n ((0 : Int32) ||| tx)) 156 n (zbo ((bt 9 a) ∨ (bt 9 b)))) 146 n (((0 : Int32) ||| tx) ||| ty)) post
                  exact zv_rt ht rfl rfl rfl rfl (h1 b22)
                have J69 : ((¬ ((bt 8 a) ∧ (bt 8 b))) ∨ (¬ (bt 7 a)) ∨ (¬ ((bt 5 a) ∨ (bt 5 b)))) → zEv d 371 574 [.ref n, .retAddr 0, .retAddr 0, .retAddr 0, .retAddr 0, .retAddr 0, .retAddr 0] [.int 0, .int 1, .int (zbo ((bt 5 a) ∧ (bt 5 b))), .ref n] (sI (sI (sI (sI (sI (sI S 145 n 2) 147 n (zbo ((bt 0 a) ∧ (bt 0 b)))) 148 n (zbo ((bt 1 a) ∧ (bt 0 b)))) 149 n 0) 150 n 0) 151 n 0) post := by
                  intro b70
                  refine zv_c1 ht rfl rfl ?_
                  exact (zv_sub (zz := zbo (((bt 8 a) ∧ (bt 8 b)) ∧ (bt 7 a) ∧ ((bt 5 a) ∨ (bt 5 b)))) (zy := 0) (p := fun zz => zEv d 371 575 [.ref n, .retAddr 0, .retAddr 0, .retAddr 0, .retAddr 0, .retAddr 0, .retAddr 0] [.int zz, .int 0, .int 1, .int (zbo ((bt 5 a) ∧ (bt 5 b))), .ref n] (sI (sI (sI (sI (sI (sI S 145 n 2) 147 n (zbo ((bt 0 a) ∧ (bt 0 b)))) 148 n (zbo ((bt 1 a) ∧ (bt 0 b)))) 149 n 0) 150 n 0) 151 n 0) post) (zbo_neg (b70.elim (fun y1 => (fun h => y1 h.1)) (fun y1 => (y1.elim (fun y2 => (fun h => (fun h => y2 h.1) h.2)) (fun y2 => (fun h => (fun h => y2 h.2) h.2)))))) J71)
                refine zv_br ht rfl rfl rfl (fun b66 => ?_) (fun b66 => ?_)
                · replace b66 : ¬ ((bt 8 a) ∧ (bt 8 b)) := (zbo_eq0 : (zbo ((bt 8 a) ∧ (bt 8 b))) = 0 ↔ ¬ ((bt 8 a) ∧ (bt 8 b))).mp b66
                  exact zEv.wk (L := [.ref n, .retAddr 0, .retAddr 0, .retAddr 0, .retAddr 0, .retAddr 0, .retAddr 0]) (L' := [.ref n, .int (zbo ((bt 0 a) ∧ (bt 0 b))), .int (zbo ((bt 1 a) ∧ (bt 0 b))), .int (zbo (((bt 1 a) ∧ (bt 0 b)) ∨ ((bt 0 a) ∧ (bt 1 b)))), .int (zbo ((bt 8 a) ∧ (bt 8 b))), .int (zbo ((bt 5 a) ∨ (bt 5 b))), .int (zbo ((bt 5 a) ∧ (bt 5 b)))]) (And.intro (Or.inl rfl) (And.intro (Or.inr rfl) (And.intro (Or.inr rfl) (And.intro (Or.inr rfl) (And.intro (Or.inr rfl) (And.intro (Or.inr rfl) (And.intro (Or.inr rfl) trivial))))))) (J69 (Or.inl b66))
                · replace b66 : (bt 8 a) ∧ (bt 8 b) := Classical.byContradiction (fun h => b66 ((zbo_eq0 : (zbo ((bt 8 a) ∧ (bt 8 b))) = 0 ↔ ¬ ((bt 8 a) ∧ (bt 8 b))).mpr h))
                  refine zv_c1 ht rfl rfl ?_
                  refine zv_g3 (q := x) ht rfl hF rfl rfl (zhas_of (htn) rfl) hpx ?_
                  refine zv_ei (x := zbo (bt 7 a)) ht rfl rfl (zhas_nc hcx (by decide)) hex ?_
                  refine zv_br ht rfl rfl rfl (fun b67 => ?_) (fun b67 => ?_)
                  · replace b67 : ¬ (bt 7 a) := (zbo_eq0 : (zbo (bt 7 a)) = 0 ↔ ¬ (bt 7 a)).mp b67
                    exact zEv.wk (L := [.ref n, .retAddr 0, .retAddr 0, .retAddr 0, .retAddr 0, .retAddr 0, .retAddr 0]) (L' := [.ref n, .int (zbo ((bt 0 a) ∧ (bt 0 b))), .int (zbo ((bt 1 a) ∧ (bt 0 b))), .int (zbo (((bt 1 a) ∧ (bt 0 b)) ∨ ((bt 0 a) ∧ (bt 1 b)))), .int (zbo ((bt 8 a) ∧ (bt 8 b))), .int (zbo ((bt 5 a) ∨ (bt 5 b))), .int (zbo ((bt 5 a) ∧ (bt 5 b)))]) (And.intro (Or.inl rfl) (And.intro (Or.inr rfl) (And.intro (Or.inr rfl) (And.intro (Or.inr rfl) (And.intro (Or.inr rfl) (And.intro (Or.inr rfl) (And.intro (Or.inr rfl) trivial))))))) (J69 (Or.inr (Or.inl b67)))
                  · replace b67 : bt 7 a := Classical.byContradiction (fun h => b67 ((zbo_eq0 : (zbo (bt 7 a)) = 0 ↔ ¬ (bt 7 a)).mpr h))
                    refine zv_c1 ht rfl rfl ?_
                    refine zv_br ht rfl rfl rfl (fun b68 => ?_) (fun b68 => ?_)
                    · replace b68 : ¬ ((bt 5 a) ∨ (bt 5 b)) := (zbo_eq0 : (zbo ((bt 5 a) ∨ (bt 5 b))) = 0 ↔ ¬ ((bt 5 a) ∨ (bt 5 b))).mp b68
                      exact zEv.wk (L := [.ref n, .retAddr 0, .retAddr 0, .retAddr 0, .retAddr 0, .retAddr 0, .retAddr 0]) (L' := [.ref n, .int (zbo ((bt 0 a) ∧ (bt 0 b))), .int (zbo ((bt 1 a) ∧ (bt 0 b))), .int (zbo (((bt 1 a) ∧ (bt 0 b)) ∨ ((bt 0 a) ∧ (bt 1 b)))), .int (zbo ((bt 8 a) ∧ (bt 8 b))), .int (zbo ((bt 5 a) ∨ (bt 5 b))), .int (zbo ((bt 5 a) ∧ (bt 5 b)))]) (And.intro (Or.inl rfl) (And.intro (Or.inr rfl) (And.intro (Or.inr rfl) (And.intro (Or.inr rfl) (And.intro (Or.inr rfl) (And.intro (Or.inr rfl) (And.intro (Or.inr rfl) trivial))))))) (J69 (Or.inr (Or.inr b68)))
                    · replace b68 : (bt 5 a) ∨ (bt 5 b) := Classical.byContradiction (fun h => b68 ((zbo_eq0 : (zbo ((bt 5 a) ∨ (bt 5 b))) = 0 ↔ ¬ ((bt 5 a) ∨ (bt 5 b))).mpr h))
                      refine zv_c1 ht rfl rfl (zv_c1 ht rfl rfl ?_)
                      exact zEv.wk (L := [.ref n, .retAddr 0, .retAddr 0, .retAddr 0, .retAddr 0, .retAddr 0, .retAddr 0]) (L' := [.ref n, .int (zbo ((bt 0 a) ∧ (bt 0 b))), .int (zbo ((bt 1 a) ∧ (bt 0 b))), .int (zbo (((bt 1 a) ∧ (bt 0 b)) ∨ ((bt 0 a) ∧ (bt 1 b)))), .int (zbo ((bt 8 a) ∧ (bt 8 b))), .int (zbo ((bt 5 a) ∨ (bt 5 b))), .int (zbo ((bt 5 a) ∧ (bt 5 b)))]) (And.intro (Or.inl rfl) (And.intro (Or.inr rfl) (And.intro (Or.inr rfl) (And.intro (Or.inr rfl) (And.intro (Or.inr rfl) (And.intro (Or.inr rfl) (And.intro (Or.inr rfl) trivial))))))) (zv_sub (zz := zbo (((bt 8 a) ∧ (bt 8 b)) ∧ (bt 7 a) ∧ ((bt 5 a) ∨ (bt 5 b)))) (zy := 1) (p := fun zz => zEv d 371 575 [.ref n, .retAddr 0, .retAddr 0, .retAddr 0, .retAddr 0, .retAddr 0, .retAddr 0] [.int zz, .int 0, .int 1, .int (zbo ((bt 5 a) ∧ (bt 5 b))), .ref n] (sI (sI (sI (sI (sI (sI S 145 n 2) 147 n (zbo ((bt 0 a) ∧ (bt 0 b)))) 148 n (zbo ((bt 1 a) ∧ (bt 0 b)))) 149 n 0) 150 n 0) 151 n 0) post) (zbo_pos ⟨b66, ⟨b67, b68⟩⟩) J71)
              have J58 : ((¬ (bt 5 a)) ∨ (¬ (bt 5 b))) → zEv d 371 172 [.ref n, .int (zbo ((bt 0 a) ∧ (bt 0 b))), .int (zbo ((bt 1 a) ∧ (bt 0 b))), .int (zbo (((bt 1 a) ∧ (bt 0 b)) ∨ ((bt 0 a) ∧ (bt 1 b)))), .int (zbo ((bt 8 a) ∧ (bt 8 b))), .int (zbo ((bt 5 a) ∨ (bt 5 b))), .retAddr 0] [] S post := by
                intro b59
                refine zv_c1 ht rfl rfl ?_
                exact (zv_sub (zz := zbo ((bt 5 a) ∧ (bt 5 b))) (zy := 0) (p := fun zz => zEv d 371 173 [.ref n, .int (zbo ((bt 0 a) ∧ (bt 0 b))), .int (zbo ((bt 1 a) ∧ (bt 0 b))), .int (zbo (((bt 1 a) ∧ (bt 0 b)) ∨ ((bt 0 a) ∧ (bt 1 b)))), .int (zbo ((bt 8 a) ∧ (bt 8 b))), .int (zbo ((bt 5 a) ∨ (bt 5 b))), .retAddr 0] [.int zz] S post) (zbo_neg (b59.elim (fun y1 => (fun h => y1 h.1)) (fun y1 => (fun h => y1 h.2)))) J60)
              refine zv_br ht rfl rfl rfl (fun b56 => ?_) (fun b56 => ?_)
              · replace b56 : ¬ (bt 5 a) := (zbo_eq0 : (zbo (bt 5 a)) = 0 ↔ ¬ (bt 5 a)).mp b56
                exact (J58 (Or.inl b56))
              · replace b56 : bt 5 a := Classical.byContradiction (fun h => b56 ((zbo_eq0 : (zbo (bt 5 a)) = 0 ↔ ¬ (bt 5 a)).mpr h))
                refine zv_c1 ht rfl rfl ?_
                refine zv_g3 (q := y) ht rfl hF rfl rfl (zhas_of (htn) rfl) hpy ?_
                refine zv_ei (x := zbo (bt 5 b)) ht rfl rfl (zhas_nc hcy (by decide)) hsy ?_
                refine zv_br ht rfl rfl rfl (fun b57 => ?_) (fun b57 => ?_)
                · replace b57 : ¬ (bt 5 b) := (zbo_eq0 : (zbo (bt 5 b)) = 0 ↔ ¬ (bt 5 b)).mp b57
                  exact (J58 (Or.inr b57))
                · replace b57 : bt 5 b := Classical.byContradiction (fun h => b57 ((zbo_eq0 : (zbo (bt 5 b)) = 0 ↔ ¬ (bt 5 b)).mpr h))
                  refine zv_c1 ht rfl rfl (zv_c1 ht rfl rfl ?_)
                  exact (zv_sub (zz := zbo ((bt 5 a) ∧ (bt 5 b))) (zy := 1) (p := fun zz => zEv d 371 173 [.ref n, .int (zbo ((bt 0 a) ∧ (bt 0 b))), .int (zbo ((bt 1 a) ∧ (bt 0 b))), .int (zbo (((bt 1 a) ∧ (bt 0 b)) ∨ ((bt 0 a) ∧ (bt 1 b)))), .int (zbo ((bt 8 a) ∧ (bt 8 b))), .int (zbo ((bt 5 a) ∨ (bt 5 b))), .retAddr 0] [.int zz] S post) (zbo_pos ⟨b56, b57⟩) J60)
            have J52 : ((bt 5 a) ∨ (bt 5 b)) → zEv d 371 141 [.ref n, .int (zbo ((bt 0 a) ∧ (bt 0 b))), .int (zbo ((bt 1 a) ∧ (bt 0 b))), .int (zbo (((bt 1 a) ∧ (bt 0 b)) ∨ ((bt 0 a) ∧ (bt 1 b)))), .int (zbo ((bt 8 a) ∧ (bt 8 b))), .retAddr 0, .retAddr 0] [] S post := by
              intro b53
              refine zv_c1 ht rfl rfl (zv_c1 ht rfl rfl ?_)
              exact (zv_sub (zz := zbo ((bt 5 a) ∨ (bt 5 b))) (zy := 1) (p := fun zz => zEv d 371 146 [.ref n, .int (zbo ((bt 0 a) ∧ (bt 0 b))), .int (zbo ((bt 1 a) ∧ (bt 0 b))), .int (zbo (((bt 1 a) ∧ (bt 0 b)) ∨ ((bt 0 a) ∧ (bt 1 b)))), .int (zbo ((bt 8 a) ∧ (bt 8 b))), .retAddr 0, .retAddr 0] [.int zz] S post) (zbo_pos b53) J54)
            refine zv_br ht rfl rfl rfl (fun b50 => ?_) (fun b50 => ?_)
            · replace b50 : bt 5 a := Classical.byContradiction (fun h => b50 ((zbo_eq0 : (zbo (bt 5 a)) = 0 ↔ ¬ (bt 5 a)).mpr h))
              exact (J52 (Or.inl b50))
            · replace b50 : ¬ (bt 5 a) := (zbo_eq0 : (zbo (bt 5 a)) = 0 ↔ ¬ (bt 5 a)).mp (Classical.not_not.mp b50)
              refine zv_c1 ht rfl rfl ?_
              refine zv_g3 (q := y) ht rfl hF rfl rfl (zhas_of (htn) rfl) hpy ?_
              refine zv_ei (x := zbo (bt 5 b)) ht rfl rfl (zhas_nc hcy (by decide)) hsy ?_
              refine zv_br ht rfl rfl rfl (fun b51 => ?_) (fun b51 => ?_)
              · replace b51 : ¬ (bt 5 b) := (zbo_eq0 : (zbo (bt 5 b)) = 0 ↔ ¬ (bt 5 b)).mp b51
                refine zv_c1 ht rfl rfl ?_
                exact (zv_sub (zz := zbo ((bt 5 a) ∨ (bt 5 b))) (zy := 0) (p := fun zz => zEv d 371 146 [.ref n, .int (zbo ((bt 0 a) ∧ (bt 0 b))), .int (zbo ((bt 1 a) ∧ (bt 0 b))), .int (zbo (((bt 1 a) ∧ (bt 0 b)) ∨ ((bt 0 a) ∧ (bt 1 b)))), .int (zbo ((bt 8 a) ∧ (bt 8 b))), .retAddr 0, .retAddr 0] [.int zz] S post) (zbo_neg (fun h => h.elim b50 b51)) J54)
              · replace b51 : bt 5 b := Classical.byContradiction (fun h => b51 ((zbo_eq0 : (zbo (bt 5 b)) = 0 ↔ ¬ (bt 5 b)).mpr h))
                exact (J52 (Or.inr b51))
          have J46 : ((¬ (bt 8 a)) ∨ (¬ (bt 8 b))) → zEv d 371 118 [.ref n, .int (zbo ((bt 0 a) ∧ (bt 0 b))), .int (zbo ((bt 1 a) ∧ (bt 0 b))), .int (zbo (((bt 1 a) ∧ (bt 0 b)) ∨ ((bt 0 a) ∧ (bt 1 b)))), .retAddr 0, .retAddr 0, .retAddr 0] [] S post := by
            intro b47
            refine zv_c1 ht rfl rfl ?_
            exact (zv_sub (zz := zbo ((bt 8 a) ∧ (bt 8 b))) (zy := 0) (p := fun zz => zEv d 371 119 [.ref n, .int (zbo ((bt 0 a) ∧ (bt 0 b))), .int (zbo ((bt 1 a) ∧ (bt 0 b))), .int (zbo (((bt 1 a) ∧ (bt 0 b)) ∨ ((bt 0 a) ∧ (bt 1 b)))), .retAddr 0, .retAddr 0, .retAddr 0] [.int zz] S post) (zbo_neg (b47.elim (fun y1 => (fun h => y1 h.1)) (fun y1 => (fun h => y1 h.2)))) J48)
          refine zv_br ht rfl rfl rfl (fun b44 => ?_) (fun b44 => ?_)
          · replace b44 : ¬ (bt 8 a) := (zbo_eq0 : (zbo (bt 8 a)) = 0 ↔ ¬ (bt 8 a)).mp b44
            exact (J46 (Or.inl b44))
          · replace b44 : bt 8 a := Classical.byContradiction (fun h => b44 ((zbo_eq0 : (zbo (bt 8 a)) = 0 ↔ ¬ (bt 8 a)).mpr h))
            refine zv_c1 ht rfl rfl ?_
            refine zv_g3 (q := y) ht rfl hF rfl rfl (zhas_of (htn) rfl) hpy ?_
            refine zv_ei (x := zbo (bt 8 b)) ht rfl rfl (zhas_nc hcy (by decide)) hmy ?_
            refine zv_br ht rfl rfl rfl (fun b45 => ?_) (fun b45 => ?_)
            · replace b45 : ¬ (bt 8 b) := (zbo_eq0 : (zbo (bt 8 b)) = 0 ↔ ¬ (bt 8 b)).mp b45
              exact (J46 (Or.inr b45))
            · replace b45 : bt 8 b := Classical.byContradiction (fun h => b45 ((zbo_eq0 : (zbo (bt 8 b)) = 0 ↔ ¬ (bt 8 b)).mpr h))
              refine zv_c1 ht rfl rfl (zv_c1 ht rfl rfl ?_)
              exact (zv_sub (zz := zbo ((bt 8 a) ∧ (bt 8 b))) (zy := 1) (p := fun zz => zEv d 371 119 [.ref n, .int (zbo ((bt 0 a) ∧ (bt 0 b))), .int (zbo ((bt 1 a) ∧ (bt 0 b))), .int (zbo (((bt 1 a) ∧ (bt 0 b)) ∨ ((bt 0 a) ∧ (bt 1 b)))), .retAddr 0, .retAddr 0, .retAddr 0] [.int zz] S post) (zbo_pos ⟨b44, b45⟩) J48)
        have J40 : (((bt 1 a) ∧ (bt 0 b)) ∨ ((bt 0 a) ∧ (bt 1 b))) → zEv d 371 88 [.ref n, .int (zbo ((bt 0 a) ∧ (bt 0 b))), .int (zbo ((bt 1 a) ∧ (bt 0 b))), .retAddr 0, .retAddr 0, .retAddr 0, .retAddr 0] [] S post := by
          intro b41
          refine zv_c1 ht rfl rfl (zv_c1 ht rfl rfl ?_)
          exact (zv_sub (zz := zbo (((bt 1 a) ∧ (bt 0 b)) ∨ ((bt 0 a) ∧ (bt 1 b)))) (zy := 1) (p := fun zz => zEv d 371 93 [.ref n, .int (zbo ((bt 0 a) ∧ (bt 0 b))), .int (zbo ((bt 1 a) ∧ (bt 0 b))), .retAddr 0, .retAddr 0, .retAddr 0, .retAddr 0] [.int zz] S post) (zbo_pos b41) J42)
        refine zv_br ht rfl rfl rfl (fun b35 => ?_) (fun b35 => ?_)
        · replace b35 : (bt 1 a) ∧ (bt 0 b) := Classical.byContradiction (fun h => b35 ((zbo_eq0 : (zbo ((bt 1 a) ∧ (bt 0 b))) = 0 ↔ ¬ ((bt 1 a) ∧ (bt 0 b))).mpr h))
          exact (J40 (Or.inl b35))
        · replace b35 : ¬ ((bt 1 a) ∧ (bt 0 b)) := (zbo_eq0 : (zbo ((bt 1 a) ∧ (bt 0 b))) = 0 ↔ ¬ ((bt 1 a) ∧ (bt 0 b))).mp (Classical.not_not.mp b35)
          refine zv_c1 ht rfl rfl ?_
          refine zv_g3 (q := x) ht rfl hF rfl rfl (zhas_of (htn) rfl) hpx ?_
          refine zv_ei (x := zbo (bt 0 a)) ht rfl rfl (zhas_nc hcx (by decide)) hzx ?_
          have J38 : ((¬ (bt 0 a)) ∨ (¬ (bt 1 b))) → zEv d 371 92 [.ref n, .int (zbo ((bt 0 a) ∧ (bt 0 b))), .int (zbo ((bt 1 a) ∧ (bt 0 b))), .retAddr 0, .retAddr 0, .retAddr 0, .retAddr 0] [] S post := by
            intro b39
            refine zv_c1 ht rfl rfl ?_
            exact (zv_sub (zz := zbo (((bt 1 a) ∧ (bt 0 b)) ∨ ((bt 0 a) ∧ (bt 1 b)))) (zy := 0) (p := fun zz => zEv d 371 93 [.ref n, .int (zbo ((bt 0 a) ∧ (bt 0 b))), .int (zbo ((bt 1 a) ∧ (bt 0 b))), .retAddr 0, .retAddr 0, .retAddr 0, .retAddr 0] [.int zz] S post) (zbo_neg (b39.elim (fun y1 => (fun h => h.elim b35 (fun h => y1 h.1))) (fun y1 => (fun h => h.elim b35 (fun h => y1 h.2))))) J42)
          refine zv_br ht rfl rfl rfl (fun b36 => ?_) (fun b36 => ?_)
          · replace b36 : ¬ (bt 0 a) := (zbo_eq0 : (zbo (bt 0 a)) = 0 ↔ ¬ (bt 0 a)).mp b36
            exact (J38 (Or.inl b36))
          · replace b36 : bt 0 a := Classical.byContradiction (fun h => b36 ((zbo_eq0 : (zbo (bt 0 a)) = 0 ↔ ¬ (bt 0 a)).mpr h))
            refine zv_c1 ht rfl rfl ?_
            refine zv_g3 (q := y) ht rfl hF rfl rfl (zhas_of (htn) rfl) hpy ?_
            refine zv_ei (x := zbo (bt 1 b)) ht rfl rfl (zhas_nc hcy (by decide)) hoy ?_
            refine zv_br ht rfl rfl rfl (fun b37 => ?_) (fun b37 => ?_)
            · replace b37 : ¬ (bt 1 b) := (zbo_eq0 : (zbo (bt 1 b)) = 0 ↔ ¬ (bt 1 b)).mp b37
              exact (J38 (Or.inr b37))
            · replace b37 : bt 1 b := Classical.byContradiction (fun h => b37 ((zbo_eq0 : (zbo (bt 1 b)) = 0 ↔ ¬ (bt 1 b)).mpr h))
              exact (J40 (Or.inr ⟨b36, b37⟩))
      have J31 : ((¬ (bt 1 a)) ∨ (¬ (bt 0 b))) → zEv d 371 62 [.ref n, .int (zbo ((bt 0 a) ∧ (bt 0 b))), .retAddr 0, .retAddr 0, .retAddr 0, .retAddr 0, .retAddr 0] [] S post := by
        intro b32
        refine zv_c1 ht rfl rfl ?_
        exact (zv_sub (zz := zbo ((bt 1 a) ∧ (bt 0 b))) (zy := 0) (p := fun zz => zEv d 371 63 [.ref n, .int (zbo ((bt 0 a) ∧ (bt 0 b))), .retAddr 0, .retAddr 0, .retAddr 0, .retAddr 0, .retAddr 0] [.int zz] S post) (zbo_neg (b32.elim (fun y1 => (fun h => y1 h.1)) (fun y1 => (fun h => y1 h.2)))) J33)
      refine zv_br ht rfl rfl rfl (fun b29 => ?_) (fun b29 => ?_)
      · replace b29 : ¬ (bt 1 a) := (zbo_eq0 : (zbo (bt 1 a)) = 0 ↔ ¬ (bt 1 a)).mp b29
        exact (J31 (Or.inl b29))
      · replace b29 : bt 1 a := Classical.byContradiction (fun h => b29 ((zbo_eq0 : (zbo (bt 1 a)) = 0 ↔ ¬ (bt 1 a)).mpr h))
        refine zv_c1 ht rfl rfl ?_
        refine zv_g3 (q := y) ht rfl hF rfl rfl (zhas_of (htn) rfl) hpy ?_
        refine zv_ei (x := zbo (bt 0 b)) ht rfl rfl (zhas_nc hcy (by decide)) hzy ?_
        refine zv_br ht rfl rfl rfl (fun b30 => ?_) (fun b30 => ?_)
        · replace b30 : ¬ (bt 0 b) := (zbo_eq0 : (zbo (bt 0 b)) = 0 ↔ ¬ (bt 0 b)).mp b30
          exact (J31 (Or.inr b30))
        · replace b30 : bt 0 b := Classical.byContradiction (fun h => b30 ((zbo_eq0 : (zbo (bt 0 b)) = 0 ↔ ¬ (bt 0 b)).mpr h))
          refine zv_c1 ht rfl rfl (zv_c1 ht rfl rfl ?_)
          exact (zv_sub (zz := zbo ((bt 1 a) ∧ (bt 0 b))) (zy := 1) (p := fun zz => zEv d 371 63 [.ref n, .int (zbo ((bt 0 a) ∧ (bt 0 b))), .retAddr 0, .retAddr 0, .retAddr 0, .retAddr 0, .retAddr 0] [.int zz] S post) (zbo_pos ⟨b29, b30⟩) J33)
    have J25 : ((¬ (bt 0 a)) ∨ (¬ (bt 0 b))) → zEv d 371 36 [.ref n, .retAddr 0, .retAddr 0, .retAddr 0, .retAddr 0, .retAddr 0, .retAddr 0] [] S post := by
      intro b26
      refine zv_c1 ht rfl rfl ?_
      exact (zv_sub (zz := zbo ((bt 0 a) ∧ (bt 0 b))) (zy := 0) (p := fun zz => zEv d 371 37 [.ref n, .retAddr 0, .retAddr 0, .retAddr 0, .retAddr 0, .retAddr 0, .retAddr 0] [.int zz] S post) (zbo_neg (b26.elim (fun y1 => (fun h => y1 h.1)) (fun y1 => (fun h => y1 h.2)))) J27)
    refine zv_br ht rfl rfl rfl (fun b23 => ?_) (fun b23 => ?_)
    · replace b23 : ¬ (bt 0 a) := (zbo_eq0 : (zbo (bt 0 a)) = 0 ↔ ¬ (bt 0 a)).mp b23
      exact (J25 (Or.inl b23))
    · replace b23 : bt 0 a := Classical.byContradiction (fun h => b23 ((zbo_eq0 : (zbo (bt 0 a)) = 0 ↔ ¬ (bt 0 a)).mpr h))
      refine zv_c1 ht rfl rfl ?_
      refine zv_g3 (q := y) ht rfl hF rfl rfl (zhas_of (htn) rfl) hpy ?_
      refine zv_ei (x := zbo (bt 0 b)) ht rfl rfl (zhas_nc hcy (by decide)) hzy ?_
      refine zv_br ht rfl rfl rfl (fun b24 => ?_) (fun b24 => ?_)
      · replace b24 : ¬ (bt 0 b) := (zbo_eq0 : (zbo (bt 0 b)) = 0 ↔ ¬ (bt 0 b)).mp b24
        exact (J25 (Or.inr b24))
      · replace b24 : bt 0 b := Classical.byContradiction (fun h => b24 ((zbo_eq0 : (zbo (bt 0 b)) = 0 ↔ ¬ (bt 0 b)).mpr h))
        refine zv_c1 ht rfl rfl (zv_c1 ht rfl rfl ?_)
        exact (zv_sub (zz := zbo ((bt 0 a) ∧ (bt 0 b))) (zy := 1) (p := fun zz => zEv d 371 37 [.ref n, .retAddr 0, .retAddr 0, .retAddr 0, .retAddr 0, .retAddr 0, .retAddr 0] [.int zz] S post) (zbo_pos ⟨b23, b24⟩) J27)
  · replace b22 : ¬ ((((p + 1) = 1) ∧ (bt 3 a) ∧ (bt 4 a)) ∧ ((q + 1) = 2)) := (zbo_eq0 : (zbo ((((p + 1) = 1) ∧ (bt 3 a) ∧ (bt 4 a)) ∧ ((q + 1) = 2))) = 0 ↔ ¬ ((((p + 1) = 1) ∧ (bt 3 a) ∧ (bt 4 a)) ∧ ((q + 1) = 2))).mp (Classical.not_not.mp b22)
    refine zv_c1 ht rfl rfl ?_
    have C96 : ∀ (pst95 : Outcome × zS → Prop), (pst95 (.returned (some (.ref (gN S))), sI (sI (sT (sNew S 8 0 (zslots 8)) (gN S) 8 1) 136 (gN S) 3) 137 (gN S) (gI S 144 n))) → zCall (d - 1) 283 [.ref n] S pst95 := by
      intro pst95 k102
      have ht97 : ztab 283 = ztb283 := rfl
      show zEv (d - 1) 283 0 [.ref n] [] S pst95
      refine zv_ci (st' := [.ref (gN S)]) (S' := sNew S 8 0 (zslots 8)) ht97 rfl rfl (znew_ok (show 1639 ≤ gN S from by omega) (show gN S < 2000000 from by omega)) ?_
      refine zv_c1 ht97 rfl rfl (zv_c1 ht97 rfl rfl (zv_c1 ht97 rfl rfl ?_))
      refine zv_ei (x := gI S 144 n) ht97 rfl rfl (zhas_of (Eq.trans (ztyp_new (S := S) (t := 8) (n := 0) (s := zslots 8) (show n ≠ gN S from by omega)) htn) rfl) (gI_new (S := S) (t := 8) (n := 0) (s := zslots 8) (show n ≠ gN S from by omega)) ?_
      have C99 : ∀ (pst98 : Outcome × zS → Prop), (pst98 (.returned none, sI (sI (sT (sNew S 8 0 (zslots 8)) (gN S) 8 1) 136 (gN S) 3) 137 (gN S) (gI S 144 n))) → zCall ((d - 1) - 1) 269 [.ref (gN S), .int 3, .int (gI S 144 n)] (sNew S 8 0 (zslots 8)) pst98 := by
        intro pst98 k101
        have ht100 : ztab 269 = ztb269 := rfl
        show zEv ((d - 1) - 1) 269 0 [.ref (gN S), .int 3, .int (gI S 144 n)] [] (sNew S 8 0 (zslots 8)) pst98
        refine zv_c1 ht100 rfl rfl ?_
        refine zv_ci (S' := sT (sNew S 8 0 (zslots 8)) (gN S) 8 1) ht100 rfl rfl ⟨ztyp_new_at (S := S) (t := 8) (n := 0) (s := zslots 8) (show 1639 ≤ gN S from by omega), (show gN S < gN S + 1 from by omega), zlen_new_at (S := S) (t := 8) (n := 0) (s := zslots 8) (show 1639 ≤ gN S from by omega)⟩ ?_
        refine zv_c1 ht100 rfl rfl (zv_c1 ht100 rfl rfl ?_)
        refine zv_ci (S' := sI (sT (sNew S 8 0 (zslots 8)) (gN S) 8 1) 136 (gN S) 3) ht100 rfl rfl ⟨⟨(zhas_of (ztyp_sT1 (show 1639 ≤ gN S from by omega)) rfl), (show gN S < gN S + 1 from by omega)⟩, zlen_sT1 (show 1639 ≤ gN S from by omega)⟩ ?_
        refine zv_c1 ht100 rfl rfl (zv_c1 ht100 rfl rfl ?_)
        refine zv_ci (S' := sI (sI (sT (sNew S 8 0 (zslots 8)) (gN S) 8 1) 136 (gN S) 3) 137 (gN S) (gI S 144 n)) ht100 rfl rfl ⟨⟨(zhas_of (ztyp_sT1 (show 1639 ≤ gN S from by omega)) rfl), (show gN S < gN S + 1 from by omega)⟩, zlen_sT1 (show 1639 ≤ gN S from by omega)⟩ ?_
        exact zv_rt ht100 rfl rfl rfl rfl k101
      refine zv_cl ht97 rfl rfl rfl rfl (by omega) (Nat.le_of_ble_eq_true rfl) (C99 _ ?_)
      show zEv (d - 1) 283 12 [.ref n] [.ref (gN S)] (sI (sI (sT (sNew S 8 0 (zslots 8)) (gN S) 8 1) 136 (gN S) 3) 137 (gN S) (gI S 144 n)) pst95
      exact zv_rt ht97 rfl rfl rfl rfl k102
    refine zv_cl ht rfl rfl rfl (zv_tgv (htn) rfl) (by omega) (Nat.le_of_ble_eq_true rfl) (C96 _ ?_)
    show zEv d 371 11 [.ref n, .retAddr 0, .retAddr 0, .retAddr 0, .retAddr 0, .retAddr 0, .retAddr 0] [.ref (gN S)] (sI (sI (sT (sNew S 8 0 (zslots 8)) (gN S) 8 1) 136 (gN S) 3) 137 (gN S) (gI S 144 n)) post
    exact zv_th ht rfl rfl rfl ⟨ztyp_sT1 (show 1639 ≤ gN S from by omega), (show gN S < gN S + 1 from by omega)⟩ rfl (h2 b22)

theorem pj_4 {d : Nat} {S : zS} (hF : zFin true S) (hd : 2 ≤ d) (n x y : Nat) (p q a b tx ty : Int32) (hn0 : 1639 ≤ n) (hn : n < gN S) (hx : x < gN S) (hxn : x ≠ n) (hy : y < gN S) (hyn : y ≠ n) (hcx : zNc (ztyp S x) = true) (hcy : zNc (ztyp S y) = true) (hN2 : gN S < 1900000) (htn : ztyp S n = 20) (how : gI S 187 n = Int32.ofNat 4) (hpx : gP S 188 n = some x) (hpy : gP S 189 n = some y) (hbx : gI S 145 x = p + 1) (hzx : gI S 147 x = zbo (bt 0 a)) (hox : gI S 148 x = zbo (bt 1 a)) (hnx : gI S 149 x = zbo (bt 2 a)) (hdx : gI S 150 x = zbo (bt 3 a)) (hux : gI S 151 x = zbo (bt 4 a)) (hsx : gI S 152 x = zbo (bt 5 a)) (hfx : gI S 153 x = zbo (bt 6 a)) (hex : gI S 154 x = zbo (bt 7 a)) (hmx : gI S 155 x = zbo (bt 8 a)) (hmixedx : gI S 156 x = zbo (bt 9 a)) (htx : gI S 146 x = tx) (hby : gI S 145 y = q + 1) (hzy : gI S 147 y = zbo (bt 0 b)) (hoy : gI S 148 y = zbo (bt 1 b)) (hny : gI S 149 y = zbo (bt 2 b)) (hdy : gI S 150 y = zbo (bt 3 b)) (huy : gI S 151 y = zbo (bt 4 b)) (hsy : gI S 152 y = zbo (bt 5 b)) (hfy : gI S 153 y = zbo (bt 6 b)) (hey : gI S 154 y = zbo (bt 7 b)) (hmy : gI S 155 y = zbo (bt 8 b)) (hmixedy : gI S 156 y = zbo (bt 9 b)) (hty : gI S 146 y = ty) (hm0 : gI S 156 n = zbo False) (ht0 : gI S 146 n = 0) {post : Outcome × zS → Prop} (h1 : ((((p + 1) = 1) ∧ (bt 3 a) ∧ (bt 4 a)) ∧ ((q + 1) = 1)) → post (.returned none, sI (sI (sI (sI (sI (sI (sI (sI (sI (sI (sI (sI (sI (sI S 145 n 1) 147 n (zbo ((bt 0 a) ∧ (bt 0 b)))) 148 n (zbo ((bt 1 a) ∧ (bt 0 b)))) 149 n 0) 150 n (zbo (bt 3 b))) 151 n (zbo (bt 4 b))) 152 n (zbo ((bt 5 a) ∧ (bt 5 b)))) 153 n (zbo (bt 6 b))) 154 n (zbo (bt 7 b))) 155 n (zbo (((bt 8 a) ∧ (bt 8 b)) ∧ (bt 7 a) ∧ ((bt 5 a) ∨ (bt 5 b))))) 156 n (zbo (bt 9 a))) 146 n ((0 : Int32) ||| tx)) 156 n (zbo ((bt 9 a) ∨ (bt 9 b)))) 146 n (((0 : Int32) ||| tx) ||| ty))) (h2 : (¬ ((((p + 1) = 1) ∧ (bt 3 a) ∧ (bt 4 a)) ∧ ((q + 1) = 1))) → post (.threw (gN S), sI (sI (sT (sNew S 8 0 (zslots 8)) (gN S) 8 1) 136 (gN S) 3) 137 (gN S) (gI S 144 n))) : zCall d 371 [.ref n] S post := by
  have ht : ztab 371 = ztb371 := rfl
  show zEv d 371 0 [.ref n, .retAddr 0, .retAddr 0, .retAddr 0, .retAddr 0, .retAddr 0, .retAddr 0] [] S post
  refine zv_c1 ht rfl rfl ?_
  have C2 : ∀ (pst1 : Outcome × zS → Prop), (pst1 (.returned (some (.int (zbo ((((p + 1) = 1) ∧ (bt 3 a) ∧ (bt 4 a)) ∧ ((q + 1) = 1))))), S)) → zCall (d - 1) 372 [.ref n] S pst1 := by
    intro pst1 k21
    have ht3 : ztab 372 = ztb372 := rfl
    show zEv (d - 1) 372 0 [.ref n] [] S pst1
    refine zv_c1 ht3 rfl rfl ?_
    refine zv_ei (x := 4) ht3 rfl rfl (zhas_of (htn) rfl) how ?_
    refine zv_sw ht3 rfl rfl rfl rfl rfl ?_
    refine And.intro (fun h => absurd h (by decide)) (fun _ => ?_)
    refine And.intro (fun h => absurd h (by decide)) (fun _ => ?_)
    refine And.intro (fun h => absurd h (by decide)) (fun _ => ?_)
    refine And.intro (fun h => absurd h (by decide)) (fun _ => ?_)
    refine And.intro (fun _ => ?_) (fun h => absurd (by decide) h)
    refine zv_c1 ht3 rfl rfl ?_
    refine zv_g3 (q := x) ht3 rfl hF rfl rfl (zhas_of (htn) rfl) hpx ?_
    have C5 : ∀ (pst4 : Outcome × zS → Prop), (pst4 (.returned (some (.int (zbo (((p + 1) = 1) ∧ (bt 3 a) ∧ (bt 4 a))))), S)) → zCall ((d - 1) - 1) 281 [.ref x] S pst4 := by
      intro pst4 k14
      have ht6 : ztab 281 = ztb281 := rfl
      show zEv ((d - 1) - 1) 281 0 [.ref x] [] S pst4
      refine zv_c1 ht6 rfl rfl ?_
      refine zv_ei (x := p + 1) ht6 rfl rfl (zhas_nc hcx (by decide)) hbx ?_
      refine zv_c1 ht6 rfl rfl ?_
      have J12 : zEv ((d - 1) - 1) 281 27 [.retAddr 0] [.int (zbo (((p + 1) = 1) ∧ (bt 3 a) ∧ (bt 4 a)))] S pst4 := by
        exact zv_rc ht6 rfl rfl rfl rfl zbo_rng k14
      have J10 : ((¬ ((p + 1) = 1)) ∨ (¬ (bt 3 a)) ∨ (¬ (bt 4 a))) → zEv ((d - 1) - 1) 281 26 [.retAddr 0] [] S pst4 := by
        intro b11
        refine zv_c1 ht6 rfl rfl ?_
        exact (zv_sub (zz := zbo (((p + 1) = 1) ∧ (bt 3 a) ∧ (bt 4 a))) (zy := 0) (p := fun zz => zEv ((d - 1) - 1) 281 27 [.retAddr 0] [.int zz] S pst4) (zbo_neg (b11.elim (fun y1 => (fun h => y1 h.1)) (fun y1 => (y1.elim (fun y2 => (fun h => (fun h => y2 h.1) h.2)) (fun y2 => (fun h => (fun h => y2 h.2) h.2)))))) J12)
      refine zv_br ht6 rfl rfl rfl (fun b7 => ?_) (fun b7 => ?_)
      · exact zEv.wk (L := [.retAddr 0]) (L' := [.ref x]) (And.intro (Or.inr rfl) trivial) (J10 (Or.inl b7))
      · replace b7 : (p + 1) = 1 := Classical.not_not.mp b7
        refine zv_c1 ht6 rfl rfl ?_
        refine zv_ei (x := zbo (bt 3 a)) ht6 rfl rfl (zhas_nc hcx (by decide)) hdx ?_
        refine zv_br ht6 rfl rfl rfl (fun b8 => ?_) (fun b8 => ?_)
        · replace b8 : ¬ (bt 3 a) := (zbo_eq0 : (zbo (bt 3 a)) = 0 ↔ ¬ (bt 3 a)).mp b8
          exact zEv.wk (L := [.retAddr 0]) (L' := [.ref x]) (And.intro (Or.inr rfl) trivial) (J10 (Or.inr (Or.inl b8)))
        · replace b8 : bt 3 a := Classical.byContradiction (fun h => b8 ((zbo_eq0 : (zbo (bt 3 a)) = 0 ↔ ¬ (bt 3 a)).mpr h))
          refine zv_c1 ht6 rfl rfl ?_
          refine zv_ei (x := zbo (bt 4 a)) ht6 rfl rfl (zhas_nc hcx (by decide)) hux ?_
          refine zv_br ht6 rfl rfl rfl (fun b9 => ?_) (fun b9 => ?_)
          · replace b9 : ¬ (bt 4 a) := (zbo_eq0 : (zbo (bt 4 a)) = 0 ↔ ¬ (bt 4 a)).mp b9
            exact zEv.wk (L := [.retAddr 0]) (L' := [.ref x]) (And.intro (Or.inr rfl) trivial) (J10 (Or.inr (Or.inr b9)))
          · replace b9 : bt 4 a := Classical.byContradiction (fun h => b9 ((zbo_eq0 : (zbo (bt 4 a)) = 0 ↔ ¬ (bt 4 a)).mpr h))
            refine zv_c1 ht6 rfl rfl (zv_c1 ht6 rfl rfl ?_)
            exact zEv.wk (L := [.retAddr 0]) (L' := [.ref x]) (And.intro (Or.inr rfl) trivial) (zv_sub (zz := zbo (((p + 1) = 1) ∧ (bt 3 a) ∧ (bt 4 a))) (zy := 1) (p := fun zz => zEv ((d - 1) - 1) 281 27 [.retAddr 0] [.int zz] S pst4) (zbo_pos ⟨b7, ⟨b8, b9⟩⟩) J12)
    refine zv_cl ht3 rfl rfl rfl (zv_tgA hcx (by decide)) (by omega) (Nat.le_of_ble_eq_true rfl) (C5 _ ?_)
    show zEv (d - 1) 372 178 [.ref n] [.int (zbo (((p + 1) = 1) ∧ (bt 3 a) ∧ (bt 4 a)))] S pst1
    have J19 : zEv (d - 1) 372 197 [.retAddr 0] [.int (zbo ((((p + 1) = 1) ∧ (bt 3 a) ∧ (bt 4 a)) ∧ ((q + 1) = 1)))] S pst1 := by
      exact zv_rc ht3 rfl rfl rfl rfl zbo_rng k21
    have J17 : ((¬ (((p + 1) = 1) ∧ (bt 3 a) ∧ (bt 4 a))) ∨ (¬ ((q + 1) = 1))) → zEv (d - 1) 372 196 [.retAddr 0] [] S pst1 := by
      intro b18
      refine zv_c1 ht3 rfl rfl ?_
      exact (zv_sub (zz := zbo ((((p + 1) = 1) ∧ (bt 3 a) ∧ (bt 4 a)) ∧ ((q + 1) = 1))) (zy := 0) (p := fun zz => zEv (d - 1) 372 197 [.retAddr 0] [.int zz] S pst1) (zbo_neg (b18.elim (fun y1 => (fun h => y1 h.1)) (fun y1 => (fun h => y1 h.2)))) J19)
    refine zv_br ht3 rfl rfl rfl (fun b15 => ?_) (fun b15 => ?_)
    · replace b15 : ¬ (((p + 1) = 1) ∧ (bt 3 a) ∧ (bt 4 a)) := (zbo_eq0 : (zbo (((p + 1) = 1) ∧ (bt 3 a) ∧ (bt 4 a))) = 0 ↔ ¬ (((p + 1) = 1) ∧ (bt 3 a) ∧ (bt 4 a))).mp b15
      exact zEv.wk (L := [.retAddr 0]) (L' := [.ref n]) (And.intro (Or.inr rfl) trivial) (J17 (Or.inl b15))
    · replace b15 : ((p + 1) = 1) ∧ (bt 3 a) ∧ (bt 4 a) := Classical.byContradiction (fun h => b15 ((zbo_eq0 : (zbo (((p + 1) = 1) ∧ (bt 3 a) ∧ (bt 4 a))) = 0 ↔ ¬ (((p + 1) = 1) ∧ (bt 3 a) ∧ (bt 4 a))).mpr h))
      refine zv_c1 ht3 rfl rfl ?_
      refine zv_g3 (q := y) ht3 rfl hF rfl rfl (zhas_of (htn) rfl) hpy ?_
      refine zv_ei (x := q + 1) ht3 rfl rfl (zhas_nc hcy (by decide)) hby ?_
      refine zv_c1 ht3 rfl rfl ?_
      refine zv_br ht3 rfl rfl rfl (fun b16 => ?_) (fun b16 => ?_)
      · exact zEv.wk (L := [.retAddr 0]) (L' := [.ref n]) (And.intro (Or.inr rfl) trivial) (J17 (Or.inr b16))
      · replace b16 : (q + 1) = 1 := Classical.not_not.mp b16
        refine zv_c1 ht3 rfl rfl (zv_c1 ht3 rfl rfl ?_)
        exact zEv.wk (L := [.retAddr 0]) (L' := [.ref n]) (And.intro (Or.inr rfl) trivial) (zv_sub (zz := zbo ((((p + 1) = 1) ∧ (bt 3 a) ∧ (bt 4 a)) ∧ ((q + 1) = 1))) (zy := 1) (p := fun zz => zEv (d - 1) 372 197 [.retAddr 0] [.int zz] S pst1) (zbo_pos ⟨b15, b16⟩) J19)
  refine zv_cl ht rfl rfl rfl (zv_tgv (htn) rfl) (by omega) (Nat.le_of_ble_eq_true rfl) (C2 _ ?_)
  show zEv d 371 4 [.ref n, .retAddr 0, .retAddr 0, .retAddr 0, .retAddr 0, .retAddr 0, .retAddr 0] [.int (zbo ((((p + 1) = 1) ∧ (bt 3 a) ∧ (bt 4 a)) ∧ ((q + 1) = 1)))] S post
  refine zv_br ht rfl rfl rfl (fun b22 => ?_) (fun b22 => ?_)
  · replace b22 : (((p + 1) = 1) ∧ (bt 3 a) ∧ (bt 4 a)) ∧ ((q + 1) = 1) := Classical.byContradiction (fun h => b22 ((zbo_eq0 : (zbo ((((p + 1) = 1) ∧ (bt 3 a) ∧ (bt 4 a)) ∧ ((q + 1) = 1))) = 0 ↔ ¬ ((((p + 1) = 1) ∧ (bt 3 a) ∧ (bt 4 a)) ∧ ((q + 1) = 1))).mpr h))
    refine zv_c1 ht rfl rfl ?_
    refine zv_g3 (q := x) ht rfl hF rfl rfl (zhas_of (htn) rfl) hpx ?_
    refine zv_ei (x := zbo (bt 0 a)) ht rfl rfl (zhas_nc hcx (by decide)) hzx ?_
    have J27 : zEv d 371 37 [.ref n, .retAddr 0, .retAddr 0, .retAddr 0, .retAddr 0, .retAddr 0, .retAddr 0] [.int (zbo ((bt 0 a) ∧ (bt 0 b)))] S post := by
      refine zv_c2 (L' := [.ref n, .int (zbo ((bt 0 a) ∧ (bt 0 b))), .retAddr 0, .retAddr 0, .retAddr 0, .retAddr 0, .retAddr 0]) ht rfl rfl ?_
      refine zv_c1 ht rfl rfl ?_
      refine zv_g3 (q := x) ht rfl hF rfl rfl (zhas_of (htn) rfl) hpx ?_
      refine zv_ei (x := zbo (bt 1 a)) ht rfl rfl (zhas_nc hcx (by decide)) hox ?_
      have J33 : zEv d 371 63 [.ref n, .int (zbo ((bt 0 a) ∧ (bt 0 b))), .retAddr 0, .retAddr 0, .retAddr 0, .retAddr 0, .retAddr 0] [.int (zbo ((bt 1 a) ∧ (bt 0 b)))] S post := by
        refine zv_c2 (L' := [.ref n, .int (zbo ((bt 0 a) ∧ (bt 0 b))), .int (zbo ((bt 1 a) ∧ (bt 0 b))), .retAddr 0, .retAddr 0, .retAddr 0, .retAddr 0]) ht rfl rfl ?_
        refine zv_c1 ht rfl rfl ?_
        have J42 : zEv d 371 93 [.ref n, .int (zbo ((bt 0 a) ∧ (bt 0 b))), .int (zbo ((bt 1 a) ∧ (bt 0 b))), .retAddr 0, .retAddr 0, .retAddr 0, .retAddr 0] [.int (zbo (((bt 1 a) ∧ (bt 0 b)) ∨ ((bt 0 a) ∧ (bt 1 b))))] S post := by
          refine zv_c2 (L' := [.ref n, .int (zbo ((bt 0 a) ∧ (bt 0 b))), .int (zbo ((bt 1 a) ∧ (bt 0 b))), .int (zbo (((bt 1 a) ∧ (bt 0 b)) ∨ ((bt 0 a) ∧ (bt 1 b)))), .retAddr 0, .retAddr 0, .retAddr 0]) ht rfl rfl ?_
          refine zv_c1 ht rfl rfl ?_
          refine zv_g3 (q := x) ht rfl hF rfl rfl (zhas_of (htn) rfl) hpx ?_
          refine zv_ei (x := zbo (bt 8 a)) ht rfl rfl (zhas_nc hcx (by decide)) hmx ?_
          have J48 : zEv d 371 119 [.ref n, .int (zbo ((bt 0 a) ∧ (bt 0 b))), .int (zbo ((bt 1 a) ∧ (bt 0 b))), .int (zbo (((bt 1 a) ∧ (bt 0 b)) ∨ ((bt 0 a) ∧ (bt 1 b)))), .retAddr 0, .retAddr 0, .retAddr 0] [.int (zbo ((bt 8 a) ∧ (bt 8 b)))] S post := by
            refine zv_c2 (L' := [.ref n, .int (zbo ((bt 0 a) ∧ (bt 0 b))), .int (zbo ((bt 1 a) ∧ (bt 0 b))), .int (zbo (((bt 1 a) ∧ (bt 0 b)) ∨ ((bt 0 a) ∧ (bt 1 b)))), .int (zbo ((bt 8 a) ∧ (bt 8 b))), .retAddr 0, .retAddr 0]) ht rfl rfl ?_
            refine zv_c1 ht rfl rfl ?_
            refine zv_g3 (q := x) ht rfl hF rfl rfl (zhas_of (htn) rfl) hpx ?_
            refine zv_ei (x := zbo (bt 5 a)) ht rfl rfl (zhas_nc hcx (by decide)) hsx ?_
            have J54 : zEv d 371 146 [.ref n, .int (zbo ((bt 0 a) ∧ (bt 0 b))), .int (zbo ((bt 1 a) ∧ (bt 0 b))), .int (zbo (((bt 1 a) ∧ (bt 0 b)) ∨ ((bt 0 a) ∧ (bt 1 b)))), .int (zbo ((bt 8 a) ∧ (bt 8 b))), .retAddr 0, .retAddr 0] [.int (zbo ((bt 5 a) ∨ (bt 5 b)))] S post := by
              refine zv_c2 (L' := [.ref n, .int (zbo ((bt 0 a) ∧ (bt 0 b))), .int (zbo ((bt 1 a) ∧ (bt 0 b))), .int (zbo (((bt 1 a) ∧ (bt 0 b)) ∨ ((bt 0 a) ∧ (bt 1 b)))), .int (zbo ((bt 8 a) ∧ (bt 8 b))), .int (zbo ((bt 5 a) ∨ (bt 5 b))), .retAddr 0]) ht rfl rfl ?_
              refine zv_c1 ht rfl rfl ?_
              refine zv_g3 (q := x) ht rfl hF rfl rfl (zhas_of (htn) rfl) hpx ?_
              refine zv_ei (x := zbo (bt 5 a)) ht rfl rfl (zhas_nc hcx (by decide)) hsx ?_
              have J60 : zEv d 371 173 [.ref n, .int (zbo ((bt 0 a) ∧ (bt 0 b))), .int (zbo ((bt 1 a) ∧ (bt 0 b))), .int (zbo (((bt 1 a) ∧ (bt 0 b)) ∨ ((bt 0 a) ∧ (bt 1 b)))), .int (zbo ((bt 8 a) ∧ (bt 8 b))), .int (zbo ((bt 5 a) ∨ (bt 5 b))), .retAddr 0] [.int (zbo ((bt 5 a) ∧ (bt 5 b)))] S post := by
                refine zv_c2 (L' := [.ref n, .int (zbo ((bt 0 a) ∧ (bt 0 b))), .int (zbo ((bt 1 a) ∧ (bt 0 b))), .int (zbo (((bt 1 a) ∧ (bt 0 b)) ∨ ((bt 0 a) ∧ (bt 1 b)))), .int (zbo ((bt 8 a) ∧ (bt 8 b))), .int (zbo ((bt 5 a) ∨ (bt 5 b))), .int (zbo ((bt 5 a) ∧ (bt 5 b)))]) ht rfl rfl ?_
                refine zv_c1 ht rfl rfl ?_
                refine zv_ei (x := 4) ht rfl rfl (zhas_of (htn) rfl) how ?_
                refine zv_sw ht rfl rfl rfl rfl rfl ?_
                refine And.intro (fun h => absurd h (by decide)) (fun _ => ?_)
                refine And.intro (fun h => absurd h (by decide)) (fun _ => ?_)
                refine And.intro (fun h => absurd h (by decide)) (fun _ => ?_)
                refine And.intro (fun h => absurd h (by decide)) (fun _ => ?_)
                refine And.intro (fun _ => ?_) (fun h => absurd (by decide) h)
                refine zv_c1 ht rfl rfl (zv_c1 ht rfl rfl (zv_c1 ht rfl rfl (zv_c1 ht rfl rfl (zv_c1 ht rfl rfl (zv_c1 ht rfl rfl ?_)))))
                refine zv_g3 (q := y) ht rfl hF rfl rfl (zhas_of (htn) rfl) hpy ?_
                refine zv_ei (x := zbo (bt 3 b)) ht rfl rfl (zhas_nc hcy (by decide)) hdy ?_
                refine zv_c1 ht rfl rfl ?_
                refine zv_g3 (q := y) ht rfl hF rfl rfl (zhas_of (htn) rfl) hpy ?_
                refine zv_ei (x := zbo (bt 4 b)) ht rfl rfl (zhas_nc hcy (by decide)) huy ?_
                have C63 : ∀ (pst62 : Outcome × zS → Prop), (pst62 (.returned none, sI (sI (sI (sI (sI (sI S 145 n 1) 147 n (zbo ((bt 0 a) ∧ (bt 0 b)))) 148 n (zbo ((bt 1 a) ∧ (bt 0 b)))) 149 n 0) 150 n (zbo (bt 3 b))) 151 n (zbo (bt 4 b)))) → zCall (d - 1) 284 [.ref n, .int 1, .int (zbo ((bt 0 a) ∧ (bt 0 b))), .int (zbo ((bt 1 a) ∧ (bt 0 b))), .int 0, .int (zbo (bt 3 b)), .int (zbo (bt 4 b))] S pst62 := by
                  intro pst62 k65
                  have ht64 : ztab 284 = ztb284 := rfl
                  show zEv (d - 1) 284 0 [.ref n, .int 1, .int (zbo ((bt 0 a) ∧ (bt 0 b))), .int (zbo ((bt 1 a) ∧ (bt 0 b))), .int 0, .int (zbo (bt 3 b)), .int (zbo (bt 4 b))] [] S pst62
                  refine zv_c1 ht64 rfl rfl (zv_c1 ht64 rfl rfl ?_)
                  refine zv_ci (S' := sI S 145 n 1) ht64 rfl rfl ⟨(zhas_of (htn) rfl), (show n < gN S from by omega)⟩ ?_
                  refine zv_c1 ht64 rfl rfl (zv_c1 ht64 rfl rfl ?_)
                  refine zv_ci (S' := sI (sI S 145 n 1) 147 n (zbo ((bt 0 a) ∧ (bt 0 b)))) ht64 rfl rfl ⟨⟨(zhas_of (htn) rfl), (show n < gN S from by omega)⟩, zbo_rng⟩ ?_
                  refine zv_c1 ht64 rfl rfl (zv_c1 ht64 rfl rfl ?_)
                  refine zv_ci (S' := sI (sI (sI S 145 n 1) 147 n (zbo ((bt 0 a) ∧ (bt 0 b)))) 148 n (zbo ((bt 1 a) ∧ (bt 0 b)))) ht64 rfl rfl ⟨⟨(zhas_of (htn) rfl), (show n < gN S from by omega)⟩, zbo_rng⟩ ?_
                  refine zv_c1 ht64 rfl rfl (zv_c1 ht64 rfl rfl ?_)
                  refine zv_ci (S' := sI (sI (sI (sI S 145 n 1) 147 n (zbo ((bt 0 a) ∧ (bt 0 b)))) 148 n (zbo ((bt 1 a) ∧ (bt 0 b)))) 149 n 0) ht64 rfl rfl ⟨⟨(zhas_of (htn) rfl), (show n < gN S from by omega)⟩, (by decide)⟩ ?_
                  refine zv_c1 ht64 rfl rfl (zv_c1 ht64 rfl rfl ?_)
                  refine zv_ci (S' := sI (sI (sI (sI (sI S 145 n 1) 147 n (zbo ((bt 0 a) ∧ (bt 0 b)))) 148 n (zbo ((bt 1 a) ∧ (bt 0 b)))) 149 n 0) 150 n (zbo (bt 3 b))) ht64 rfl rfl ⟨⟨(zhas_of (htn) rfl), (show n < gN S from by omega)⟩, zbo_rng⟩ ?_
                  refine zv_c1 ht64 rfl rfl (zv_c1 ht64 rfl rfl ?_)
                  refine zv_ci (S' := sI (sI (sI (sI (sI (sI S 145 n 1) 147 n (zbo ((bt 0 a) ∧ (bt 0 b)))) 148 n (zbo ((bt 1 a) ∧ (bt 0 b)))) 149 n 0) 150 n (zbo (bt 3 b))) 151 n (zbo (bt 4 b))) ht64 rfl rfl ⟨⟨(zhas_of (htn) rfl), (show n < gN S from by omega)⟩, zbo_rng⟩ ?_
                  exact zv_rt ht64 rfl rfl rfl rfl k65
                refine zv_cl ht rfl rfl rfl (zv_tgv (htn) rfl) (by omega) (Nat.le_of_ble_eq_true rfl) (C63 _ ?_)
                show zEv d 371 603 [.ref n, .int (zbo ((bt 0 a) ∧ (bt 0 b))), .int (zbo ((bt 1 a) ∧ (bt 0 b))), .int (zbo (((bt 1 a) ∧ (bt 0 b)) ∨ ((bt 0 a) ∧ (bt 1 b)))), .int (zbo ((bt 8 a) ∧ (bt 8 b))), .int (zbo ((bt 5 a) ∨ (bt 5 b))), .int (zbo ((bt 5 a) ∧ (bt 5 b)))] [] (sI (sI (sI (sI (sI (sI S 145 n 1) 147 n (zbo ((bt 0 a) ∧ (bt 0 b)))) 148 n (zbo ((bt 1 a) ∧ (bt 0 b)))) 149 n 0) 150 n (zbo (bt 3 b))) 151 n (zbo (bt 4 b))) post
                refine zv_c1 ht rfl rfl (zv_c1 ht rfl rfl (zv_c1 ht rfl rfl ?_))
                refine zv_g3 (q := y) ht rfl hF rfl rfl (zhas_of (htn) rfl) hpy ?_
                refine zv_ei (x := zbo (bt 6 b)) ht rfl rfl (zhas_nc hcy (by decide)) hfy ?_
                refine zv_c1 ht rfl rfl ?_
                refine zv_g3 (q := y) ht rfl hF rfl rfl (zhas_of (htn) rfl) hpy ?_
                refine zv_ei (x := zbo (bt 7 b)) ht rfl rfl (zhas_nc hcy (by decide)) hey ?_
                refine zv_c1 ht rfl rfl ?_
                have J71 : zEv d 371 645 [.ref n, .retAddr 0, .retAddr 0, .retAddr 0, .retAddr 0, .retAddr 0, .retAddr 0] [.int (zbo (((bt 8 a) ∧ (bt 8 b)) ∧ (bt 7 a) ∧ ((bt 5 a) ∨ (bt 5 b)))), .int (zbo (bt 7 b)), .int (zbo (bt 6 b)), .int (zbo ((bt 5 a) ∧ (bt 5 b))), .ref n] (sI (sI (sI (sI (sI (sI S 145 n 1) 147 n (zbo ((bt 0 a) ∧ (bt 0 b)))) 148 n (zbo ((bt 1 a) ∧ (bt 0 b)))) 149 n 0) 150 n (zbo (bt 3 b))) 151 n (zbo (bt 4 b))) post := by
                  have C74 : ∀ (pst73 : Outcome × zS → Prop), (pst73 (.returned none, sI (sI (sI (sI (sI (sI (sI (sI (sI (sI S 145 n 1) 147 n (zbo ((bt 0 a) ∧ (bt 0 b)))) 148 n (zbo ((bt 1 a) ∧ (bt 0 b)))) 149 n 0) 150 n (zbo (bt 3 b))) 151 n (zbo (bt 4 b))) 152 n (zbo ((bt 5 a) ∧ (bt 5 b)))) 153 n (zbo (bt 6 b))) 154 n (zbo (bt 7 b))) 155 n (zbo (((bt 8 a) ∧ (bt 8 b)) ∧ (bt 7 a) ∧ ((bt 5 a) ∨ (bt 5 b)))))) → zCall (d - 1) 285 [.ref n, .int (zbo ((bt 5 a) ∧ (bt 5 b))), .int (zbo (bt 6 b)), .int (zbo (bt 7 b)), .int (zbo (((bt 8 a) ∧ (bt 8 b)) ∧ (bt 7 a) ∧ ((bt 5 a) ∨ (bt 5 b))))] (sI (sI (sI (sI (sI (sI S 145 n 1) 147 n (zbo ((bt 0 a) ∧ (bt 0 b)))) 148 n (zbo ((bt 1 a) ∧ (bt 0 b)))) 149 n 0) 150 n (zbo (bt 3 b))) 151 n (zbo (bt 4 b))) pst73 := by
                    intro pst73 k76
                    have ht75 : ztab 285 = ztb285 := rfl
                    show zEv (d - 1) 285 0 [.ref n, .int (zbo ((bt 5 a) ∧ (bt 5 b))), .int (zbo (bt 6 b)), .int (zbo (bt 7 b)), .int (zbo (((bt 8 a) ∧ (bt 8 b)) ∧ (bt 7 a) ∧ ((bt 5 a) ∨ (bt 5 b))))] [] (sI (sI (sI (sI (sI (sI S 145 n 1) 147 n (zbo ((bt 0 a) ∧ (bt 0 b)))) 148 n (zbo ((bt 1 a) ∧ (bt 0 b)))) 149 n 0) 150 n (zbo (bt 3 b))) 151 n (zbo (bt 4 b))) pst73
                    refine zv_c1 ht75 rfl rfl (zv_c1 ht75 rfl rfl ?_)
                    refine zv_ci (S' := sI (sI (sI (sI (sI (sI (sI S 145 n 1) 147 n (zbo ((bt 0 a) ∧ (bt 0 b)))) 148 n (zbo ((bt 1 a) ∧ (bt 0 b)))) 149 n 0) 150 n (zbo (bt 3 b))) 151 n (zbo (bt 4 b))) 152 n (zbo ((bt 5 a) ∧ (bt 5 b)))) ht75 rfl rfl ⟨⟨(zhas_of (htn) rfl), (show n < gN S from by omega)⟩, zbo_rng⟩ ?_
                    refine zv_c1 ht75 rfl rfl (zv_c1 ht75 rfl rfl ?_)
                    refine zv_ci (S' := sI (sI (sI (sI (sI (sI (sI (sI S 145 n 1) 147 n (zbo ((bt 0 a) ∧ (bt 0 b)))) 148 n (zbo ((bt 1 a) ∧ (bt 0 b)))) 149 n 0) 150 n (zbo (bt 3 b))) 151 n (zbo (bt 4 b))) 152 n (zbo ((bt 5 a) ∧ (bt 5 b)))) 153 n (zbo (bt 6 b))) ht75 rfl rfl ⟨⟨(zhas_of (htn) rfl), (show n < gN S from by omega)⟩, zbo_rng⟩ ?_
                    refine zv_c1 ht75 rfl rfl (zv_c1 ht75 rfl rfl ?_)
                    refine zv_ci (S' := sI (sI (sI (sI (sI (sI (sI (sI (sI S 145 n 1) 147 n (zbo ((bt 0 a) ∧ (bt 0 b)))) 148 n (zbo ((bt 1 a) ∧ (bt 0 b)))) 149 n 0) 150 n (zbo (bt 3 b))) 151 n (zbo (bt 4 b))) 152 n (zbo ((bt 5 a) ∧ (bt 5 b)))) 153 n (zbo (bt 6 b))) 154 n (zbo (bt 7 b))) ht75 rfl rfl ⟨⟨(zhas_of (htn) rfl), (show n < gN S from by omega)⟩, zbo_rng⟩ ?_
                    refine zv_c1 ht75 rfl rfl (zv_c1 ht75 rfl rfl ?_)
                    refine zv_ci (S' := sI (sI (sI (sI (sI (sI (sI (sI (sI (sI S 145 n 1) 147 n (zbo ((bt 0 a) ∧ (bt 0 b)))) 148 n (zbo ((bt 1 a) ∧ (bt 0 b)))) 149 n 0) 150 n (zbo (bt 3 b))) 151 n (zbo (bt 4 b))) 152 n (zbo ((bt 5 a) ∧ (bt 5 b)))) 153 n (zbo (bt 6 b))) 154 n (zbo (bt 7 b))) 155 n (zbo (((bt 8 a) ∧ (bt 8 b)) ∧ (bt 7 a) ∧ ((bt 5 a) ∨ (bt 5 b))))) ht75 rfl rfl ⟨⟨(zhas_of (htn) rfl), (show n < gN S from by omega)⟩, zbo_rng⟩ ?_
                    exact zv_rt ht75 rfl rfl rfl rfl k76
                  refine zv_cl ht rfl rfl rfl (zv_tgv (htn) rfl) (by omega) (Nat.le_of_ble_eq_true rfl) (C74 _ ?_)
                  show zEv d 371 648 [.ref n, .retAddr 0, .retAddr 0, .retAddr 0, .retAddr 0, .retAddr 0, .retAddr 0] [] (sI (sI (sI (sI (sI (sI (sI (sI (sI (sI S 145 n 1) 147 n (zbo ((bt 0 a) ∧ (bt 0 b)))) 148 n (zbo ((bt 1 a) ∧ (bt 0 b)))) 149 n 0) 150 n (zbo (bt 3 b))) 151 n (zbo (bt 4 b))) 152 n (zbo ((bt 5 a) ∧ (bt 5 b)))) 153 n (zbo (bt 6 b))) 154 n (zbo (bt 7 b))) 155 n (zbo (((bt 8 a) ∧ (bt 8 b)) ∧ (bt 7 a) ∧ ((bt 5 a) ∨ (bt 5 b))))) post
                  refine zv_c1 ht rfl rfl (zv_c1 ht rfl rfl (zv_c1 ht rfl rfl ?_))
                  refine zv_g3 (q := x) ht rfl hF rfl rfl (zhas_of (htn) rfl) hpx ?_
                  refine zv_c1 ht rfl rfl ?_
                  have C78 : ∀ (pst77 : Outcome × zS → Prop), (pst77 (.returned none, sI (sI (sI (sI (sI (sI (sI (sI (sI (sI (sI (sI S 145 n 1) 147 n (zbo ((bt 0 a) ∧ (bt 0 b)))) 148 n (zbo ((bt 1 a) ∧ (bt 0 b)))) 149 n 0) 150 n (zbo (bt 3 b))) 151 n (zbo (bt 4 b))) 152 n (zbo ((bt 5 a) ∧ (bt 5 b)))) 153 n (zbo (bt 6 b))) 154 n (zbo (bt 7 b))) 155 n (zbo (((bt 8 a) ∧ (bt 8 b)) ∧ (bt 7 a) ∧ ((bt 5 a) ∨ (bt 5 b))))) 156 n (zbo (bt 9 a))) 146 n ((0 : Int32) ||| tx))) → zCall (d - 1) 286 [.ref n, .ref x, .int 0] (sI (sI (sI (sI (sI (sI (sI (sI (sI (sI S 145 n 1) 147 n (zbo ((bt 0 a) ∧ (bt 0 b)))) 148 n (zbo ((bt 1 a) ∧ (bt 0 b)))) 149 n 0) 150 n (zbo (bt 3 b))) 151 n (zbo (bt 4 b))) 152 n (zbo ((bt 5 a) ∧ (bt 5 b)))) 153 n (zbo (bt 6 b))) 154 n (zbo (bt 7 b))) 155 n (zbo (((bt 8 a) ∧ (bt 8 b)) ∧ (bt 7 a) ∧ ((bt 5 a) ∨ (bt 5 b))))) pst77 := by
                    intro pst77 k84
                    have ht79 : ztab 286 = ztb286 := rfl
                    show zEv (d - 1) 286 0 [.ref n, .ref x, .int 0] [] (sI (sI (sI (sI (sI (sI (sI (sI (sI (sI S 145 n 1) 147 n (zbo ((bt 0 a) ∧ (bt 0 b)))) 148 n (zbo ((bt 1 a) ∧ (bt 0 b)))) 149 n 0) 150 n (zbo (bt 3 b))) 151 n (zbo (bt 4 b))) 152 n (zbo ((bt 5 a) ∧ (bt 5 b)))) 153 n (zbo (bt 6 b))) 154 n (zbo (bt 7 b))) 155 n (zbo (((bt 8 a) ∧ (bt 8 b)) ∧ (bt 7 a) ∧ ((bt 5 a) ∨ (bt 5 b))))) pst77
                    refine zv_c1 ht79 rfl rfl ?_
                    refine zv_br ht79 rfl rfl rfl (fun _ => ?_) (fun h => absurd (by decide) h)
                    refine zv_c1 ht79 rfl rfl (zv_c1 ht79 rfl rfl ?_)
                    refine zv_ei (x := zbo False) ht79 rfl rfl (zhas_of (htn) rfl) hm0 ?_
                    refine zv_br ht79 rfl rfl rfl (fun b80 => (b80 ((zbo_eq0 : (zbo False) = 0 ↔ ¬ False).mpr trivial)).elim) (fun b80 => ?_)
                    refine zv_c1 ht79 rfl rfl ?_
                    refine zv_ei (x := zbo (bt 9 a)) ht79 rfl rfl (zhas_nc hcx (by decide)) hmixedx ?_
                    have J82 : zEv (d - 1) 286 73 [.ref n, .ref x, .retAddr 0] [.int (zbo (bt 9 a)), .ref n] (sI (sI (sI (sI (sI (sI (sI (sI (sI (sI S 145 n 1) 147 n (zbo ((bt 0 a) ∧ (bt 0 b)))) 148 n (zbo ((bt 1 a) ∧ (bt 0 b)))) 149 n 0) 150 n (zbo (bt 3 b))) 151 n (zbo (bt 4 b))) 152 n (zbo ((bt 5 a) ∧ (bt 5 b)))) 153 n (zbo (bt 6 b))) 154 n (zbo (bt 7 b))) 155 n (zbo (((bt 8 a) ∧ (bt 8 b)) ∧ (bt 7 a) ∧ ((bt 5 a) ∨ (bt 5 b))))) pst77 := by
                      refine zv_ci (S' := sI (sI (sI (sI (sI (sI (sI (sI (sI (sI (sI S 145 n 1) 147 n (zbo ((bt 0 a) ∧ (bt 0 b)))) 148 n (zbo ((bt 1 a) ∧ (bt 0 b)))) 149 n 0) 150 n (zbo (bt 3 b))) 151 n (zbo (bt 4 b))) 152 n (zbo ((bt 5 a) ∧ (bt 5 b)))) 153 n (zbo (bt 6 b))) 154 n (zbo (bt 7 b))) 155 n (zbo (((bt 8 a) ∧ (bt 8 b)) ∧ (bt 7 a) ∧ ((bt 5 a) ∨ (bt 5 b))))) 156 n (zbo (bt 9 a))) ht79 rfl rfl ⟨⟨(zhas_of (htn) rfl), (show n < gN S from by omega)⟩, zbo_rng⟩ ?_
                      refine zv_c1 ht79 rfl rfl (zv_c1 ht79 rfl rfl ?_)
                      refine zv_ei (x := 0) ht79 rfl rfl (zhas_of (htn) rfl) ht0 ?_
                      refine zv_c1 ht79 rfl rfl ?_
                      refine zv_ei (x := tx) ht79 rfl rfl (zhas_nc hcx (by decide)) htx ?_
                      refine zv_c1 (st' := [.int ((0 : Int32) ||| tx), .ref n]) (S' := sI (sI (sI (sI (sI (sI (sI (sI (sI (sI (sI S 145 n 1) 147 n (zbo ((bt 0 a) ∧ (bt 0 b)))) 148 n (zbo ((bt 1 a) ∧ (bt 0 b)))) 149 n 0) 150 n (zbo (bt 3 b))) 151 n (zbo (bt 4 b))) 152 n (zbo ((bt 5 a) ∧ (bt 5 b)))) 153 n (zbo (bt 6 b))) 154 n (zbo (bt 7 b))) 155 n (zbo (((bt 8 a) ∧ (bt 8 b)) ∧ (bt 7 a) ∧ ((bt 5 a) ∨ (bt 5 b))))) 156 n (zbo (bt 9 a))) ht79 rfl rfl ?_
                      refine zv_ci (S' := sI (sI (sI (sI (sI (sI (sI (sI (sI (sI (sI (sI S 145 n 1) 147 n (zbo ((bt 0 a) ∧ (bt 0 b)))) 148 n (zbo ((bt 1 a) ∧ (bt 0 b)))) 149 n 0) 150 n (zbo (bt 3 b))) 151 n (zbo (bt 4 b))) 152 n (zbo ((bt 5 a) ∧ (bt 5 b)))) 153 n (zbo (bt 6 b))) 154 n (zbo (bt 7 b))) 155 n (zbo (((bt 8 a) ∧ (bt 8 b)) ∧ (bt 7 a) ∧ ((bt 5 a) ∨ (bt 5 b))))) 156 n (zbo (bt 9 a))) 146 n ((0 : Int32) ||| tx)) ht79 rfl rfl ⟨(zhas_of (htn) rfl), (show n < gN S from by omega)⟩ ?_
                      exact zv_rt ht79 rfl rfl rfl rfl k84
                    refine zv_br ht79 rfl rfl rfl (fun b81 => ?_) (fun b81 => ?_)
                    · replace b81 : ¬ (bt 9 a) := (zbo_eq0 : (zbo (bt 9 a)) = 0 ↔ ¬ (bt 9 a)).mp b81
                      refine zv_c1 ht79 rfl rfl ?_
                      exact zEv.wk (L := [.ref n, .ref x, .retAddr 0]) (L' := [.ref n, .ref x, .int 0]) (And.intro (Or.inl rfl) (And.intro (Or.inl rfl) (And.intro (Or.inr rfl) trivial))) (zv_sub (zz := zbo (bt 9 a)) (zy := 0) (p := fun zz => zEv (d - 1) 286 73 [.ref n, .ref x, .retAddr 0] [.int zz, .ref n] (sI (sI (sI (sI (sI (sI (sI (sI (sI (sI S 145 n 1) 147 n (zbo ((bt 0 a) ∧ (bt 0 b)))) 148 n (zbo ((bt 1 a) ∧ (bt 0 b)))) 149 n 0) 150 n (zbo (bt 3 b))) 151 n (zbo (bt 4 b))) 152 n (zbo ((bt 5 a) ∧ (bt 5 b)))) 153 n (zbo (bt 6 b))) 154 n (zbo (bt 7 b))) 155 n (zbo (((bt 8 a) ∧ (bt 8 b)) ∧ (bt 7 a) ∧ ((bt 5 a) ∨ (bt 5 b))))) pst77) (zbo_neg b81) J82)
                    · replace b81 : bt 9 a := Classical.byContradiction (fun h => b81 ((zbo_eq0 : (zbo (bt 9 a)) = 0 ↔ ¬ (bt 9 a)).mpr h))
                      refine zv_c1 ht79 rfl rfl (zv_c1 ht79 rfl rfl ?_)
                      exact zEv.wk (L := [.ref n, .ref x, .retAddr 0]) (L' := [.ref n, .ref x, .int 0]) (And.intro (Or.inl rfl) (And.intro (Or.inl rfl) (And.intro (Or.inr rfl) trivial))) (zv_sub (zz := zbo (bt 9 a)) (zy := 1) (p := fun zz => zEv (d - 1) 286 73 [.ref n, .ref x, .retAddr 0] [.int zz, .ref n] (sI (sI (sI (sI (sI (sI (sI (sI (sI (sI S 145 n 1) 147 n (zbo ((bt 0 a) ∧ (bt 0 b)))) 148 n (zbo ((bt 1 a) ∧ (bt 0 b)))) 149 n 0) 150 n (zbo (bt 3 b))) 151 n (zbo (bt 4 b))) 152 n (zbo ((bt 5 a) ∧ (bt 5 b)))) 153 n (zbo (bt 6 b))) 154 n (zbo (bt 7 b))) 155 n (zbo (((bt 8 a) ∧ (bt 8 b)) ∧ (bt 7 a) ∧ ((bt 5 a) ∨ (bt 5 b))))) pst77) (zbo_pos b81) J82)
                  refine zv_cl ht rfl rfl rfl (zv_tgv (htn) rfl) (by omega) (Nat.le_of_ble_eq_true rfl) (C78 _ ?_)
                  show zEv d 371 815 [.ref n, .retAddr 0, .retAddr 0, .retAddr 0, .retAddr 0, .retAddr 0, .retAddr 0] [] (sI (sI (sI (sI (sI (sI (sI (sI (sI (sI (sI (sI S 145 n 1) 147 n (zbo ((bt 0 a) ∧ (bt 0 b)))) 148 n (zbo ((bt 1 a) ∧ (bt 0 b)))) 149 n 0) 150 n (zbo (bt 3 b))) 151 n (zbo (bt 4 b))) 152 n (zbo ((bt 5 a) ∧ (bt 5 b)))) 153 n (zbo (bt 6 b))) 154 n (zbo (bt 7 b))) 155 n (zbo (((bt 8 a) ∧ (bt 8 b)) ∧ (bt 7 a) ∧ ((bt 5 a) ∨ (bt 5 b))))) 156 n (zbo (bt 9 a))) 146 n ((0 : Int32) ||| tx)) post
                  refine zv_c1 ht rfl rfl (zv_c1 ht rfl rfl ?_)
                  refine zv_g3 (q := y) ht rfl hF rfl rfl (zhas_of (htn) rfl) hpy ?_
                  refine zv_c1 ht rfl rfl ?_
                  refine zv_ei (x := 4) ht rfl rfl (zhas_of (htn) rfl) how ?_
                  refine zv_c1 ht rfl rfl ?_
                  refine zv_br ht rfl rfl rfl (fun _ => ?_) (fun h => absurd (by decide) h)
                  refine zv_c1 ht rfl rfl ?_
                  have C86 : ∀ (pst85 : Outcome × zS → Prop), (pst85 (.returned none, sI (sI (sI (sI (sI (sI (sI (sI (sI (sI (sI (sI (sI (sI S 145 n 1) 147 n (zbo ((bt 0 a) ∧ (bt 0 b)))) 148 n (zbo ((bt 1 a) ∧ (bt 0 b)))) 149 n 0) 150 n (zbo (bt 3 b))) 151 n (zbo (bt 4 b))) 152 n (zbo ((bt 5 a) ∧ (bt 5 b)))) 153 n (zbo (bt 6 b))) 154 n (zbo (bt 7 b))) 155 n (zbo (((bt 8 a) ∧ (bt 8 b)) ∧ (bt 7 a) ∧ ((bt 5 a) ∨ (bt 5 b))))) 156 n (zbo (bt 9 a))) 146 n ((0 : Int32) ||| tx)) 156 n (zbo ((bt 9 a) ∨ (bt 9 b)))) 146 n (((0 : Int32) ||| tx) ||| ty))) → zCall (d - 1) 286 [.ref n, .ref y, .int 0] (sI (sI (sI (sI (sI (sI (sI (sI (sI (sI (sI (sI S 145 n 1) 147 n (zbo ((bt 0 a) ∧ (bt 0 b)))) 148 n (zbo ((bt 1 a) ∧ (bt 0 b)))) 149 n 0) 150 n (zbo (bt 3 b))) 151 n (zbo (bt 4 b))) 152 n (zbo ((bt 5 a) ∧ (bt 5 b)))) 153 n (zbo (bt 6 b))) 154 n (zbo (bt 7 b))) 155 n (zbo (((bt 8 a) ∧ (bt 8 b)) ∧ (bt 7 a) ∧ ((bt 5 a) ∨ (bt 5 b))))) 156 n (zbo (bt 9 a))) 146 n ((0 : Int32) ||| tx)) pst85 := by
                    intro pst85 k94
                    have ht87 : ztab 286 = ztb286 := rfl
                    show zEv (d - 1) 286 0 [.ref n, .ref y, .int 0] [] (sI (sI (sI (sI (sI (sI (sI (sI (sI (sI (sI (sI S 145 n 1) 147 n (zbo ((bt 0 a) ∧ (bt 0 b)))) 148 n (zbo ((bt 1 a) ∧ (bt 0 b)))) 149 n 0) 150 n (zbo (bt 3 b))) 151 n (zbo (bt 4 b))) 152 n (zbo ((bt 5 a) ∧ (bt 5 b)))) 153 n (zbo (bt 6 b))) 154 n (zbo (bt 7 b))) 155 n (zbo (((bt 8 a) ∧ (bt 8 b)) ∧ (bt 7 a) ∧ ((bt 5 a) ∨ (bt 5 b))))) 156 n (zbo (bt 9 a))) 146 n ((0 : Int32) ||| tx)) pst85
                    refine zv_c1 ht87 rfl rfl ?_
                    refine zv_br ht87 rfl rfl rfl (fun _ => ?_) (fun h => absurd (by decide) h)
                    refine zv_c1 ht87 rfl rfl (zv_c1 ht87 rfl rfl ?_)
                    refine zv_ei (x := zbo (bt 9 a)) ht87 rfl rfl (zhas_of (htn) rfl) gI_sI_at ?_
                    have J92 : zEv (d - 1) 286 73 [.ref n, .ref y, .retAddr 0] [.int (zbo ((bt 9 a) ∨ (bt 9 b))), .ref n] (sI (sI (sI (sI (sI (sI (sI (sI (sI (sI (sI (sI S 145 n 1) 147 n (zbo ((bt 0 a) ∧ (bt 0 b)))) 148 n (zbo ((bt 1 a) ∧ (bt 0 b)))) 149 n 0) 150 n (zbo (bt 3 b))) 151 n (zbo (bt 4 b))) 152 n (zbo ((bt 5 a) ∧ (bt 5 b)))) 153 n (zbo (bt 6 b))) 154 n (zbo (bt 7 b))) 155 n (zbo (((bt 8 a) ∧ (bt 8 b)) ∧ (bt 7 a) ∧ ((bt 5 a) ∨ (bt 5 b))))) 156 n (zbo (bt 9 a))) 146 n ((0 : Int32) ||| tx)) pst85 := by
                      refine zv_ci (S' := sI (sI (sI (sI (sI (sI (sI (sI (sI (sI (sI (sI (sI S 145 n 1) 147 n (zbo ((bt 0 a) ∧ (bt 0 b)))) 148 n (zbo ((bt 1 a) ∧ (bt 0 b)))) 149 n 0) 150 n (zbo (bt 3 b))) 151 n (zbo (bt 4 b))) 152 n (zbo ((bt 5 a) ∧ (bt 5 b)))) 153 n (zbo (bt 6 b))) 154 n (zbo (bt 7 b))) 155 n (zbo (((bt 8 a) ∧ (bt 8 b)) ∧ (bt 7 a) ∧ ((bt 5 a) ∨ (bt 5 b))))) 156 n (zbo (bt 9 a))) 146 n ((0 : Int32) ||| tx)) 156 n (zbo ((bt 9 a) ∨ (bt 9 b)))) ht87 rfl rfl ⟨⟨(zhas_of (htn) rfl), (show n < gN S from by omega)⟩, zbo_rng⟩ ?_
                      refine zv_c1 ht87 rfl rfl (zv_c1 ht87 rfl rfl ?_)
                      refine zv_ei (x := (0 : Int32) ||| tx) ht87 rfl rfl (zhas_of (htn) rfl) gI_sI_at ?_
                      refine zv_c1 ht87 rfl rfl ?_
                      refine zv_ei (x := ty) ht87 rfl rfl (zhas_nc hcy (by decide)) (Eq.trans (gI_sI_ne (by omega)) hty) ?_
                      refine zv_c1 (st' := [.int (((0 : Int32) ||| tx) ||| ty), .ref n]) (S' := sI (sI (sI (sI (sI (sI (sI (sI (sI (sI (sI (sI (sI S 145 n 1) 147 n (zbo ((bt 0 a) ∧ (bt 0 b)))) 148 n (zbo ((bt 1 a) ∧ (bt 0 b)))) 149 n 0) 150 n (zbo (bt 3 b))) 151 n (zbo (bt 4 b))) 152 n (zbo ((bt 5 a) ∧ (bt 5 b)))) 153 n (zbo (bt 6 b))) 154 n (zbo (bt 7 b))) 155 n (zbo (((bt 8 a) ∧ (bt 8 b)) ∧ (bt 7 a) ∧ ((bt 5 a) ∨ (bt 5 b))))) 156 n (zbo (bt 9 a))) 146 n ((0 : Int32) ||| tx)) 156 n (zbo ((bt 9 a) ∨ (bt 9 b)))) ht87 rfl rfl ?_
                      refine zv_ci (S' := sI (sI (sI (sI (sI (sI (sI (sI (sI (sI (sI (sI (sI (sI S 145 n 1) 147 n (zbo ((bt 0 a) ∧ (bt 0 b)))) 148 n (zbo ((bt 1 a) ∧ (bt 0 b)))) 149 n 0) 150 n (zbo (bt 3 b))) 151 n (zbo (bt 4 b))) 152 n (zbo ((bt 5 a) ∧ (bt 5 b)))) 153 n (zbo (bt 6 b))) 154 n (zbo (bt 7 b))) 155 n (zbo (((bt 8 a) ∧ (bt 8 b)) ∧ (bt 7 a) ∧ ((bt 5 a) ∨ (bt 5 b))))) 156 n (zbo (bt 9 a))) 146 n ((0 : Int32) ||| tx)) 156 n (zbo ((bt 9 a) ∨ (bt 9 b)))) 146 n (((0 : Int32) ||| tx) ||| ty)) ht87 rfl rfl ⟨(zhas_of (htn) rfl), (show n < gN S from by omega)⟩ ?_
                      exact zv_rt ht87 rfl rfl rfl rfl k94
                    have J90 : ((bt 9 a) ∨ (bt 9 b)) → zEv (d - 1) 286 68 [.ref n, .ref y, .retAddr 0] [.ref n] (sI (sI (sI (sI (sI (sI (sI (sI (sI (sI (sI (sI S 145 n 1) 147 n (zbo ((bt 0 a) ∧ (bt 0 b)))) 148 n (zbo ((bt 1 a) ∧ (bt 0 b)))) 149 n 0) 150 n (zbo (bt 3 b))) 151 n (zbo (bt 4 b))) 152 n (zbo ((bt 5 a) ∧ (bt 5 b)))) 153 n (zbo (bt 6 b))) 154 n (zbo (bt 7 b))) 155 n (zbo (((bt 8 a) ∧ (bt 8 b)) ∧ (bt 7 a) ∧ ((bt 5 a) ∨ (bt 5 b))))) 156 n (zbo (bt 9 a))) 146 n ((0 : Int32) ||| tx)) pst85 := by
                      intro b91
                      refine zv_c1 ht87 rfl rfl (zv_c1 ht87 rfl rfl ?_)
                      exact (zv_sub (zz := zbo ((bt 9 a) ∨ (bt 9 b))) (zy := 1) (p := fun zz => zEv (d - 1) 286 73 [.ref n, .ref y, .retAddr 0] [.int zz, .ref n] (sI (sI (sI (sI (sI (sI (sI (sI (sI (sI (sI (sI S 145 n 1) 147 n (zbo ((bt 0 a) ∧ (bt 0 b)))) 148 n (zbo ((bt 1 a) ∧ (bt 0 b)))) 149 n 0) 150 n (zbo (bt 3 b))) 151 n (zbo (bt 4 b))) 152 n (zbo ((bt 5 a) ∧ (bt 5 b)))) 153 n (zbo (bt 6 b))) 154 n (zbo (bt 7 b))) 155 n (zbo (((bt 8 a) ∧ (bt 8 b)) ∧ (bt 7 a) ∧ ((bt 5 a) ∨ (bt 5 b))))) 156 n (zbo (bt 9 a))) 146 n ((0 : Int32) ||| tx)) pst85) (zbo_pos b91) J92)
                    refine zv_br ht87 rfl rfl rfl (fun b88 => ?_) (fun b88 => ?_)
                    · replace b88 : bt 9 a := Classical.byContradiction (fun h => b88 ((zbo_eq0 : (zbo (bt 9 a)) = 0 ↔ ¬ (bt 9 a)).mpr h))
                      exact zEv.wk (L := [.ref n, .ref y, .retAddr 0]) (L' := [.ref n, .ref y, .int 0]) (And.intro (Or.inl rfl) (And.intro (Or.inl rfl) (And.intro (Or.inr rfl) trivial))) (J90 (Or.inl b88))
                    · replace b88 : ¬ (bt 9 a) := (zbo_eq0 : (zbo (bt 9 a)) = 0 ↔ ¬ (bt 9 a)).mp (Classical.not_not.mp b88)
                      refine zv_c1 ht87 rfl rfl ?_
                      refine zv_ei (x := zbo (bt 9 b)) ht87 rfl rfl (zhas_nc hcy (by decide)) (Eq.trans (gI_sI_ne (by omega)) hmixedy) ?_
                      refine zv_br ht87 rfl rfl rfl (fun b89 => ?_) (fun b89 => ?_)
                      · replace b89 : ¬ (bt 9 b) := (zbo_eq0 : (zbo (bt 9 b)) = 0 ↔ ¬ (bt 9 b)).mp b89
                        refine zv_c1 ht87 rfl rfl ?_
                        exact zEv.wk (L := [.ref n, .ref y, .retAddr 0]) (L' := [.ref n, .ref y, .int 0]) (And.intro (Or.inl rfl) (And.intro (Or.inl rfl) (And.intro (Or.inr rfl) trivial))) (zv_sub (zz := zbo ((bt 9 a) ∨ (bt 9 b))) (zy := 0) (p := fun zz => zEv (d - 1) 286 73 [.ref n, .ref y, .retAddr 0] [.int zz, .ref n] (sI (sI (sI (sI (sI (sI (sI (sI (sI (sI (sI (sI S 145 n 1) 147 n (zbo ((bt 0 a) ∧ (bt 0 b)))) 148 n (zbo ((bt 1 a) ∧ (bt 0 b)))) 149 n 0) 150 n (zbo (bt 3 b))) 151 n (zbo (bt 4 b))) 152 n (zbo ((bt 5 a) ∧ (bt 5 b)))) 153 n (zbo (bt 6 b))) 154 n (zbo (bt 7 b))) 155 n (zbo (((bt 8 a) ∧ (bt 8 b)) ∧ (bt 7 a) ∧ ((bt 5 a) ∨ (bt 5 b))))) 156 n (zbo (bt 9 a))) 146 n ((0 : Int32) ||| tx)) pst85) (zbo_neg (fun h => h.elim b88 b89)) J92)
                      · replace b89 : bt 9 b := Classical.byContradiction (fun h => b89 ((zbo_eq0 : (zbo (bt 9 b)) = 0 ↔ ¬ (bt 9 b)).mpr h))
                        exact zEv.wk (L := [.ref n, .ref y, .retAddr 0]) (L' := [.ref n, .ref y, .int 0]) (And.intro (Or.inl rfl) (And.intro (Or.inl rfl) (And.intro (Or.inr rfl) trivial))) (J90 (Or.inr b89))
                  refine zv_cl ht rfl rfl rfl (zv_tgv (htn) rfl) (by omega) (Nat.le_of_ble_eq_true rfl) (C86 _ ?_)
                  show zEv d 371 836 [.ref n, .retAddr 0, .retAddr 0, .retAddr 0, .retAddr 0, .retAddr 0, .retAddr 0] [] (sI (sI (sI (sI (sI (sI (sI (sI (sI (sI (sI (sI (sI (sI S 145 n 1) 147 n (zbo ((bt 0 a) ∧ (bt 0 b)))) 148 n (zbo ((bt 1 a) ∧ (bt 0 b)))) 149 n 0) 150 n (zbo (bt 3 b))) 151 n (zbo (bt 4 b))) 152 n (zbo ((bt 5 a) ∧ (bt 5 b)))) 153 n (zbo (bt 6 b))) 154 n (zbo (bt 7 b))) 155 n (zbo (((bt 8 a) ∧ (bt 8 b)) ∧ (bt 7 a) ∧ ((bt 5 a) ∨ (bt 5 b))))) 156 n (zbo (bt 9 a))) 146 n ((0 : Int32) ||| tx)) 156 n (zbo ((bt 9 a) ∨ (bt 9 b)))) 146 n (((0 : Int32) ||| tx) ||| ty)) post
                  exact zv_rt ht rfl rfl rfl rfl (h1 b22)
                have J69 : ((¬ ((bt 8 a) ∧ (bt 8 b))) ∨ (¬ (bt 7 a)) ∨ (¬ ((bt 5 a) ∨ (bt 5 b)))) → zEv d 371 644 [.ref n, .retAddr 0, .retAddr 0, .retAddr 0, .retAddr 0, .retAddr 0, .retAddr 0] [.int (zbo (bt 7 b)), .int (zbo (bt 6 b)), .int (zbo ((bt 5 a) ∧ (bt 5 b))), .ref n] (sI (sI (sI (sI (sI (sI S 145 n 1) 147 n (zbo ((bt 0 a) ∧ (bt 0 b)))) 148 n (zbo ((bt 1 a) ∧ (bt 0 b)))) 149 n 0) 150 n (zbo (bt 3 b))) 151 n (zbo (bt 4 b))) post := by
                  intro b70
                  refine zv_c1 ht rfl rfl ?_
                  exact (zv_sub (zz := zbo (((bt 8 a) ∧ (bt 8 b)) ∧ (bt 7 a) ∧ ((bt 5 a) ∨ (bt 5 b)))) (zy := 0) (p := fun zz => zEv d 371 645 [.ref n, .retAddr 0, .retAddr 0, .retAddr 0, .retAddr 0, .retAddr 0, .retAddr 0] [.int zz, .int (zbo (bt 7 b)), .int (zbo (bt 6 b)), .int (zbo ((bt 5 a) ∧ (bt 5 b))), .ref n] (sI (sI (sI (sI (sI (sI S 145 n 1) 147 n (zbo ((bt 0 a) ∧ (bt 0 b)))) 148 n (zbo ((bt 1 a) ∧ (bt 0 b)))) 149 n 0) 150 n (zbo (bt 3 b))) 151 n (zbo (bt 4 b))) post) (zbo_neg (b70.elim (fun y1 => (fun h => y1 h.1)) (fun y1 => (y1.elim (fun y2 => (fun h => (fun h => y2 h.1) h.2)) (fun y2 => (fun h => (fun h => y2 h.2) h.2)))))) J71)
                refine zv_br ht rfl rfl rfl (fun b66 => ?_) (fun b66 => ?_)
                · replace b66 : ¬ ((bt 8 a) ∧ (bt 8 b)) := (zbo_eq0 : (zbo ((bt 8 a) ∧ (bt 8 b))) = 0 ↔ ¬ ((bt 8 a) ∧ (bt 8 b))).mp b66
                  exact zEv.wk (L := [.ref n, .retAddr 0, .retAddr 0, .retAddr 0, .retAddr 0, .retAddr 0, .retAddr 0]) (L' := [.ref n, .int (zbo ((bt 0 a) ∧ (bt 0 b))), .int (zbo ((bt 1 a) ∧ (bt 0 b))), .int (zbo (((bt 1 a) ∧ (bt 0 b)) ∨ ((bt 0 a) ∧ (bt 1 b)))), .int (zbo ((bt 8 a) ∧ (bt 8 b))), .int (zbo ((bt 5 a) ∨ (bt 5 b))), .int (zbo ((bt 5 a) ∧ (bt 5 b)))]) (And.intro (Or.inl rfl) (And.intro (Or.inr rfl) (And.intro (Or.inr rfl) (And.intro (Or.inr rfl) (And.intro (Or.inr rfl) (And.intro (Or.inr rfl) (And.intro (Or.inr rfl) trivial))))))) (J69 (Or.inl b66))
                · replace b66 : (bt 8 a) ∧ (bt 8 b) := Classical.byContradiction (fun h => b66 ((zbo_eq0 : (zbo ((bt 8 a) ∧ (bt 8 b))) = 0 ↔ ¬ ((bt 8 a) ∧ (bt 8 b))).mpr h))
                  refine zv_c1 ht rfl rfl ?_
                  refine zv_g3 (q := x) ht rfl hF rfl rfl (zhas_of (htn) rfl) hpx ?_
                  refine zv_ei (x := zbo (bt 7 a)) ht rfl rfl (zhas_nc hcx (by decide)) hex ?_
                  refine zv_br ht rfl rfl rfl (fun b67 => ?_) (fun b67 => ?_)
                  · replace b67 : ¬ (bt 7 a) := (zbo_eq0 : (zbo (bt 7 a)) = 0 ↔ ¬ (bt 7 a)).mp b67
                    exact zEv.wk (L := [.ref n, .retAddr 0, .retAddr 0, .retAddr 0, .retAddr 0, .retAddr 0, .retAddr 0]) (L' := [.ref n, .int (zbo ((bt 0 a) ∧ (bt 0 b))), .int (zbo ((bt 1 a) ∧ (bt 0 b))), .int (zbo (((bt 1 a) ∧ (bt 0 b)) ∨ ((bt 0 a) ∧ (bt 1 b)))), .int (zbo ((bt 8 a) ∧ (bt 8 b))), .int (zbo ((bt 5 a) ∨ (bt 5 b))), .int (zbo ((bt 5 a) ∧ (bt 5 b)))]) (And.intro (Or.inl rfl) (And.intro (Or.inr rfl) (And.intro (Or.inr rfl) (And.intro (Or.inr rfl) (And.intro (Or.inr rfl) (And.intro (Or.inr rfl) (And.intro (Or.inr rfl) trivial))))))) (J69 (Or.inr (Or.inl b67)))
                  · replace b67 : bt 7 a := Classical.byContradiction (fun h => b67 ((zbo_eq0 : (zbo (bt 7 a)) = 0 ↔ ¬ (bt 7 a)).mpr h))
                    refine zv_c1 ht rfl rfl ?_
                    refine zv_br ht rfl rfl rfl (fun b68 => ?_) (fun b68 => ?_)
                    · replace b68 : ¬ ((bt 5 a) ∨ (bt 5 b)) := (zbo_eq0 : (zbo ((bt 5 a) ∨ (bt 5 b))) = 0 ↔ ¬ ((bt 5 a) ∨ (bt 5 b))).mp b68
                      exact zEv.wk (L := [.ref n, .retAddr 0, .retAddr 0, .retAddr 0, .retAddr 0, .retAddr 0, .retAddr 0]) (L' := [.ref n, .int (zbo ((bt 0 a) ∧ (bt 0 b))), .int (zbo ((bt 1 a) ∧ (bt 0 b))), .int (zbo (((bt 1 a) ∧ (bt 0 b)) ∨ ((bt 0 a) ∧ (bt 1 b)))), .int (zbo ((bt 8 a) ∧ (bt 8 b))), .int (zbo ((bt 5 a) ∨ (bt 5 b))), .int (zbo ((bt 5 a) ∧ (bt 5 b)))]) (And.intro (Or.inl rfl) (And.intro (Or.inr rfl) (And.intro (Or.inr rfl) (And.intro (Or.inr rfl) (And.intro (Or.inr rfl) (And.intro (Or.inr rfl) (And.intro (Or.inr rfl) trivial))))))) (J69 (Or.inr (Or.inr b68)))
                    · replace b68 : (bt 5 a) ∨ (bt 5 b) := Classical.byContradiction (fun h => b68 ((zbo_eq0 : (zbo ((bt 5 a) ∨ (bt 5 b))) = 0 ↔ ¬ ((bt 5 a) ∨ (bt 5 b))).mpr h))
                      refine zv_c1 ht rfl rfl (zv_c1 ht rfl rfl ?_)
                      exact zEv.wk (L := [.ref n, .retAddr 0, .retAddr 0, .retAddr 0, .retAddr 0, .retAddr 0, .retAddr 0]) (L' := [.ref n, .int (zbo ((bt 0 a) ∧ (bt 0 b))), .int (zbo ((bt 1 a) ∧ (bt 0 b))), .int (zbo (((bt 1 a) ∧ (bt 0 b)) ∨ ((bt 0 a) ∧ (bt 1 b)))), .int (zbo ((bt 8 a) ∧ (bt 8 b))), .int (zbo ((bt 5 a) ∨ (bt 5 b))), .int (zbo ((bt 5 a) ∧ (bt 5 b)))]) (And.intro (Or.inl rfl) (And.intro (Or.inr rfl) (And.intro (Or.inr rfl) (And.intro (Or.inr rfl) (And.intro (Or.inr rfl) (And.intro (Or.inr rfl) (And.intro (Or.inr rfl) trivial))))))) (zv_sub (zz := zbo (((bt 8 a) ∧ (bt 8 b)) ∧ (bt 7 a) ∧ ((bt 5 a) ∨ (bt 5 b)))) (zy := 1) (p := fun zz => zEv d 371 645 [.ref n, .retAddr 0, .retAddr 0, .retAddr 0, .retAddr 0, .retAddr 0, .retAddr 0] [.int zz, .int (zbo (bt 7 b)), .int (zbo (bt 6 b)), .int (zbo ((bt 5 a) ∧ (bt 5 b))), .ref n] (sI (sI (sI (sI (sI (sI S 145 n 1) 147 n (zbo ((bt 0 a) ∧ (bt 0 b)))) 148 n (zbo ((bt 1 a) ∧ (bt 0 b)))) 149 n 0) 150 n (zbo (bt 3 b))) 151 n (zbo (bt 4 b))) post) (zbo_pos ⟨b66, ⟨b67, b68⟩⟩) J71)
              have J58 : ((¬ (bt 5 a)) ∨ (¬ (bt 5 b))) → zEv d 371 172 [.ref n, .int (zbo ((bt 0 a) ∧ (bt 0 b))), .int (zbo ((bt 1 a) ∧ (bt 0 b))), .int (zbo (((bt 1 a) ∧ (bt 0 b)) ∨ ((bt 0 a) ∧ (bt 1 b)))), .int (zbo ((bt 8 a) ∧ (bt 8 b))), .int (zbo ((bt 5 a) ∨ (bt 5 b))), .retAddr 0] [] S post := by
                intro b59
                refine zv_c1 ht rfl rfl ?_
                exact (zv_sub (zz := zbo ((bt 5 a) ∧ (bt 5 b))) (zy := 0) (p := fun zz => zEv d 371 173 [.ref n, .int (zbo ((bt 0 a) ∧ (bt 0 b))), .int (zbo ((bt 1 a) ∧ (bt 0 b))), .int (zbo (((bt 1 a) ∧ (bt 0 b)) ∨ ((bt 0 a) ∧ (bt 1 b)))), .int (zbo ((bt 8 a) ∧ (bt 8 b))), .int (zbo ((bt 5 a) ∨ (bt 5 b))), .retAddr 0] [.int zz] S post) (zbo_neg (b59.elim (fun y1 => (fun h => y1 h.1)) (fun y1 => (fun h => y1 h.2)))) J60)
              refine zv_br ht rfl rfl rfl (fun b56 => ?_) (fun b56 => ?_)
              · replace b56 : ¬ (bt 5 a) := (zbo_eq0 : (zbo (bt 5 a)) = 0 ↔ ¬ (bt 5 a)).mp b56
                exact (J58 (Or.inl b56))
              · replace b56 : bt 5 a := Classical.byContradiction (fun h => b56 ((zbo_eq0 : (zbo (bt 5 a)) = 0 ↔ ¬ (bt 5 a)).mpr h))
                refine zv_c1 ht rfl rfl ?_
                refine zv_g3 (q := y) ht rfl hF rfl rfl (zhas_of (htn) rfl) hpy ?_
                refine zv_ei (x := zbo (bt 5 b)) ht rfl rfl (zhas_nc hcy (by decide)) hsy ?_
                refine zv_br ht rfl rfl rfl (fun b57 => ?_) (fun b57 => ?_)
                · replace b57 : ¬ (bt 5 b) := (zbo_eq0 : (zbo (bt 5 b)) = 0 ↔ ¬ (bt 5 b)).mp b57
                  exact (J58 (Or.inr b57))
                · replace b57 : bt 5 b := Classical.byContradiction (fun h => b57 ((zbo_eq0 : (zbo (bt 5 b)) = 0 ↔ ¬ (bt 5 b)).mpr h))
                  refine zv_c1 ht rfl rfl (zv_c1 ht rfl rfl ?_)
                  exact (zv_sub (zz := zbo ((bt 5 a) ∧ (bt 5 b))) (zy := 1) (p := fun zz => zEv d 371 173 [.ref n, .int (zbo ((bt 0 a) ∧ (bt 0 b))), .int (zbo ((bt 1 a) ∧ (bt 0 b))), .int (zbo (((bt 1 a) ∧ (bt 0 b)) ∨ ((bt 0 a) ∧ (bt 1 b)))), .int (zbo ((bt 8 a) ∧ (bt 8 b))), .int (zbo ((bt 5 a) ∨ (bt 5 b))), .retAddr 0] [.int zz] S post) (zbo_pos ⟨b56, b57⟩) J60)
            have J52 : ((bt 5 a) ∨ (bt 5 b)) → zEv d 371 141 [.ref n, .int (zbo ((bt 0 a) ∧ (bt 0 b))), .int (zbo ((bt 1 a) ∧ (bt 0 b))), .int (zbo (((bt 1 a) ∧ (bt 0 b)) ∨ ((bt 0 a) ∧ (bt 1 b)))), .int (zbo ((bt 8 a) ∧ (bt 8 b))), .retAddr 0, .retAddr 0] [] S post := by
              intro b53
              refine zv_c1 ht rfl rfl (zv_c1 ht rfl rfl ?_)
              exact (zv_sub (zz := zbo ((bt 5 a) ∨ (bt 5 b))) (zy := 1) (p := fun zz => zEv d 371 146 [.ref n, .int (zbo ((bt 0 a) ∧ (bt 0 b))), .int (zbo ((bt 1 a) ∧ (bt 0 b))), .int (zbo (((bt 1 a) ∧ (bt 0 b)) ∨ ((bt 0 a) ∧ (bt 1 b)))), .int (zbo ((bt 8 a) ∧ (bt 8 b))), .retAddr 0, .retAddr 0] [.int zz] S post) (zbo_pos b53) J54)
            refine zv_br ht rfl rfl rfl (fun b50 => ?_) (fun b50 => ?_)
            · replace b50 : bt 5 a := Classical.byContradiction (fun h => b50 ((zbo_eq0 : (zbo (bt 5 a)) = 0 ↔ ¬ (bt 5 a)).mpr h))
              exact (J52 (Or.inl b50))
            · replace b50 : ¬ (bt 5 a) := (zbo_eq0 : (zbo (bt 5 a)) = 0 ↔ ¬ (bt 5 a)).mp (Classical.not_not.mp b50)
              refine zv_c1 ht rfl rfl ?_
              refine zv_g3 (q := y) ht rfl hF rfl rfl (zhas_of (htn) rfl) hpy ?_
              refine zv_ei (x := zbo (bt 5 b)) ht rfl rfl (zhas_nc hcy (by decide)) hsy ?_
              refine zv_br ht rfl rfl rfl (fun b51 => ?_) (fun b51 => ?_)
              · replace b51 : ¬ (bt 5 b) := (zbo_eq0 : (zbo (bt 5 b)) = 0 ↔ ¬ (bt 5 b)).mp b51
                refine zv_c1 ht rfl rfl ?_
                exact (zv_sub (zz := zbo ((bt 5 a) ∨ (bt 5 b))) (zy := 0) (p := fun zz => zEv d 371 146 [.ref n, .int (zbo ((bt 0 a) ∧ (bt 0 b))), .int (zbo ((bt 1 a) ∧ (bt 0 b))), .int (zbo (((bt 1 a) ∧ (bt 0 b)) ∨ ((bt 0 a) ∧ (bt 1 b)))), .int (zbo ((bt 8 a) ∧ (bt 8 b))), .retAddr 0, .retAddr 0] [.int zz] S post) (zbo_neg (fun h => h.elim b50 b51)) J54)
              · replace b51 : bt 5 b := Classical.byContradiction (fun h => b51 ((zbo_eq0 : (zbo (bt 5 b)) = 0 ↔ ¬ (bt 5 b)).mpr h))
                exact (J52 (Or.inr b51))
          have J46 : ((¬ (bt 8 a)) ∨ (¬ (bt 8 b))) → zEv d 371 118 [.ref n, .int (zbo ((bt 0 a) ∧ (bt 0 b))), .int (zbo ((bt 1 a) ∧ (bt 0 b))), .int (zbo (((bt 1 a) ∧ (bt 0 b)) ∨ ((bt 0 a) ∧ (bt 1 b)))), .retAddr 0, .retAddr 0, .retAddr 0] [] S post := by
            intro b47
            refine zv_c1 ht rfl rfl ?_
            exact (zv_sub (zz := zbo ((bt 8 a) ∧ (bt 8 b))) (zy := 0) (p := fun zz => zEv d 371 119 [.ref n, .int (zbo ((bt 0 a) ∧ (bt 0 b))), .int (zbo ((bt 1 a) ∧ (bt 0 b))), .int (zbo (((bt 1 a) ∧ (bt 0 b)) ∨ ((bt 0 a) ∧ (bt 1 b)))), .retAddr 0, .retAddr 0, .retAddr 0] [.int zz] S post) (zbo_neg (b47.elim (fun y1 => (fun h => y1 h.1)) (fun y1 => (fun h => y1 h.2)))) J48)
          refine zv_br ht rfl rfl rfl (fun b44 => ?_) (fun b44 => ?_)
          · replace b44 : ¬ (bt 8 a) := (zbo_eq0 : (zbo (bt 8 a)) = 0 ↔ ¬ (bt 8 a)).mp b44
            exact (J46 (Or.inl b44))
          · replace b44 : bt 8 a := Classical.byContradiction (fun h => b44 ((zbo_eq0 : (zbo (bt 8 a)) = 0 ↔ ¬ (bt 8 a)).mpr h))
            refine zv_c1 ht rfl rfl ?_
            refine zv_g3 (q := y) ht rfl hF rfl rfl (zhas_of (htn) rfl) hpy ?_
            refine zv_ei (x := zbo (bt 8 b)) ht rfl rfl (zhas_nc hcy (by decide)) hmy ?_
            refine zv_br ht rfl rfl rfl (fun b45 => ?_) (fun b45 => ?_)
            · replace b45 : ¬ (bt 8 b) := (zbo_eq0 : (zbo (bt 8 b)) = 0 ↔ ¬ (bt 8 b)).mp b45
              exact (J46 (Or.inr b45))
            · replace b45 : bt 8 b := Classical.byContradiction (fun h => b45 ((zbo_eq0 : (zbo (bt 8 b)) = 0 ↔ ¬ (bt 8 b)).mpr h))
              refine zv_c1 ht rfl rfl (zv_c1 ht rfl rfl ?_)
              exact (zv_sub (zz := zbo ((bt 8 a) ∧ (bt 8 b))) (zy := 1) (p := fun zz => zEv d 371 119 [.ref n, .int (zbo ((bt 0 a) ∧ (bt 0 b))), .int (zbo ((bt 1 a) ∧ (bt 0 b))), .int (zbo (((bt 1 a) ∧ (bt 0 b)) ∨ ((bt 0 a) ∧ (bt 1 b)))), .retAddr 0, .retAddr 0, .retAddr 0] [.int zz] S post) (zbo_pos ⟨b44, b45⟩) J48)
        have J40 : (((bt 1 a) ∧ (bt 0 b)) ∨ ((bt 0 a) ∧ (bt 1 b))) → zEv d 371 88 [.ref n, .int (zbo ((bt 0 a) ∧ (bt 0 b))), .int (zbo ((bt 1 a) ∧ (bt 0 b))), .retAddr 0, .retAddr 0, .retAddr 0, .retAddr 0] [] S post := by
          intro b41
          refine zv_c1 ht rfl rfl (zv_c1 ht rfl rfl ?_)
          exact (zv_sub (zz := zbo (((bt 1 a) ∧ (bt 0 b)) ∨ ((bt 0 a) ∧ (bt 1 b)))) (zy := 1) (p := fun zz => zEv d 371 93 [.ref n, .int (zbo ((bt 0 a) ∧ (bt 0 b))), .int (zbo ((bt 1 a) ∧ (bt 0 b))), .retAddr 0, .retAddr 0, .retAddr 0, .retAddr 0] [.int zz] S post) (zbo_pos b41) J42)
        refine zv_br ht rfl rfl rfl (fun b35 => ?_) (fun b35 => ?_)
        · replace b35 : (bt 1 a) ∧ (bt 0 b) := Classical.byContradiction (fun h => b35 ((zbo_eq0 : (zbo ((bt 1 a) ∧ (bt 0 b))) = 0 ↔ ¬ ((bt 1 a) ∧ (bt 0 b))).mpr h))
          exact (J40 (Or.inl b35))
        · replace b35 : ¬ ((bt 1 a) ∧ (bt 0 b)) := (zbo_eq0 : (zbo ((bt 1 a) ∧ (bt 0 b))) = 0 ↔ ¬ ((bt 1 a) ∧ (bt 0 b))).mp (Classical.not_not.mp b35)
          refine zv_c1 ht rfl rfl ?_
          refine zv_g3 (q := x) ht rfl hF rfl rfl (zhas_of (htn) rfl) hpx ?_
          refine zv_ei (x := zbo (bt 0 a)) ht rfl rfl (zhas_nc hcx (by decide)) hzx ?_
          have J38 : ((¬ (bt 0 a)) ∨ (¬ (bt 1 b))) → zEv d 371 92 [.ref n, .int (zbo ((bt 0 a) ∧ (bt 0 b))), .int (zbo ((bt 1 a) ∧ (bt 0 b))), .retAddr 0, .retAddr 0, .retAddr 0, .retAddr 0] [] S post := by
            intro b39
            refine zv_c1 ht rfl rfl ?_
            exact (zv_sub (zz := zbo (((bt 1 a) ∧ (bt 0 b)) ∨ ((bt 0 a) ∧ (bt 1 b)))) (zy := 0) (p := fun zz => zEv d 371 93 [.ref n, .int (zbo ((bt 0 a) ∧ (bt 0 b))), .int (zbo ((bt 1 a) ∧ (bt 0 b))), .retAddr 0, .retAddr 0, .retAddr 0, .retAddr 0] [.int zz] S post) (zbo_neg (b39.elim (fun y1 => (fun h => h.elim b35 (fun h => y1 h.1))) (fun y1 => (fun h => h.elim b35 (fun h => y1 h.2))))) J42)
          refine zv_br ht rfl rfl rfl (fun b36 => ?_) (fun b36 => ?_)
          · replace b36 : ¬ (bt 0 a) := (zbo_eq0 : (zbo (bt 0 a)) = 0 ↔ ¬ (bt 0 a)).mp b36
            exact (J38 (Or.inl b36))
          · replace b36 : bt 0 a := Classical.byContradiction (fun h => b36 ((zbo_eq0 : (zbo (bt 0 a)) = 0 ↔ ¬ (bt 0 a)).mpr h))
            refine zv_c1 ht rfl rfl ?_
            refine zv_g3 (q := y) ht rfl hF rfl rfl (zhas_of (htn) rfl) hpy ?_
            refine zv_ei (x := zbo (bt 1 b)) ht rfl rfl (zhas_nc hcy (by decide)) hoy ?_
            refine zv_br ht rfl rfl rfl (fun b37 => ?_) (fun b37 => ?_)
            · replace b37 : ¬ (bt 1 b) := (zbo_eq0 : (zbo (bt 1 b)) = 0 ↔ ¬ (bt 1 b)).mp b37
              exact (J38 (Or.inr b37))
            · replace b37 : bt 1 b := Classical.byContradiction (fun h => b37 ((zbo_eq0 : (zbo (bt 1 b)) = 0 ↔ ¬ (bt 1 b)).mpr h))
              exact (J40 (Or.inr ⟨b36, b37⟩))
      have J31 : ((¬ (bt 1 a)) ∨ (¬ (bt 0 b))) → zEv d 371 62 [.ref n, .int (zbo ((bt 0 a) ∧ (bt 0 b))), .retAddr 0, .retAddr 0, .retAddr 0, .retAddr 0, .retAddr 0] [] S post := by
        intro b32
        refine zv_c1 ht rfl rfl ?_
        exact (zv_sub (zz := zbo ((bt 1 a) ∧ (bt 0 b))) (zy := 0) (p := fun zz => zEv d 371 63 [.ref n, .int (zbo ((bt 0 a) ∧ (bt 0 b))), .retAddr 0, .retAddr 0, .retAddr 0, .retAddr 0, .retAddr 0] [.int zz] S post) (zbo_neg (b32.elim (fun y1 => (fun h => y1 h.1)) (fun y1 => (fun h => y1 h.2)))) J33)
      refine zv_br ht rfl rfl rfl (fun b29 => ?_) (fun b29 => ?_)
      · replace b29 : ¬ (bt 1 a) := (zbo_eq0 : (zbo (bt 1 a)) = 0 ↔ ¬ (bt 1 a)).mp b29
        exact (J31 (Or.inl b29))
      · replace b29 : bt 1 a := Classical.byContradiction (fun h => b29 ((zbo_eq0 : (zbo (bt 1 a)) = 0 ↔ ¬ (bt 1 a)).mpr h))
        refine zv_c1 ht rfl rfl ?_
        refine zv_g3 (q := y) ht rfl hF rfl rfl (zhas_of (htn) rfl) hpy ?_
        refine zv_ei (x := zbo (bt 0 b)) ht rfl rfl (zhas_nc hcy (by decide)) hzy ?_
        refine zv_br ht rfl rfl rfl (fun b30 => ?_) (fun b30 => ?_)
        · replace b30 : ¬ (bt 0 b) := (zbo_eq0 : (zbo (bt 0 b)) = 0 ↔ ¬ (bt 0 b)).mp b30
          exact (J31 (Or.inr b30))
        · replace b30 : bt 0 b := Classical.byContradiction (fun h => b30 ((zbo_eq0 : (zbo (bt 0 b)) = 0 ↔ ¬ (bt 0 b)).mpr h))
          refine zv_c1 ht rfl rfl (zv_c1 ht rfl rfl ?_)
          exact (zv_sub (zz := zbo ((bt 1 a) ∧ (bt 0 b))) (zy := 1) (p := fun zz => zEv d 371 63 [.ref n, .int (zbo ((bt 0 a) ∧ (bt 0 b))), .retAddr 0, .retAddr 0, .retAddr 0, .retAddr 0, .retAddr 0] [.int zz] S post) (zbo_pos ⟨b29, b30⟩) J33)
    have J25 : ((¬ (bt 0 a)) ∨ (¬ (bt 0 b))) → zEv d 371 36 [.ref n, .retAddr 0, .retAddr 0, .retAddr 0, .retAddr 0, .retAddr 0, .retAddr 0] [] S post := by
      intro b26
      refine zv_c1 ht rfl rfl ?_
      exact (zv_sub (zz := zbo ((bt 0 a) ∧ (bt 0 b))) (zy := 0) (p := fun zz => zEv d 371 37 [.ref n, .retAddr 0, .retAddr 0, .retAddr 0, .retAddr 0, .retAddr 0, .retAddr 0] [.int zz] S post) (zbo_neg (b26.elim (fun y1 => (fun h => y1 h.1)) (fun y1 => (fun h => y1 h.2)))) J27)
    refine zv_br ht rfl rfl rfl (fun b23 => ?_) (fun b23 => ?_)
    · replace b23 : ¬ (bt 0 a) := (zbo_eq0 : (zbo (bt 0 a)) = 0 ↔ ¬ (bt 0 a)).mp b23
      exact (J25 (Or.inl b23))
    · replace b23 : bt 0 a := Classical.byContradiction (fun h => b23 ((zbo_eq0 : (zbo (bt 0 a)) = 0 ↔ ¬ (bt 0 a)).mpr h))
      refine zv_c1 ht rfl rfl ?_
      refine zv_g3 (q := y) ht rfl hF rfl rfl (zhas_of (htn) rfl) hpy ?_
      refine zv_ei (x := zbo (bt 0 b)) ht rfl rfl (zhas_nc hcy (by decide)) hzy ?_
      refine zv_br ht rfl rfl rfl (fun b24 => ?_) (fun b24 => ?_)
      · replace b24 : ¬ (bt 0 b) := (zbo_eq0 : (zbo (bt 0 b)) = 0 ↔ ¬ (bt 0 b)).mp b24
        exact (J25 (Or.inr b24))
      · replace b24 : bt 0 b := Classical.byContradiction (fun h => b24 ((zbo_eq0 : (zbo (bt 0 b)) = 0 ↔ ¬ (bt 0 b)).mpr h))
        refine zv_c1 ht rfl rfl (zv_c1 ht rfl rfl ?_)
        exact (zv_sub (zz := zbo ((bt 0 a) ∧ (bt 0 b))) (zy := 1) (p := fun zz => zEv d 371 37 [.ref n, .retAddr 0, .retAddr 0, .retAddr 0, .retAddr 0, .retAddr 0, .retAddr 0] [.int zz] S post) (zbo_pos ⟨b23, b24⟩) J27)
  · replace b22 : ¬ ((((p + 1) = 1) ∧ (bt 3 a) ∧ (bt 4 a)) ∧ ((q + 1) = 1)) := (zbo_eq0 : (zbo ((((p + 1) = 1) ∧ (bt 3 a) ∧ (bt 4 a)) ∧ ((q + 1) = 1))) = 0 ↔ ¬ ((((p + 1) = 1) ∧ (bt 3 a) ∧ (bt 4 a)) ∧ ((q + 1) = 1))).mp (Classical.not_not.mp b22)
    refine zv_c1 ht rfl rfl ?_
    have C96 : ∀ (pst95 : Outcome × zS → Prop), (pst95 (.returned (some (.ref (gN S))), sI (sI (sT (sNew S 8 0 (zslots 8)) (gN S) 8 1) 136 (gN S) 3) 137 (gN S) (gI S 144 n))) → zCall (d - 1) 283 [.ref n] S pst95 := by
      intro pst95 k102
      have ht97 : ztab 283 = ztb283 := rfl
      show zEv (d - 1) 283 0 [.ref n] [] S pst95
      refine zv_ci (st' := [.ref (gN S)]) (S' := sNew S 8 0 (zslots 8)) ht97 rfl rfl (znew_ok (show 1639 ≤ gN S from by omega) (show gN S < 2000000 from by omega)) ?_
      refine zv_c1 ht97 rfl rfl (zv_c1 ht97 rfl rfl (zv_c1 ht97 rfl rfl ?_))
      refine zv_ei (x := gI S 144 n) ht97 rfl rfl (zhas_of (Eq.trans (ztyp_new (S := S) (t := 8) (n := 0) (s := zslots 8) (show n ≠ gN S from by omega)) htn) rfl) (gI_new (S := S) (t := 8) (n := 0) (s := zslots 8) (show n ≠ gN S from by omega)) ?_
      have C99 : ∀ (pst98 : Outcome × zS → Prop), (pst98 (.returned none, sI (sI (sT (sNew S 8 0 (zslots 8)) (gN S) 8 1) 136 (gN S) 3) 137 (gN S) (gI S 144 n))) → zCall ((d - 1) - 1) 269 [.ref (gN S), .int 3, .int (gI S 144 n)] (sNew S 8 0 (zslots 8)) pst98 := by
        intro pst98 k101
        have ht100 : ztab 269 = ztb269 := rfl
        show zEv ((d - 1) - 1) 269 0 [.ref (gN S), .int 3, .int (gI S 144 n)] [] (sNew S 8 0 (zslots 8)) pst98
        refine zv_c1 ht100 rfl rfl ?_
        refine zv_ci (S' := sT (sNew S 8 0 (zslots 8)) (gN S) 8 1) ht100 rfl rfl ⟨ztyp_new_at (S := S) (t := 8) (n := 0) (s := zslots 8) (show 1639 ≤ gN S from by omega), (show gN S < gN S + 1 from by omega), zlen_new_at (S := S) (t := 8) (n := 0) (s := zslots 8) (show 1639 ≤ gN S from by omega)⟩ ?_
        refine zv_c1 ht100 rfl rfl (zv_c1 ht100 rfl rfl ?_)
        refine zv_ci (S' := sI (sT (sNew S 8 0 (zslots 8)) (gN S) 8 1) 136 (gN S) 3) ht100 rfl rfl ⟨⟨(zhas_of (ztyp_sT1 (show 1639 ≤ gN S from by omega)) rfl), (show gN S < gN S + 1 from by omega)⟩, zlen_sT1 (show 1639 ≤ gN S from by omega)⟩ ?_
        refine zv_c1 ht100 rfl rfl (zv_c1 ht100 rfl rfl ?_)
        refine zv_ci (S' := sI (sI (sT (sNew S 8 0 (zslots 8)) (gN S) 8 1) 136 (gN S) 3) 137 (gN S) (gI S 144 n)) ht100 rfl rfl ⟨⟨(zhas_of (ztyp_sT1 (show 1639 ≤ gN S from by omega)) rfl), (show gN S < gN S + 1 from by omega)⟩, zlen_sT1 (show 1639 ≤ gN S from by omega)⟩ ?_
        exact zv_rt ht100 rfl rfl rfl rfl k101
      refine zv_cl ht97 rfl rfl rfl rfl (by omega) (Nat.le_of_ble_eq_true rfl) (C99 _ ?_)
      show zEv (d - 1) 283 12 [.ref n] [.ref (gN S)] (sI (sI (sT (sNew S 8 0 (zslots 8)) (gN S) 8 1) 136 (gN S) 3) 137 (gN S) (gI S 144 n)) pst95
      exact zv_rt ht97 rfl rfl rfl rfl k102
    refine zv_cl ht rfl rfl rfl (zv_tgv (htn) rfl) (by omega) (Nat.le_of_ble_eq_true rfl) (C96 _ ?_)
    show zEv d 371 11 [.ref n, .retAddr 0, .retAddr 0, .retAddr 0, .retAddr 0, .retAddr 0, .retAddr 0] [.ref (gN S)] (sI (sI (sT (sNew S 8 0 (zslots 8)) (gN S) 8 1) 136 (gN S) 3) 137 (gN S) (gI S 144 n)) post
    exact zv_th ht rfl rfl rfl ⟨ztyp_sT1 (show 1639 ≤ gN S from by omega), (show gN S < gN S + 1 from by omega)⟩ rfl (h2 b22)

theorem pj_5 {d : Nat} {S : zS} (hF : zFin true S) (hd : 2 ≤ d) (n x y : Nat) (p q a b tx ty : Int32) (hn0 : 1639 ≤ n) (hn : n < gN S) (hx : x < gN S) (hxn : x ≠ n) (hy : y < gN S) (hyn : y ≠ n) (hcx : zNc (ztyp S x) = true) (hcy : zNc (ztyp S y) = true) (hN2 : gN S < 1900000) (htn : ztyp S n = 20) (how : gI S 187 n = Int32.ofNat 5) (hpx : gP S 188 n = some x) (hpy : gP S 189 n = some y) (hbx : gI S 145 x = p + 1) (hzx : gI S 147 x = zbo (bt 0 a)) (hox : gI S 148 x = zbo (bt 1 a)) (hnx : gI S 149 x = zbo (bt 2 a)) (hdx : gI S 150 x = zbo (bt 3 a)) (hux : gI S 151 x = zbo (bt 4 a)) (hsx : gI S 152 x = zbo (bt 5 a)) (hfx : gI S 153 x = zbo (bt 6 a)) (hex : gI S 154 x = zbo (bt 7 a)) (hmx : gI S 155 x = zbo (bt 8 a)) (hmixedx : gI S 156 x = zbo (bt 9 a)) (htx : gI S 146 x = tx) (hby : gI S 145 y = q + 1) (hzy : gI S 147 y = zbo (bt 0 b)) (hoy : gI S 148 y = zbo (bt 1 b)) (hny : gI S 149 y = zbo (bt 2 b)) (hdy : gI S 150 y = zbo (bt 3 b)) (huy : gI S 151 y = zbo (bt 4 b)) (hsy : gI S 152 y = zbo (bt 5 b)) (hfy : gI S 153 y = zbo (bt 6 b)) (hey : gI S 154 y = zbo (bt 7 b)) (hmy : gI S 155 y = zbo (bt 8 b)) (hmixedy : gI S 156 y = zbo (bt 9 b)) (hty : gI S 146 y = ty) (hm0 : gI S 156 n = zbo False) (ht0 : gI S 146 n = 0) {post : Outcome × zS → Prop} (h1 : (((p + 1) = (q + 1)) ∧ (¬ ((q + 1) = 4))) → post (.returned none, sI (sI (sI (sI (sI (sI (sI (sI (sI (sI (sI (sI (sI (sI S 145 n (p + 1)) 147 n 0) 148 n (zbo ((bt 0 a) ∧ (bt 0 b)))) 149 n 0) 150 n (zbo ((bt 3 a) ∨ (bt 3 b)))) 151 n (zbo ((bt 4 a) ∧ (bt 4 b)))) 152 n (zbo ((bt 5 a) ∧ (bt 5 b)))) 153 n (zbo ((bt 6 a) ∧ (bt 6 b)))) 154 n (zbo (((bt 7 a) ∧ (bt 6 b)) ∨ ((bt 6 a) ∧ (bt 7 b))))) 155 n (zbo (((bt 8 a) ∧ (bt 8 b)) ∧ ((bt 5 a) ∨ (bt 5 b))))) 156 n (zbo (bt 9 a))) 146 n ((0 : Int32) ||| tx)) 156 n (zbo ((bt 9 a) ∨ (bt 9 b)))) 146 n (((0 : Int32) ||| tx) ||| ty))) (h2 : (¬ (((p + 1) = (q + 1)) ∧ (¬ ((q + 1) = 4)))) → post (.threw (gN S), sI (sI (sT (sNew S 8 0 (zslots 8)) (gN S) 8 1) 136 (gN S) 3) 137 (gN S) (gI S 144 n))) : zCall d 371 [.ref n] S post := by
  have ht : ztab 371 = ztb371 := rfl
  show zEv d 371 0 [.ref n, .retAddr 0, .retAddr 0, .retAddr 0, .retAddr 0, .retAddr 0, .retAddr 0] [] S post
  refine zv_c1 ht rfl rfl ?_
  have C2 : ∀ (pst1 : Outcome × zS → Prop), (pst1 (.returned (some (.int (zbo (((p + 1) = (q + 1)) ∧ (¬ ((q + 1) = 4)))))), S)) → zCall (d - 1) 372 [.ref n] S pst1 := by
    intro pst1 k14
    have ht3 : ztab 372 = ztb372 := rfl
    show zEv (d - 1) 372 0 [.ref n] [] S pst1
    refine zv_c1 ht3 rfl rfl ?_
    refine zv_ei (x := 5) ht3 rfl rfl (zhas_of (htn) rfl) how ?_
    refine zv_sw ht3 rfl rfl rfl rfl rfl ?_
    refine And.intro (fun h => absurd h (by decide)) (fun _ => ?_)
    refine And.intro (fun h => absurd h (by decide)) (fun _ => ?_)
    refine And.intro (fun h => absurd h (by decide)) (fun _ => ?_)
    refine And.intro (fun h => absurd h (by decide)) (fun _ => ?_)
    refine And.intro (fun h => absurd h (by decide)) (fun _ => ?_)
    refine zv_c1 ht3 rfl rfl ?_
    refine zv_g3 (q := x) ht3 rfl hF rfl rfl (zhas_of (htn) rfl) hpx ?_
    refine zv_c1 ht3 rfl rfl ?_
    refine zv_g3 (q := y) ht3 rfl hF rfl rfl (zhas_of (htn) rfl) hpy ?_
    refine zv_ei (x := q + 1) ht3 rfl rfl (zhas_nc hcy (by decide)) hby ?_
    have C5 : ∀ (pst4 : Outcome × zS → Prop), (pst4 (.returned (some (.int (zbo (((p + 1) = (q + 1)) ∧ (¬ ((q + 1) = 4)))))), S)) → zCall ((d - 1) - 1) 282 [.ref x, .int (q + 1)] S pst4 := by
      intro pst4 k13
      have ht6 : ztab 282 = ztb282 := rfl
      show zEv ((d - 1) - 1) 282 0 [.ref x, .int (q + 1)] [] S pst4
      refine zv_c1 ht6 rfl rfl ?_
      refine zv_ei (x := p + 1) ht6 rfl rfl (zhas_nc hcx (by decide)) hbx ?_
      refine zv_c1 ht6 rfl rfl ?_
      have J11 : zEv ((d - 1) - 1) 282 18 [.retAddr 0, .retAddr 0] [.int (zbo (((p + 1) = (q + 1)) ∧ (¬ ((q + 1) = 4))))] S pst4 := by
        exact zv_rc ht6 rfl rfl rfl rfl zbo_rng k13
      have J9 : ((¬ ((p + 1) = (q + 1))) ∨ ((q + 1) = 4)) → zEv ((d - 1) - 1) 282 17 [.retAddr 0, .retAddr 0] [] S pst4 := by
        intro b10
        refine zv_c1 ht6 rfl rfl ?_
        exact (zv_sub (zz := zbo (((p + 1) = (q + 1)) ∧ (¬ ((q + 1) = 4)))) (zy := 0) (p := fun zz => zEv ((d - 1) - 1) 282 18 [.retAddr 0, .retAddr 0] [.int zz] S pst4) (zbo_neg (b10.elim (fun y1 => (fun h => y1 h.1)) (fun y1 => (fun h => (fun h => h y1) h.2)))) J11)
      refine zv_br ht6 rfl rfl rfl (fun b7 => ?_) (fun b7 => ?_)
      · exact zEv.wk (L := [.retAddr 0, .retAddr 0]) (L' := [.ref x, .int (q + 1)]) (And.intro (Or.inr rfl) (And.intro (Or.inr rfl) trivial)) (J9 (Or.inl b7))
      · replace b7 : (p + 1) = (q + 1) := Classical.not_not.mp b7
        refine zv_c1 ht6 rfl rfl (zv_c1 ht6 rfl rfl ?_)
        refine zv_br ht6 rfl rfl rfl (fun b8 => ?_) (fun b8 => ?_)
        · exact zEv.wk (L := [.retAddr 0, .retAddr 0]) (L' := [.ref x, .int (q + 1)]) (And.intro (Or.inr rfl) (And.intro (Or.inr rfl) trivial)) (J9 (Or.inr b8))
        · refine zv_c1 ht6 rfl rfl (zv_c1 ht6 rfl rfl ?_)
          exact zEv.wk (L := [.retAddr 0, .retAddr 0]) (L' := [.ref x, .int (q + 1)]) (And.intro (Or.inr rfl) (And.intro (Or.inr rfl) trivial)) (zv_sub (zz := zbo (((p + 1) = (q + 1)) ∧ (¬ ((q + 1) = 4)))) (zy := 1) (p := fun zz => zEv ((d - 1) - 1) 282 18 [.retAddr 0, .retAddr 0] [.int zz] S pst4) (zbo_pos ⟨b7, b8⟩) J11)
    refine zv_cl ht3 rfl rfl rfl (zv_tgA hcx (by decide)) (by omega) (Nat.le_of_ble_eq_true rfl) (C5 _ ?_)
    show zEv (d - 1) 372 212 [.ref n] [.int (zbo (((p + 1) = (q + 1)) ∧ (¬ ((q + 1) = 4))))] S pst1
    exact zv_rc ht3 rfl rfl rfl rfl zbo_rng k14
  refine zv_cl ht rfl rfl rfl (zv_tgv (htn) rfl) (by omega) (Nat.le_of_ble_eq_true rfl) (C2 _ ?_)
  show zEv d 371 4 [.ref n, .retAddr 0, .retAddr 0, .retAddr 0, .retAddr 0, .retAddr 0, .retAddr 0] [.int (zbo (((p + 1) = (q + 1)) ∧ (¬ ((q + 1) = 4))))] S post
  refine zv_br ht rfl rfl rfl (fun b15 => ?_) (fun b15 => ?_)
  · replace b15 : ((p + 1) = (q + 1)) ∧ (¬ ((q + 1) = 4)) := Classical.byContradiction (fun h => b15 ((zbo_eq0 : (zbo (((p + 1) = (q + 1)) ∧ (¬ ((q + 1) = 4)))) = 0 ↔ ¬ (((p + 1) = (q + 1)) ∧ (¬ ((q + 1) = 4)))).mpr h))
    refine zv_c1 ht rfl rfl ?_
    refine zv_g3 (q := x) ht rfl hF rfl rfl (zhas_of (htn) rfl) hpx ?_
    refine zv_ei (x := zbo (bt 0 a)) ht rfl rfl (zhas_nc hcx (by decide)) hzx ?_
    have J20 : zEv d 371 37 [.ref n, .retAddr 0, .retAddr 0, .retAddr 0, .retAddr 0, .retAddr 0, .retAddr 0] [.int (zbo ((bt 0 a) ∧ (bt 0 b)))] S post := by
      refine zv_c2 (L' := [.ref n, .int (zbo ((bt 0 a) ∧ (bt 0 b))), .retAddr 0, .retAddr 0, .retAddr 0, .retAddr 0, .retAddr 0]) ht rfl rfl ?_
      refine zv_c1 ht rfl rfl ?_
      refine zv_g3 (q := x) ht rfl hF rfl rfl (zhas_of (htn) rfl) hpx ?_
      refine zv_ei (x := zbo (bt 1 a)) ht rfl rfl (zhas_nc hcx (by decide)) hox ?_
      have J26 : zEv d 371 63 [.ref n, .int (zbo ((bt 0 a) ∧ (bt 0 b))), .retAddr 0, .retAddr 0, .retAddr 0, .retAddr 0, .retAddr 0] [.int (zbo ((bt 1 a) ∧ (bt 0 b)))] S post := by
        refine zv_c2 (L' := [.ref n, .int (zbo ((bt 0 a) ∧ (bt 0 b))), .int (zbo ((bt 1 a) ∧ (bt 0 b))), .retAddr 0, .retAddr 0, .retAddr 0, .retAddr 0]) ht rfl rfl ?_
        refine zv_c1 ht rfl rfl ?_
        have J35 : zEv d 371 93 [.ref n, .int (zbo ((bt 0 a) ∧ (bt 0 b))), .int (zbo ((bt 1 a) ∧ (bt 0 b))), .retAddr 0, .retAddr 0, .retAddr 0, .retAddr 0] [.int (zbo (((bt 1 a) ∧ (bt 0 b)) ∨ ((bt 0 a) ∧ (bt 1 b))))] S post := by
          refine zv_c2 (L' := [.ref n, .int (zbo ((bt 0 a) ∧ (bt 0 b))), .int (zbo ((bt 1 a) ∧ (bt 0 b))), .int (zbo (((bt 1 a) ∧ (bt 0 b)) ∨ ((bt 0 a) ∧ (bt 1 b)))), .retAddr 0, .retAddr 0, .retAddr 0]) ht rfl rfl ?_
          refine zv_c1 ht rfl rfl ?_
          refine zv_g3 (q := x) ht rfl hF rfl rfl (zhas_of (htn) rfl) hpx ?_
          refine zv_ei (x := zbo (bt 8 a)) ht rfl rfl (zhas_nc hcx (by decide)) hmx ?_
          have J41 : zEv d 371 119 [.ref n, .int (zbo ((bt 0 a) ∧ (bt 0 b))), .int (zbo ((bt 1 a) ∧ (bt 0 b))), .int (zbo (((bt 1 a) ∧ (bt 0 b)) ∨ ((bt 0 a) ∧ (bt 1 b)))), .retAddr 0, .retAddr 0, .retAddr 0] [.int (zbo ((bt 8 a) ∧ (bt 8 b)))] S post := by
            refine zv_c2 (L' := [.ref n, .int (zbo ((bt 0 a) ∧ (bt 0 b))), .int (zbo ((bt 1 a) ∧ (bt 0 b))), .int (zbo (((bt 1 a) ∧ (bt 0 b)) ∨ ((bt 0 a) ∧ (bt 1 b)))), .int (zbo ((bt 8 a) ∧ (bt 8 b))), .retAddr 0, .retAddr 0]) ht rfl rfl ?_
            refine zv_c1 ht rfl rfl ?_
            refine zv_g3 (q := x) ht rfl hF rfl rfl (zhas_of (htn) rfl) hpx ?_
            refine zv_ei (x := zbo (bt 5 a)) ht rfl rfl (zhas_nc hcx (by decide)) hsx ?_
            have J47 : zEv d 371 146 [.ref n, .int (zbo ((bt 0 a) ∧ (bt 0 b))), .int (zbo ((bt 1 a) ∧ (bt 0 b))), .int (zbo (((bt 1 a) ∧ (bt 0 b)) ∨ ((bt 0 a) ∧ (bt 1 b)))), .int (zbo ((bt 8 a) ∧ (bt 8 b))), .retAddr 0, .retAddr 0] [.int (zbo ((bt 5 a) ∨ (bt 5 b)))] S post := by
              refine zv_c2 (L' := [.ref n, .int (zbo ((bt 0 a) ∧ (bt 0 b))), .int (zbo ((bt 1 a) ∧ (bt 0 b))), .int (zbo (((bt 1 a) ∧ (bt 0 b)) ∨ ((bt 0 a) ∧ (bt 1 b)))), .int (zbo ((bt 8 a) ∧ (bt 8 b))), .int (zbo ((bt 5 a) ∨ (bt 5 b))), .retAddr 0]) ht rfl rfl ?_
              refine zv_c1 ht rfl rfl ?_
              refine zv_g3 (q := x) ht rfl hF rfl rfl (zhas_of (htn) rfl) hpx ?_
              refine zv_ei (x := zbo (bt 5 a)) ht rfl rfl (zhas_nc hcx (by decide)) hsx ?_
              have J53 : zEv d 371 173 [.ref n, .int (zbo ((bt 0 a) ∧ (bt 0 b))), .int (zbo ((bt 1 a) ∧ (bt 0 b))), .int (zbo (((bt 1 a) ∧ (bt 0 b)) ∨ ((bt 0 a) ∧ (bt 1 b)))), .int (zbo ((bt 8 a) ∧ (bt 8 b))), .int (zbo ((bt 5 a) ∨ (bt 5 b))), .retAddr 0] [.int (zbo ((bt 5 a) ∧ (bt 5 b)))] S post := by
                refine zv_c2 (L' := [.ref n, .int (zbo ((bt 0 a) ∧ (bt 0 b))), .int (zbo ((bt 1 a) ∧ (bt 0 b))), .int (zbo (((bt 1 a) ∧ (bt 0 b)) ∨ ((bt 0 a) ∧ (bt 1 b)))), .int (zbo ((bt 8 a) ∧ (bt 8 b))), .int (zbo ((bt 5 a) ∨ (bt 5 b))), .int (zbo ((bt 5 a) ∧ (bt 5 b)))]) ht rfl rfl ?_
                refine zv_c1 ht rfl rfl ?_
                refine zv_ei (x := 5) ht rfl rfl (zhas_of (htn) rfl) how ?_
                refine zv_sw ht rfl rfl rfl rfl rfl ?_
                refine And.intro (fun h => absurd h (by decide)) (fun _ => ?_)
                refine And.intro (fun h => absurd h (by decide)) (fun _ => ?_)
                refine And.intro (fun h => absurd h (by decide)) (fun _ => ?_)
                refine And.intro (fun h => absurd h (by decide)) (fun _ => ?_)
                refine And.intro (fun h => absurd h (by decide)) (fun _ => ?_)
                refine zv_c1 ht rfl rfl (zv_c1 ht rfl rfl ?_)
                refine zv_g3 (q := x) ht rfl hF rfl rfl (zhas_of (htn) rfl) hpx ?_
                refine zv_ei (x := p + 1) ht rfl rfl (zhas_nc hcx (by decide)) hbx ?_
                refine zv_c1 ht rfl rfl (zv_c1 ht rfl rfl (zv_c1 ht rfl rfl (zv_c1 ht rfl rfl ?_)))
                refine zv_g3 (q := x) ht rfl hF rfl rfl (zhas_of (htn) rfl) hpx ?_
                refine zv_ei (x := zbo (bt 3 a)) ht rfl rfl (zhas_nc hcx (by decide)) hdx ?_
                have J59 : zEv d 371 687 [.ref n, .retAddr 0, .retAddr 0, .retAddr 0, .int (zbo ((bt 8 a) ∧ (bt 8 b))), .int (zbo ((bt 5 a) ∨ (bt 5 b))), .int (zbo ((bt 5 a) ∧ (bt 5 b)))] [.int (zbo ((bt 3 a) ∨ (bt 3 b))), .int 0, .int (zbo ((bt 0 a) ∧ (bt 0 b))), .int 0, .int (p + 1), .ref n] S post := by
                  refine zv_c1 ht rfl rfl ?_
                  refine zv_g3 (q := x) ht rfl hF rfl rfl (zhas_of (htn) rfl) hpx ?_
                  refine zv_ei (x := zbo (bt 4 a)) ht rfl rfl (zhas_nc hcx (by decide)) hux ?_
                  have J65 : zEv d 371 712 [.ref n, .retAddr 0, .retAddr 0, .retAddr 0, .int (zbo ((bt 8 a) ∧ (bt 8 b))), .int (zbo ((bt 5 a) ∨ (bt 5 b))), .int (zbo ((bt 5 a) ∧ (bt 5 b)))] [.int (zbo ((bt 4 a) ∧ (bt 4 b))), .int (zbo ((bt 3 a) ∨ (bt 3 b))), .int 0, .int (zbo ((bt 0 a) ∧ (bt 0 b))), .int 0, .int (p + 1), .ref n] S post := by
                    have C68 : ∀ (pst67 : Outcome × zS → Prop), (pst67 (.returned none, sI (sI (sI (sI (sI (sI S 145 n (p + 1)) 147 n 0) 148 n (zbo ((bt 0 a) ∧ (bt 0 b)))) 149 n 0) 150 n (zbo ((bt 3 a) ∨ (bt 3 b)))) 151 n (zbo ((bt 4 a) ∧ (bt 4 b))))) → zCall (d - 1) 284 [.ref n, .int (p + 1), .int 0, .int (zbo ((bt 0 a) ∧ (bt 0 b))), .int 0, .int (zbo ((bt 3 a) ∨ (bt 3 b))), .int (zbo ((bt 4 a) ∧ (bt 4 b)))] S pst67 := by
                      intro pst67 k70
                      have ht69 : ztab 284 = ztb284 := rfl
                      show zEv (d - 1) 284 0 [.ref n, .int (p + 1), .int 0, .int (zbo ((bt 0 a) ∧ (bt 0 b))), .int 0, .int (zbo ((bt 3 a) ∨ (bt 3 b))), .int (zbo ((bt 4 a) ∧ (bt 4 b)))] [] S pst67
                      refine zv_c1 ht69 rfl rfl (zv_c1 ht69 rfl rfl ?_)
                      refine zv_ci (S' := sI S 145 n (p + 1)) ht69 rfl rfl ⟨(zhas_of (htn) rfl), (show n < gN S from by omega)⟩ ?_
                      refine zv_c1 ht69 rfl rfl (zv_c1 ht69 rfl rfl ?_)
                      refine zv_ci (S' := sI (sI S 145 n (p + 1)) 147 n 0) ht69 rfl rfl ⟨⟨(zhas_of (htn) rfl), (show n < gN S from by omega)⟩, (by decide)⟩ ?_
                      refine zv_c1 ht69 rfl rfl (zv_c1 ht69 rfl rfl ?_)
                      refine zv_ci (S' := sI (sI (sI S 145 n (p + 1)) 147 n 0) 148 n (zbo ((bt 0 a) ∧ (bt 0 b)))) ht69 rfl rfl ⟨⟨(zhas_of (htn) rfl), (show n < gN S from by omega)⟩, zbo_rng⟩ ?_
                      refine zv_c1 ht69 rfl rfl (zv_c1 ht69 rfl rfl ?_)
                      refine zv_ci (S' := sI (sI (sI (sI S 145 n (p + 1)) 147 n 0) 148 n (zbo ((bt 0 a) ∧ (bt 0 b)))) 149 n 0) ht69 rfl rfl ⟨⟨(zhas_of (htn) rfl), (show n < gN S from by omega)⟩, (by decide)⟩ ?_
                      refine zv_c1 ht69 rfl rfl (zv_c1 ht69 rfl rfl ?_)
                      refine zv_ci (S' := sI (sI (sI (sI (sI S 145 n (p + 1)) 147 n 0) 148 n (zbo ((bt 0 a) ∧ (bt 0 b)))) 149 n 0) 150 n (zbo ((bt 3 a) ∨ (bt 3 b)))) ht69 rfl rfl ⟨⟨(zhas_of (htn) rfl), (show n < gN S from by omega)⟩, zbo_rng⟩ ?_
                      refine zv_c1 ht69 rfl rfl (zv_c1 ht69 rfl rfl ?_)
                      refine zv_ci (S' := sI (sI (sI (sI (sI (sI S 145 n (p + 1)) 147 n 0) 148 n (zbo ((bt 0 a) ∧ (bt 0 b)))) 149 n 0) 150 n (zbo ((bt 3 a) ∨ (bt 3 b)))) 151 n (zbo ((bt 4 a) ∧ (bt 4 b)))) ht69 rfl rfl ⟨⟨(zhas_of (htn) rfl), (show n < gN S from by omega)⟩, zbo_rng⟩ ?_
                      exact zv_rt ht69 rfl rfl rfl rfl k70
                    refine zv_cl ht rfl rfl rfl (zv_tgv (htn) rfl) (by omega) (Nat.le_of_ble_eq_true rfl) (C68 _ ?_)
                    show zEv d 371 715 [.ref n, .retAddr 0, .retAddr 0, .retAddr 0, .int (zbo ((bt 8 a) ∧ (bt 8 b))), .int (zbo ((bt 5 a) ∨ (bt 5 b))), .int (zbo ((bt 5 a) ∧ (bt 5 b)))] [] (sI (sI (sI (sI (sI (sI S 145 n (p + 1)) 147 n 0) 148 n (zbo ((bt 0 a) ∧ (bt 0 b)))) 149 n 0) 150 n (zbo ((bt 3 a) ∨ (bt 3 b)))) 151 n (zbo ((bt 4 a) ∧ (bt 4 b)))) post
                    refine zv_c1 ht rfl rfl (zv_c1 ht rfl rfl (zv_c1 ht rfl rfl ?_))
                    refine zv_g3 (q := x) ht rfl hF rfl rfl (zhas_of (htn) rfl) hpx ?_
                    refine zv_ei (x := zbo (bt 6 a)) ht rfl rfl (zhas_nc hcx (by decide)) hfx ?_
                    have J75 : zEv d 371 743 [.ref n, .retAddr 0, .retAddr 0, .retAddr 0, .int (zbo ((bt 8 a) ∧ (bt 8 b))), .int (zbo ((bt 5 a) ∨ (bt 5 b))), .retAddr 0] [.int (zbo ((bt 6 a) ∧ (bt 6 b))), .int (zbo ((bt 5 a) ∧ (bt 5 b))), .ref n] (sI (sI (sI (sI (sI (sI S 145 n (p + 1)) 147 n 0) 148 n (zbo ((bt 0 a) ∧ (bt 0 b)))) 149 n 0) 150 n (zbo ((bt 3 a) ∨ (bt 3 b)))) 151 n (zbo ((bt 4 a) ∧ (bt 4 b)))) post := by
                      refine zv_c1 ht rfl rfl ?_
                      refine zv_g3 (q := x) ht rfl hF rfl rfl (zhas_of (htn) rfl) hpx ?_
                      refine zv_ei (x := zbo (bt 7 a)) ht rfl rfl (zhas_nc hcx (by decide)) hex ?_
                      have J87 : zEv d 371 788 [.ref n, .retAddr 0, .retAddr 0, .retAddr 0, .int (zbo ((bt 8 a) ∧ (bt 8 b))), .int (zbo ((bt 5 a) ∨ (bt 5 b))), .retAddr 0] [.int (zbo (((bt 7 a) ∧ (bt 6 b)) ∨ ((bt 6 a) ∧ (bt 7 b)))), .int (zbo ((bt 6 a) ∧ (bt 6 b))), .int (zbo ((bt 5 a) ∧ (bt 5 b))), .ref n] (sI (sI (sI (sI (sI (sI S 145 n (p + 1)) 147 n 0) 148 n (zbo ((bt 0 a) ∧ (bt 0 b)))) 149 n 0) 150 n (zbo ((bt 3 a) ∨ (bt 3 b)))) 151 n (zbo ((bt 4 a) ∧ (bt 4 b)))) post := by
                        refine zv_c1 ht rfl rfl ?_
                        have J93 : zEv d 371 803 [.ref n, .retAddr 0, .retAddr 0, .retAddr 0, .retAddr 0, .retAddr 0, .retAddr 0] [.int (zbo (((bt 8 a) ∧ (bt 8 b)) ∧ ((bt 5 a) ∨ (bt 5 b)))), .int (zbo (((bt 7 a) ∧ (bt 6 b)) ∨ ((bt 6 a) ∧ (bt 7 b)))), .int (zbo ((bt 6 a) ∧ (bt 6 b))), .int (zbo ((bt 5 a) ∧ (bt 5 b))), .ref n] (sI (sI (sI (sI (sI (sI S 145 n (p + 1)) 147 n 0) 148 n (zbo ((bt 0 a) ∧ (bt 0 b)))) 149 n 0) 150 n (zbo ((bt 3 a) ∨ (bt 3 b)))) 151 n (zbo ((bt 4 a) ∧ (bt 4 b)))) post := by
                          have C96 : ∀ (pst95 : Outcome × zS → Prop), (pst95 (.returned none, sI (sI (sI (sI (sI (sI (sI (sI (sI (sI S 145 n (p + 1)) 147 n 0) 148 n (zbo ((bt 0 a) ∧ (bt 0 b)))) 149 n 0) 150 n (zbo ((bt 3 a) ∨ (bt 3 b)))) 151 n (zbo ((bt 4 a) ∧ (bt 4 b)))) 152 n (zbo ((bt 5 a) ∧ (bt 5 b)))) 153 n (zbo ((bt 6 a) ∧ (bt 6 b)))) 154 n (zbo (((bt 7 a) ∧ (bt 6 b)) ∨ ((bt 6 a) ∧ (bt 7 b))))) 155 n (zbo (((bt 8 a) ∧ (bt 8 b)) ∧ ((bt 5 a) ∨ (bt 5 b)))))) → zCall (d - 1) 285 [.ref n, .int (zbo ((bt 5 a) ∧ (bt 5 b))), .int (zbo ((bt 6 a) ∧ (bt 6 b))), .int (zbo (((bt 7 a) ∧ (bt 6 b)) ∨ ((bt 6 a) ∧ (bt 7 b)))), .int (zbo (((bt 8 a) ∧ (bt 8 b)) ∧ ((bt 5 a) ∨ (bt 5 b))))] (sI (sI (sI (sI (sI (sI S 145 n (p + 1)) 147 n 0) 148 n (zbo ((bt 0 a) ∧ (bt 0 b)))) 149 n 0) 150 n (zbo ((bt 3 a) ∨ (bt 3 b)))) 151 n (zbo ((bt 4 a) ∧ (bt 4 b)))) pst95 := by
                            intro pst95 k98
                            have ht97 : ztab 285 = ztb285 := rfl
                            show zEv (d - 1) 285 0 [.ref n, .int (zbo ((bt 5 a) ∧ (bt 5 b))), .int (zbo ((bt 6 a) ∧ (bt 6 b))), .int (zbo (((bt 7 a) ∧ (bt 6 b)) ∨ ((bt 6 a) ∧ (bt 7 b)))), .int (zbo (((bt 8 a) ∧ (bt 8 b)) ∧ ((bt 5 a) ∨ (bt 5 b))))] [] (sI (sI (sI (sI (sI (sI S 145 n (p + 1)) 147 n 0) 148 n (zbo ((bt 0 a) ∧ (bt 0 b)))) 149 n 0) 150 n (zbo ((bt 3 a) ∨ (bt 3 b)))) 151 n (zbo ((bt 4 a) ∧ (bt 4 b)))) pst95
                            refine zv_c1 ht97 rfl rfl (zv_c1 ht97 rfl rfl ?_)
                            refine zv_ci (S' := sI (sI (sI (sI (sI (sI (sI S 145 n (p + 1)) 147 n 0) 148 n (zbo ((bt 0 a) ∧ (bt 0 b)))) 149 n 0) 150 n (zbo ((bt 3 a) ∨ (bt 3 b)))) 151 n (zbo ((bt 4 a) ∧ (bt 4 b)))) 152 n (zbo ((bt 5 a) ∧ (bt 5 b)))) ht97 rfl rfl ⟨⟨(zhas_of (htn) rfl), (show n < gN S from by omega)⟩, zbo_rng⟩ ?_
                            refine zv_c1 ht97 rfl rfl (zv_c1 ht97 rfl rfl ?_)
                            refine zv_ci (S' := sI (sI (sI (sI (sI (sI (sI (sI S 145 n (p + 1)) 147 n 0) 148 n (zbo ((bt 0 a) ∧ (bt 0 b)))) 149 n 0) 150 n (zbo ((bt 3 a) ∨ (bt 3 b)))) 151 n (zbo ((bt 4 a) ∧ (bt 4 b)))) 152 n (zbo ((bt 5 a) ∧ (bt 5 b)))) 153 n (zbo ((bt 6 a) ∧ (bt 6 b)))) ht97 rfl rfl ⟨⟨(zhas_of (htn) rfl), (show n < gN S from by omega)⟩, zbo_rng⟩ ?_
                            refine zv_c1 ht97 rfl rfl (zv_c1 ht97 rfl rfl ?_)
                            refine zv_ci (S' := sI (sI (sI (sI (sI (sI (sI (sI (sI S 145 n (p + 1)) 147 n 0) 148 n (zbo ((bt 0 a) ∧ (bt 0 b)))) 149 n 0) 150 n (zbo ((bt 3 a) ∨ (bt 3 b)))) 151 n (zbo ((bt 4 a) ∧ (bt 4 b)))) 152 n (zbo ((bt 5 a) ∧ (bt 5 b)))) 153 n (zbo ((bt 6 a) ∧ (bt 6 b)))) 154 n (zbo (((bt 7 a) ∧ (bt 6 b)) ∨ ((bt 6 a) ∧ (bt 7 b))))) ht97 rfl rfl ⟨⟨(zhas_of (htn) rfl), (show n < gN S from by omega)⟩, zbo_rng⟩ ?_
                            refine zv_c1 ht97 rfl rfl (zv_c1 ht97 rfl rfl ?_)
                            refine zv_ci (S' := sI (sI (sI (sI (sI (sI (sI (sI (sI (sI S 145 n (p + 1)) 147 n 0) 148 n (zbo ((bt 0 a) ∧ (bt 0 b)))) 149 n 0) 150 n (zbo ((bt 3 a) ∨ (bt 3 b)))) 151 n (zbo ((bt 4 a) ∧ (bt 4 b)))) 152 n (zbo ((bt 5 a) ∧ (bt 5 b)))) 153 n (zbo ((bt 6 a) ∧ (bt 6 b)))) 154 n (zbo (((bt 7 a) ∧ (bt 6 b)) ∨ ((bt 6 a) ∧ (bt 7 b))))) 155 n (zbo (((bt 8 a) ∧ (bt 8 b)) ∧ ((bt 5 a) ∨ (bt 5 b))))) ht97 rfl rfl ⟨⟨(zhas_of (htn) rfl), (show n < gN S from by omega)⟩, zbo_rng⟩ ?_
                            exact zv_rt ht97 rfl rfl rfl rfl k98
                          refine zv_cl ht rfl rfl rfl (zv_tgv (htn) rfl) (by omega) (Nat.le_of_ble_eq_true rfl) (C96 _ ?_)
                          show zEv d 371 806 [.ref n, .retAddr 0, .retAddr 0, .retAddr 0, .retAddr 0, .retAddr 0, .retAddr 0] [] (sI (sI (sI (sI (sI (sI (sI (sI (sI (sI S 145 n (p + 1)) 147 n 0) 148 n (zbo ((bt 0 a) ∧ (bt 0 b)))) 149 n 0) 150 n (zbo ((bt 3 a) ∨ (bt 3 b)))) 151 n (zbo ((bt 4 a) ∧ (bt 4 b)))) 152 n (zbo ((bt 5 a) ∧ (bt 5 b)))) 153 n (zbo ((bt 6 a) ∧ (bt 6 b)))) 154 n (zbo (((bt 7 a) ∧ (bt 6 b)) ∨ ((bt 6 a) ∧ (bt 7 b))))) 155 n (zbo (((bt 8 a) ∧ (bt 8 b)) ∧ ((bt 5 a) ∨ (bt 5 b))))) post
                          refine zv_c1 ht rfl rfl (zv_c1 ht rfl rfl ?_)
                          refine zv_g3 (q := x) ht rfl hF rfl rfl (zhas_of (htn) rfl) hpx ?_
                          refine zv_c1 ht rfl rfl ?_
                          have C100 : ∀ (pst99 : Outcome × zS → Prop), (pst99 (.returned none, sI (sI (sI (sI (sI (sI (sI (sI (sI (sI (sI (sI S 145 n (p + 1)) 147 n 0) 148 n (zbo ((bt 0 a) ∧ (bt 0 b)))) 149 n 0) 150 n (zbo ((bt 3 a) ∨ (bt 3 b)))) 151 n (zbo ((bt 4 a) ∧ (bt 4 b)))) 152 n (zbo ((bt 5 a) ∧ (bt 5 b)))) 153 n (zbo ((bt 6 a) ∧ (bt 6 b)))) 154 n (zbo (((bt 7 a) ∧ (bt 6 b)) ∨ ((bt 6 a) ∧ (bt 7 b))))) 155 n (zbo (((bt 8 a) ∧ (bt 8 b)) ∧ ((bt 5 a) ∨ (bt 5 b))))) 156 n (zbo (bt 9 a))) 146 n ((0 : Int32) ||| tx))) → zCall (d - 1) 286 [.ref n, .ref x, .int 0] (sI (sI (sI (sI (sI (sI (sI (sI (sI (sI S 145 n (p + 1)) 147 n 0) 148 n (zbo ((bt 0 a) ∧ (bt 0 b)))) 149 n 0) 150 n (zbo ((bt 3 a) ∨ (bt 3 b)))) 151 n (zbo ((bt 4 a) ∧ (bt 4 b)))) 152 n (zbo ((bt 5 a) ∧ (bt 5 b)))) 153 n (zbo ((bt 6 a) ∧ (bt 6 b)))) 154 n (zbo (((bt 7 a) ∧ (bt 6 b)) ∨ ((bt 6 a) ∧ (bt 7 b))))) 155 n (zbo (((bt 8 a) ∧ (bt 8 b)) ∧ ((bt 5 a) ∨ (bt 5 b))))) pst99 := by
                            intro pst99 k106
                            have ht101 : ztab 286 = ztb286 := rfl
                            show zEv (d - 1) 286 0 [.ref n, .ref x, .int 0] [] (sI (sI (sI (sI (sI (sI (sI (sI (sI (sI S 145 n (p + 1)) 147 n 0) 148 n (zbo ((bt 0 a) ∧ (bt 0 b)))) 149 n 0) 150 n (zbo ((bt 3 a) ∨ (bt 3 b)))) 151 n (zbo ((bt 4 a) ∧ (bt 4 b)))) 152 n (zbo ((bt 5 a) ∧ (bt 5 b)))) 153 n (zbo ((bt 6 a) ∧ (bt 6 b)))) 154 n (zbo (((bt 7 a) ∧ (bt 6 b)) ∨ ((bt 6 a) ∧ (bt 7 b))))) 155 n (zbo (((bt 8 a) ∧ (bt 8 b)) ∧ ((bt 5 a) ∨ (bt 5 b))))) pst99
                            refine zv_c1 ht101 rfl rfl ?_
                            refine zv_br ht101 rfl rfl rfl (fun _ => ?_) (fun h => absurd (by decide) h)
                            refine zv_c1 ht101 rfl rfl (zv_c1 ht101 rfl rfl ?_)
                            refine zv_ei (x := zbo False) ht101 rfl rfl (zhas_of (htn) rfl) hm0 ?_
                            refine zv_br ht101 rfl rfl rfl (fun b102 => (b102 ((zbo_eq0 : (zbo False) = 0 ↔ ¬ False).mpr trivial)).elim) (fun b102 => ?_)
                            refine zv_c1 ht101 rfl rfl ?_
                            refine zv_ei (x := zbo (bt 9 a)) ht101 rfl rfl (zhas_nc hcx (by decide)) hmixedx ?_
                            have J104 : zEv (d - 1) 286 73 [.ref n, .ref x, .retAddr 0] [.int (zbo (bt 9 a)), .ref n] (sI (sI (sI (sI (sI (sI (sI (sI (sI (sI S 145 n (p + 1)) 147 n 0) 148 n (zbo ((bt 0 a) ∧ (bt 0 b)))) 149 n 0) 150 n (zbo ((bt 3 a) ∨ (bt 3 b)))) 151 n (zbo ((bt 4 a) ∧ (bt 4 b)))) 152 n (zbo ((bt 5 a) ∧ (bt 5 b)))) 153 n (zbo ((bt 6 a) ∧ (bt 6 b)))) 154 n (zbo (((bt 7 a) ∧ (bt 6 b)) ∨ ((bt 6 a) ∧ (bt 7 b))))) 155 n (zbo (((bt 8 a) ∧ (bt 8 b)) ∧ ((bt 5 a) ∨ (bt 5 b))))) pst99 := by
                              refine zv_ci (S' := sI (sI (sI (sI (sI (sI (sI (sI (sI (sI (sI S 145 n (p + 1)) 147 n 0) 148 n (zbo ((bt 0 a) ∧ (bt 0 b)))) 149 n 0) 150 n (zbo ((bt 3 a) ∨ (bt 3 b)))) 151 n (zbo ((bt 4 a) ∧ (bt 4 b)))) 152 n (zbo ((bt 5 a) ∧ (bt 5 b)))) 153 n (zbo ((bt 6 a) ∧ (bt 6 b)))) 154 n (zbo (((bt 7 a) ∧ (bt 6 b)) ∨ ((bt 6 a) ∧ (bt 7 b))))) 155 n (zbo (((bt 8 a) ∧ (bt 8 b)) ∧ ((bt 5 a) ∨ (bt 5 b))))) 156 n (zbo (bt 9 a))) ht101 rfl rfl ⟨⟨(zhas_of (htn) rfl), (show n < gN S from by omega)⟩, zbo_rng⟩ ?_
                              refine zv_c1 ht101 rfl rfl (zv_c1 ht101 rfl rfl ?_)
                              refine zv_ei (x := 0) ht101 rfl rfl (zhas_of (htn) rfl) ht0 ?_
                              refine zv_c1 ht101 rfl rfl ?_
                              refine zv_ei (x := tx) ht101 rfl rfl (zhas_nc hcx (by decide)) htx ?_
                              refine zv_c1 (st' := [.int ((0 : Int32) ||| tx), .ref n]) (S' := sI (sI (sI (sI (sI (sI (sI (sI (sI (sI (sI S 145 n (p + 1)) 147 n 0) 148 n (zbo ((bt 0 a) ∧ (bt 0 b)))) 149 n 0) 150 n (zbo ((bt 3 a) ∨ (bt 3 b)))) 151 n (zbo ((bt 4 a) ∧ (bt 4 b)))) 152 n (zbo ((bt 5 a) ∧ (bt 5 b)))) 153 n (zbo ((bt 6 a) ∧ (bt 6 b)))) 154 n (zbo (((bt 7 a) ∧ (bt 6 b)) ∨ ((bt 6 a) ∧ (bt 7 b))))) 155 n (zbo (((bt 8 a) ∧ (bt 8 b)) ∧ ((bt 5 a) ∨ (bt 5 b))))) 156 n (zbo (bt 9 a))) ht101 rfl rfl ?_
                              refine zv_ci (S' := sI (sI (sI (sI (sI (sI (sI (sI (sI (sI (sI (sI S 145 n (p + 1)) 147 n 0) 148 n (zbo ((bt 0 a) ∧ (bt 0 b)))) 149 n 0) 150 n (zbo ((bt 3 a) ∨ (bt 3 b)))) 151 n (zbo ((bt 4 a) ∧ (bt 4 b)))) 152 n (zbo ((bt 5 a) ∧ (bt 5 b)))) 153 n (zbo ((bt 6 a) ∧ (bt 6 b)))) 154 n (zbo (((bt 7 a) ∧ (bt 6 b)) ∨ ((bt 6 a) ∧ (bt 7 b))))) 155 n (zbo (((bt 8 a) ∧ (bt 8 b)) ∧ ((bt 5 a) ∨ (bt 5 b))))) 156 n (zbo (bt 9 a))) 146 n ((0 : Int32) ||| tx)) ht101 rfl rfl ⟨(zhas_of (htn) rfl), (show n < gN S from by omega)⟩ ?_
                              exact zv_rt ht101 rfl rfl rfl rfl k106
                            refine zv_br ht101 rfl rfl rfl (fun b103 => ?_) (fun b103 => ?_)
                            · replace b103 : ¬ (bt 9 a) := (zbo_eq0 : (zbo (bt 9 a)) = 0 ↔ ¬ (bt 9 a)).mp b103
                              refine zv_c1 ht101 rfl rfl ?_
                              exact zEv.wk (L := [.ref n, .ref x, .retAddr 0]) (L' := [.ref n, .ref x, .int 0]) (And.intro (Or.inl rfl) (And.intro (Or.inl rfl) (And.intro (Or.inr rfl) trivial))) (zv_sub (zz := zbo (bt 9 a)) (zy := 0) (p := fun zz => zEv (d - 1) 286 73 [.ref n, .ref x, .retAddr 0] [.int zz, .ref n] (sI (sI (sI (sI (sI (sI (sI (sI (sI (sI S 145 n (p + 1)) 147 n 0) 148 n (zbo ((bt 0 a) ∧ (bt 0 b)))) 149 n 0) 150 n (zbo ((bt 3 a) ∨ (bt 3 b)))) 151 n (zbo ((bt 4 a) ∧ (bt 4 b)))) 152 n (zbo ((bt 5 a) ∧ (bt 5 b)))) 153 n (zbo ((bt 6 a) ∧ (bt 6 b)))) 154 n (zbo (((bt 7 a) ∧ (bt 6 b)) ∨ ((bt 6 a) ∧ (bt 7 b))))) 155 n (zbo (((bt 8 a) ∧ (bt 8 b)) ∧ ((bt 5 a) ∨ (bt 5 b))))) pst99) (zbo_neg b103) J104)
                            · replace b103 : bt 9 a := Classical.byContradiction (fun h => b103 ((zbo_eq0 : (zbo (bt 9 a)) = 0 ↔ ¬ (bt 9 a)).mpr h))
                              refine zv_c1 ht101 rfl rfl (zv_c1 ht101 rfl rfl ?_)
                              exact zEv.wk (L := [.ref n, .ref x, .retAddr 0]) (L' := [.ref n, .ref x, .int 0]) (And.intro (Or.inl rfl) (And.intro (Or.inl rfl) (And.intro (Or.inr rfl) trivial))) (zv_sub (zz := zbo (bt 9 a)) (zy := 1) (p := fun zz => zEv (d - 1) 286 73 [.ref n, .ref x, .retAddr 0] [.int zz, .ref n] (sI (sI (sI (sI (sI (sI (sI (sI (sI (sI S 145 n (p + 1)) 147 n 0) 148 n (zbo ((bt 0 a) ∧ (bt 0 b)))) 149 n 0) 150 n (zbo ((bt 3 a) ∨ (bt 3 b)))) 151 n (zbo ((bt 4 a) ∧ (bt 4 b)))) 152 n (zbo ((bt 5 a) ∧ (bt 5 b)))) 153 n (zbo ((bt 6 a) ∧ (bt 6 b)))) 154 n (zbo (((bt 7 a) ∧ (bt 6 b)) ∨ ((bt 6 a) ∧ (bt 7 b))))) 155 n (zbo (((bt 8 a) ∧ (bt 8 b)) ∧ ((bt 5 a) ∨ (bt 5 b))))) pst99) (zbo_pos b103) J104)
                          refine zv_cl ht rfl rfl rfl (zv_tgv (htn) rfl) (by omega) (Nat.le_of_ble_eq_true rfl) (C100 _ ?_)
                          show zEv d 371 815 [.ref n, .retAddr 0, .retAddr 0, .retAddr 0, .retAddr 0, .retAddr 0, .retAddr 0] [] (sI (sI (sI (sI (sI (sI (sI (sI (sI (sI (sI (sI S 145 n (p + 1)) 147 n 0) 148 n (zbo ((bt 0 a) ∧ (bt 0 b)))) 149 n 0) 150 n (zbo ((bt 3 a) ∨ (bt 3 b)))) 151 n (zbo ((bt 4 a) ∧ (bt 4 b)))) 152 n (zbo ((bt 5 a) ∧ (bt 5 b)))) 153 n (zbo ((bt 6 a) ∧ (bt 6 b)))) 154 n (zbo (((bt 7 a) ∧ (bt 6 b)) ∨ ((bt 6 a) ∧ (bt 7 b))))) 155 n (zbo (((bt 8 a) ∧ (bt 8 b)) ∧ ((bt 5 a) ∨ (bt 5 b))))) 156 n (zbo (bt 9 a))) 146 n ((0 : Int32) ||| tx)) post
                          refine zv_c1 ht rfl rfl (zv_c1 ht rfl rfl ?_)
                          refine zv_g3 (q := y) ht rfl hF rfl rfl (zhas_of (htn) rfl) hpy ?_
                          refine zv_c1 ht rfl rfl ?_
                          refine zv_ei (x := 5) ht rfl rfl (zhas_of (htn) rfl) how ?_
                          refine zv_c1 ht rfl rfl ?_
                          refine zv_br ht rfl rfl rfl (fun _ => ?_) (fun h => absurd (by decide) h)
                          refine zv_c1 ht rfl rfl ?_
                          have C108 : ∀ (pst107 : Outcome × zS → Prop), (pst107 (.returned none, sI (sI (sI (sI (sI (sI (sI (sI (sI (sI (sI (sI (sI (sI S 145 n (p + 1)) 147 n 0) 148 n (zbo ((bt 0 a) ∧ (bt 0 b)))) 149 n 0) 150 n (zbo ((bt 3 a) ∨ (bt 3 b)))) 151 n (zbo ((bt 4 a) ∧ (bt 4 b)))) 152 n (zbo ((bt 5 a) ∧ (bt 5 b)))) 153 n (zbo ((bt 6 a) ∧ (bt 6 b)))) 154 n (zbo (((bt 7 a) ∧ (bt 6 b)) ∨ ((bt 6 a) ∧ (bt 7 b))))) 155 n (zbo (((bt 8 a) ∧ (bt 8 b)) ∧ ((bt 5 a) ∨ (bt 5 b))))) 156 n (zbo (bt 9 a))) 146 n ((0 : Int32) ||| tx)) 156 n (zbo ((bt 9 a) ∨ (bt 9 b)))) 146 n (((0 : Int32) ||| tx) ||| ty))) → zCall (d - 1) 286 [.ref n, .ref y, .int 0] (sI (sI (sI (sI (sI (sI (sI (sI (sI (sI (sI (sI S 145 n (p + 1)) 147 n 0) 148 n (zbo ((bt 0 a) ∧ (bt 0 b)))) 149 n 0) 150 n (zbo ((bt 3 a) ∨ (bt 3 b)))) 151 n (zbo ((bt 4 a) ∧ (bt 4 b)))) 152 n (zbo ((bt 5 a) ∧ (bt 5 b)))) 153 n (zbo ((bt 6 a) ∧ (bt 6 b)))) 154 n (zbo (((bt 7 a) ∧ (bt 6 b)) ∨ ((bt 6 a) ∧ (bt 7 b))))) 155 n (zbo (((bt 8 a) ∧ (bt 8 b)) ∧ ((bt 5 a) ∨ (bt 5 b))))) 156 n (zbo (bt 9 a))) 146 n ((0 : Int32) ||| tx)) pst107 := by
                            intro pst107 k116
                            have ht109 : ztab 286 = ztb286 := rfl
                            show zEv (d - 1) 286 0 [.ref n, .ref y, .int 0] [] (sI (sI (sI (sI (sI (sI (sI (sI (sI (sI (sI (sI S 145 n (p + 1)) 147 n 0) 148 n (zbo ((bt 0 a) ∧ (bt 0 b)))) 149 n 0) 150 n (zbo ((bt 3 a) ∨ (bt 3 b)))) 151 n (zbo ((bt 4 a) ∧ (bt 4 b)))) 152 n (zbo ((bt 5 a) ∧ (bt 5 b)))) 153 n (zbo ((bt 6 a) ∧ (bt 6 b)))) 154 n (zbo (((bt 7 a) ∧ (bt 6 b)) ∨ ((bt 6 a) ∧ (bt 7 b))))) 155 n (zbo (((bt 8 a) ∧ (bt 8 b)) ∧ ((bt 5 a) ∨ (bt 5 b))))) 156 n (zbo (bt 9 a))) 146 n ((0 : Int32) ||| tx)) pst107
                            refine zv_c1 ht109 rfl rfl ?_
                            refine zv_br ht109 rfl rfl rfl (fun _ => ?_) (fun h => absurd (by decide) h)
                            refine zv_c1 ht109 rfl rfl (zv_c1 ht109 rfl rfl ?_)
                            refine zv_ei (x := zbo (bt 9 a)) ht109 rfl rfl (zhas_of (htn) rfl) gI_sI_at ?_
                            have J114 : zEv (d - 1) 286 73 [.ref n, .ref y, .retAddr 0] [.int (zbo ((bt 9 a) ∨ (bt 9 b))), .ref n] (sI (sI (sI (sI (sI (sI (sI (sI (sI (sI (sI (sI S 145 n (p + 1)) 147 n 0) 148 n (zbo ((bt 0 a) ∧ (bt 0 b)))) 149 n 0) 150 n (zbo ((bt 3 a) ∨ (bt 3 b)))) 151 n (zbo ((bt 4 a) ∧ (bt 4 b)))) 152 n (zbo ((bt 5 a) ∧ (bt 5 b)))) 153 n (zbo ((bt 6 a) ∧ (bt 6 b)))) 154 n (zbo (((bt 7 a) ∧ (bt 6 b)) ∨ ((bt 6 a) ∧ (bt 7 b))))) 155 n (zbo (((bt 8 a) ∧ (bt 8 b)) ∧ ((bt 5 a) ∨ (bt 5 b))))) 156 n (zbo (bt 9 a))) 146 n ((0 : Int32) ||| tx)) pst107 := by
                              refine zv_ci (S' := sI (sI (sI (sI (sI (sI (sI (sI (sI (sI (sI (sI (sI S 145 n (p + 1)) 147 n 0) 148 n (zbo ((bt 0 a) ∧ (bt 0 b)))) 149 n 0) 150 n (zbo ((bt 3 a) ∨ (bt 3 b)))) 151 n (zbo ((bt 4 a) ∧ (bt 4 b)))) 152 n (zbo ((bt 5 a) ∧ (bt 5 b)))) 153 n (zbo ((bt 6 a) ∧ (bt 6 b)))) 154 n (zbo (((bt 7 a) ∧ (bt 6 b)) ∨ ((bt 6 a) ∧ (bt 7 b))))) 155 n (zbo (((bt 8 a) ∧ (bt 8 b)) ∧ ((bt 5 a) ∨ (bt 5 b))))) 156 n (zbo (bt 9 a))) 146 n ((0 : Int32) ||| tx)) 156 n (zbo ((bt 9 a) ∨ (bt 9 b)))) ht109 rfl rfl ⟨⟨(zhas_of (htn) rfl), (show n < gN S from by omega)⟩, zbo_rng⟩ ?_
                              refine zv_c1 ht109 rfl rfl (zv_c1 ht109 rfl rfl ?_)
                              refine zv_ei (x := (0 : Int32) ||| tx) ht109 rfl rfl (zhas_of (htn) rfl) gI_sI_at ?_
                              refine zv_c1 ht109 rfl rfl ?_
                              refine zv_ei (x := ty) ht109 rfl rfl (zhas_nc hcy (by decide)) (Eq.trans (gI_sI_ne (by omega)) hty) ?_
                              refine zv_c1 (st' := [.int (((0 : Int32) ||| tx) ||| ty), .ref n]) (S' := sI (sI (sI (sI (sI (sI (sI (sI (sI (sI (sI (sI (sI S 145 n (p + 1)) 147 n 0) 148 n (zbo ((bt 0 a) ∧ (bt 0 b)))) 149 n 0) 150 n (zbo ((bt 3 a) ∨ (bt 3 b)))) 151 n (zbo ((bt 4 a) ∧ (bt 4 b)))) 152 n (zbo ((bt 5 a) ∧ (bt 5 b)))) 153 n (zbo ((bt 6 a) ∧ (bt 6 b)))) 154 n (zbo (((bt 7 a) ∧ (bt 6 b)) ∨ ((bt 6 a) ∧ (bt 7 b))))) 155 n (zbo (((bt 8 a) ∧ (bt 8 b)) ∧ ((bt 5 a) ∨ (bt 5 b))))) 156 n (zbo (bt 9 a))) 146 n ((0 : Int32) ||| tx)) 156 n (zbo ((bt 9 a) ∨ (bt 9 b)))) ht109 rfl rfl ?_
                              refine zv_ci (S' := sI (sI (sI (sI (sI (sI (sI (sI (sI (sI (sI (sI (sI (sI S 145 n (p + 1)) 147 n 0) 148 n (zbo ((bt 0 a) ∧ (bt 0 b)))) 149 n 0) 150 n (zbo ((bt 3 a) ∨ (bt 3 b)))) 151 n (zbo ((bt 4 a) ∧ (bt 4 b)))) 152 n (zbo ((bt 5 a) ∧ (bt 5 b)))) 153 n (zbo ((bt 6 a) ∧ (bt 6 b)))) 154 n (zbo (((bt 7 a) ∧ (bt 6 b)) ∨ ((bt 6 a) ∧ (bt 7 b))))) 155 n (zbo (((bt 8 a) ∧ (bt 8 b)) ∧ ((bt 5 a) ∨ (bt 5 b))))) 156 n (zbo (bt 9 a))) 146 n ((0 : Int32) ||| tx)) 156 n (zbo ((bt 9 a) ∨ (bt 9 b)))) 146 n (((0 : Int32) ||| tx) ||| ty)) ht109 rfl rfl ⟨(zhas_of (htn) rfl), (show n < gN S from by omega)⟩ ?_
                              exact zv_rt ht109 rfl rfl rfl rfl k116
                            have J112 : ((bt 9 a) ∨ (bt 9 b)) → zEv (d - 1) 286 68 [.ref n, .ref y, .retAddr 0] [.ref n] (sI (sI (sI (sI (sI (sI (sI (sI (sI (sI (sI (sI S 145 n (p + 1)) 147 n 0) 148 n (zbo ((bt 0 a) ∧ (bt 0 b)))) 149 n 0) 150 n (zbo ((bt 3 a) ∨ (bt 3 b)))) 151 n (zbo ((bt 4 a) ∧ (bt 4 b)))) 152 n (zbo ((bt 5 a) ∧ (bt 5 b)))) 153 n (zbo ((bt 6 a) ∧ (bt 6 b)))) 154 n (zbo (((bt 7 a) ∧ (bt 6 b)) ∨ ((bt 6 a) ∧ (bt 7 b))))) 155 n (zbo (((bt 8 a) ∧ (bt 8 b)) ∧ ((bt 5 a) ∨ (bt 5 b))))) 156 n (zbo (bt 9 a))) 146 n ((0 : Int32) ||| tx)) pst107 := by
                              intro b113
                              refine zv_c1 ht109 rfl rfl (zv_c1 ht109 rfl rfl ?_)
                              exact (zv_sub (zz := zbo ((bt 9 a) ∨ (bt 9 b))) (zy := 1) (p := fun zz => zEv (d - 1) 286 73 [.ref n, .ref y, .retAddr 0] [.int zz, .ref n] (sI (sI (sI (sI (sI (sI (sI (sI (sI (sI (sI (sI S 145 n (p + 1)) 147 n 0) 148 n (zbo ((bt 0 a) ∧ (bt 0 b)))) 149 n 0) 150 n (zbo ((bt 3 a) ∨ (bt 3 b)))) 151 n (zbo ((bt 4 a) ∧ (bt 4 b)))) 152 n (zbo ((bt 5 a) ∧ (bt 5 b)))) 153 n (zbo ((bt 6 a) ∧ (bt 6 b)))) 154 n (zbo (((bt 7 a) ∧ (bt 6 b)) ∨ ((bt 6 a) ∧ (bt 7 b))))) 155 n (zbo (((bt 8 a) ∧ (bt 8 b)) ∧ ((bt 5 a) ∨ (bt 5 b))))) 156 n (zbo (bt 9 a))) 146 n ((0 : Int32) ||| tx)) pst107) (zbo_pos b113) J114)
                            refine zv_br ht109 rfl rfl rfl (fun b110 => ?_) (fun b110 => ?_)
                            · replace b110 : bt 9 a := Classical.byContradiction (fun h => b110 ((zbo_eq0 : (zbo (bt 9 a)) = 0 ↔ ¬ (bt 9 a)).mpr h))
                              exact zEv.wk (L := [.ref n, .ref y, .retAddr 0]) (L' := [.ref n, .ref y, .int 0]) (And.intro (Or.inl rfl) (And.intro (Or.inl rfl) (And.intro (Or.inr rfl) trivial))) (J112 (Or.inl b110))
                            · replace b110 : ¬ (bt 9 a) := (zbo_eq0 : (zbo (bt 9 a)) = 0 ↔ ¬ (bt 9 a)).mp (Classical.not_not.mp b110)
                              refine zv_c1 ht109 rfl rfl ?_
                              refine zv_ei (x := zbo (bt 9 b)) ht109 rfl rfl (zhas_nc hcy (by decide)) (Eq.trans (gI_sI_ne (by omega)) hmixedy) ?_
                              refine zv_br ht109 rfl rfl rfl (fun b111 => ?_) (fun b111 => ?_)
                              · replace b111 : ¬ (bt 9 b) := (zbo_eq0 : (zbo (bt 9 b)) = 0 ↔ ¬ (bt 9 b)).mp b111
                                refine zv_c1 ht109 rfl rfl ?_
                                exact zEv.wk (L := [.ref n, .ref y, .retAddr 0]) (L' := [.ref n, .ref y, .int 0]) (And.intro (Or.inl rfl) (And.intro (Or.inl rfl) (And.intro (Or.inr rfl) trivial))) (zv_sub (zz := zbo ((bt 9 a) ∨ (bt 9 b))) (zy := 0) (p := fun zz => zEv (d - 1) 286 73 [.ref n, .ref y, .retAddr 0] [.int zz, .ref n] (sI (sI (sI (sI (sI (sI (sI (sI (sI (sI (sI (sI S 145 n (p + 1)) 147 n 0) 148 n (zbo ((bt 0 a) ∧ (bt 0 b)))) 149 n 0) 150 n (zbo ((bt 3 a) ∨ (bt 3 b)))) 151 n (zbo ((bt 4 a) ∧ (bt 4 b)))) 152 n (zbo ((bt 5 a) ∧ (bt 5 b)))) 153 n (zbo ((bt 6 a) ∧ (bt 6 b)))) 154 n (zbo (((bt 7 a) ∧ (bt 6 b)) ∨ ((bt 6 a) ∧ (bt 7 b))))) 155 n (zbo (((bt 8 a) ∧ (bt 8 b)) ∧ ((bt 5 a) ∨ (bt 5 b))))) 156 n (zbo (bt 9 a))) 146 n ((0 : Int32) ||| tx)) pst107) (zbo_neg (fun h => h.elim b110 b111)) J114)
                              · replace b111 : bt 9 b := Classical.byContradiction (fun h => b111 ((zbo_eq0 : (zbo (bt 9 b)) = 0 ↔ ¬ (bt 9 b)).mpr h))
                                exact zEv.wk (L := [.ref n, .ref y, .retAddr 0]) (L' := [.ref n, .ref y, .int 0]) (And.intro (Or.inl rfl) (And.intro (Or.inl rfl) (And.intro (Or.inr rfl) trivial))) (J112 (Or.inr b111))
                          refine zv_cl ht rfl rfl rfl (zv_tgv (htn) rfl) (by omega) (Nat.le_of_ble_eq_true rfl) (C108 _ ?_)
                          show zEv d 371 836 [.ref n, .retAddr 0, .retAddr 0, .retAddr 0, .retAddr 0, .retAddr 0, .retAddr 0] [] (sI (sI (sI (sI (sI (sI (sI (sI (sI (sI (sI (sI (sI (sI S 145 n (p + 1)) 147 n 0) 148 n (zbo ((bt 0 a) ∧ (bt 0 b)))) 149 n 0) 150 n (zbo ((bt 3 a) ∨ (bt 3 b)))) 151 n (zbo ((bt 4 a) ∧ (bt 4 b)))) 152 n (zbo ((bt 5 a) ∧ (bt 5 b)))) 153 n (zbo ((bt 6 a) ∧ (bt 6 b)))) 154 n (zbo (((bt 7 a) ∧ (bt 6 b)) ∨ ((bt 6 a) ∧ (bt 7 b))))) 155 n (zbo (((bt 8 a) ∧ (bt 8 b)) ∧ ((bt 5 a) ∨ (bt 5 b))))) 156 n (zbo (bt 9 a))) 146 n ((0 : Int32) ||| tx)) 156 n (zbo ((bt 9 a) ∨ (bt 9 b)))) 146 n (((0 : Int32) ||| tx) ||| ty)) post
                          exact zv_rt ht rfl rfl rfl rfl (h1 b15)
                        have J91 : ((¬ ((bt 8 a) ∧ (bt 8 b))) ∨ (¬ ((bt 5 a) ∨ (bt 5 b)))) → zEv d 371 802 [.ref n, .retAddr 0, .retAddr 0, .retAddr 0, .retAddr 0, .retAddr 0, .retAddr 0] [.int (zbo (((bt 7 a) ∧ (bt 6 b)) ∨ ((bt 6 a) ∧ (bt 7 b)))), .int (zbo ((bt 6 a) ∧ (bt 6 b))), .int (zbo ((bt 5 a) ∧ (bt 5 b))), .ref n] (sI (sI (sI (sI (sI (sI S 145 n (p + 1)) 147 n 0) 148 n (zbo ((bt 0 a) ∧ (bt 0 b)))) 149 n 0) 150 n (zbo ((bt 3 a) ∨ (bt 3 b)))) 151 n (zbo ((bt 4 a) ∧ (bt 4 b)))) post := by
                          intro b92
                          refine zv_c1 ht rfl rfl ?_
                          exact (zv_sub (zz := zbo (((bt 8 a) ∧ (bt 8 b)) ∧ ((bt 5 a) ∨ (bt 5 b)))) (zy := 0) (p := fun zz => zEv d 371 803 [.ref n, .retAddr 0, .retAddr 0, .retAddr 0, .retAddr 0, .retAddr 0, .retAddr 0] [.int zz, .int (zbo (((bt 7 a) ∧ (bt 6 b)) ∨ ((bt 6 a) ∧ (bt 7 b)))), .int (zbo ((bt 6 a) ∧ (bt 6 b))), .int (zbo ((bt 5 a) ∧ (bt 5 b))), .ref n] (sI (sI (sI (sI (sI (sI S 145 n (p + 1)) 147 n 0) 148 n (zbo ((bt 0 a) ∧ (bt 0 b)))) 149 n 0) 150 n (zbo ((bt 3 a) ∨ (bt 3 b)))) 151 n (zbo ((bt 4 a) ∧ (bt 4 b)))) post) (zbo_neg (b92.elim (fun y1 => (fun h => y1 h.1)) (fun y1 => (fun h => y1 h.2)))) J93)
                        refine zv_br ht rfl rfl rfl (fun b89 => ?_) (fun b89 => ?_)
                        · replace b89 : ¬ ((bt 8 a) ∧ (bt 8 b)) := (zbo_eq0 : (zbo ((bt 8 a) ∧ (bt 8 b))) = 0 ↔ ¬ ((bt 8 a) ∧ (bt 8 b))).mp b89
                          exact zEv.wk (L := [.ref n, .retAddr 0, .retAddr 0, .retAddr 0, .retAddr 0, .retAddr 0, .retAddr 0]) (L' := [.ref n, .retAddr 0, .retAddr 0, .retAddr 0, .int (zbo ((bt 8 a) ∧ (bt 8 b))), .int (zbo ((bt 5 a) ∨ (bt 5 b))), .retAddr 0]) (And.intro (Or.inl rfl) (And.intro (Or.inl rfl) (And.intro (Or.inl rfl) (And.intro (Or.inl rfl) (And.intro (Or.inr rfl) (And.intro (Or.inr rfl) (And.intro (Or.inl rfl) trivial))))))) (J91 (Or.inl b89))
                        · replace b89 : (bt 8 a) ∧ (bt 8 b) := Classical.byContradiction (fun h => b89 ((zbo_eq0 : (zbo ((bt 8 a) ∧ (bt 8 b))) = 0 ↔ ¬ ((bt 8 a) ∧ (bt 8 b))).mpr h))
                          refine zv_c1 ht rfl rfl ?_
                          refine zv_br ht rfl rfl rfl (fun b90 => ?_) (fun b90 => ?_)
                          · replace b90 : ¬ ((bt 5 a) ∨ (bt 5 b)) := (zbo_eq0 : (zbo ((bt 5 a) ∨ (bt 5 b))) = 0 ↔ ¬ ((bt 5 a) ∨ (bt 5 b))).mp b90
                            exact zEv.wk (L := [.ref n, .retAddr 0, .retAddr 0, .retAddr 0, .retAddr 0, .retAddr 0, .retAddr 0]) (L' := [.ref n, .retAddr 0, .retAddr 0, .retAddr 0, .int (zbo ((bt 8 a) ∧ (bt 8 b))), .int (zbo ((bt 5 a) ∨ (bt 5 b))), .retAddr 0]) (And.intro (Or.inl rfl) (And.intro (Or.inl rfl) (And.intro (Or.inl rfl) (And.intro (Or.inl rfl) (And.intro (Or.inr rfl) (And.intro (Or.inr rfl) (And.intro (Or.inl rfl) trivial))))))) (J91 (Or.inr b90))
                          · replace b90 : (bt 5 a) ∨ (bt 5 b) := Classical.byContradiction (fun h => b90 ((zbo_eq0 : (zbo ((bt 5 a) ∨ (bt 5 b))) = 0 ↔ ¬ ((bt 5 a) ∨ (bt 5 b))).mpr h))
                            refine zv_c1 ht rfl rfl (zv_c1 ht rfl rfl ?_)
                            exact zEv.wk (L := [.ref n, .retAddr 0, .retAddr 0, .retAddr 0, .retAddr 0, .retAddr 0, .retAddr 0]) (L' := [.ref n, .retAddr 0, .retAddr 0, .retAddr 0, .int (zbo ((bt 8 a) ∧ (bt 8 b))), .int (zbo ((bt 5 a) ∨ (bt 5 b))), .retAddr 0]) (And.intro (Or.inl rfl) (And.intro (Or.inl rfl) (And.intro (Or.inl rfl) (And.intro (Or.inl rfl) (And.intro (Or.inr rfl) (And.intro (Or.inr rfl) (And.intro (Or.inl rfl) trivial))))))) (zv_sub (zz := zbo (((bt 8 a) ∧ (bt 8 b)) ∧ ((bt 5 a) ∨ (bt 5 b)))) (zy := 1) (p := fun zz => zEv d 371 803 [.ref n, .retAddr 0, .retAddr 0, .retAddr 0, .retAddr 0, .retAddr 0, .retAddr 0] [.int zz, .int (zbo (((bt 7 a) ∧ (bt 6 b)) ∨ ((bt 6 a) ∧ (bt 7 b)))), .int (zbo ((bt 6 a) ∧ (bt 6 b))), .int (zbo ((bt 5 a) ∧ (bt 5 b))), .ref n] (sI (sI (sI (sI (sI (sI S 145 n (p + 1)) 147 n 0) 148 n (zbo ((bt 0 a) ∧ (bt 0 b)))) 149 n 0) 150 n (zbo ((bt 3 a) ∨ (bt 3 b)))) 151 n (zbo ((bt 4 a) ∧ (bt 4 b)))) post) (zbo_pos ⟨b89, b90⟩) J93)
                      have J85 : (((bt 7 a) ∧ (bt 6 b)) ∨ ((bt 6 a) ∧ (bt 7 b))) → zEv d 371 783 [.ref n, .retAddr 0, .retAddr 0, .retAddr 0, .int (zbo ((bt 8 a) ∧ (bt 8 b))), .int (zbo ((bt 5 a) ∨ (bt 5 b))), .retAddr 0] [.int (zbo ((bt 6 a) ∧ (bt 6 b))), .int (zbo ((bt 5 a) ∧ (bt 5 b))), .ref n] (sI (sI (sI (sI (sI (sI S 145 n (p + 1)) 147 n 0) 148 n (zbo ((bt 0 a) ∧ (bt 0 b)))) 149 n 0) 150 n (zbo ((bt 3 a) ∨ (bt 3 b)))) 151 n (zbo ((bt 4 a) ∧ (bt 4 b)))) post := by
                        intro b86
                        refine zv_c1 ht rfl rfl (zv_c1 ht rfl rfl ?_)
                        exact (zv_sub (zz := zbo (((bt 7 a) ∧ (bt 6 b)) ∨ ((bt 6 a) ∧ (bt 7 b)))) (zy := 1) (p := fun zz => zEv d 371 788 [.ref n, .retAddr 0, .retAddr 0, .retAddr 0, .int (zbo ((bt 8 a) ∧ (bt 8 b))), .int (zbo ((bt 5 a) ∨ (bt 5 b))), .retAddr 0] [.int zz, .int (zbo ((bt 6 a) ∧ (bt 6 b))), .int (zbo ((bt 5 a) ∧ (bt 5 b))), .ref n] (sI (sI (sI (sI (sI (sI S 145 n (p + 1)) 147 n 0) 148 n (zbo ((bt 0 a) ∧ (bt 0 b)))) 149 n 0) 150 n (zbo ((bt 3 a) ∨ (bt 3 b)))) 151 n (zbo ((bt 4 a) ∧ (bt 4 b)))) post) (zbo_pos b86) J87)
                      have J79 : ((¬ (bt 7 a)) ∨ (¬ (bt 6 b))) → zEv d 371 763 [.ref n, .retAddr 0, .retAddr 0, .retAddr 0, .int (zbo ((bt 8 a) ∧ (bt 8 b))), .int (zbo ((bt 5 a) ∨ (bt 5 b))), .retAddr 0] [.int (zbo ((bt 6 a) ∧ (bt 6 b))), .int (zbo ((bt 5 a) ∧ (bt 5 b))), .ref n] (sI (sI (sI (sI (sI (sI S 145 n (p + 1)) 147 n 0) 148 n (zbo ((bt 0 a) ∧ (bt 0 b)))) 149 n 0) 150 n (zbo ((bt 3 a) ∨ (bt 3 b)))) 151 n (zbo ((bt 4 a) ∧ (bt 4 b)))) post := by
                        intro b80
                        refine zv_c1 ht rfl rfl ?_
                        refine zv_g3 (q := x) ht rfl hF rfl rfl (zhas_of (htn) rfl) hpx ?_
                        refine zv_ei (x := zbo (bt 6 a)) ht rfl rfl (zhas_nc hcx (by decide)) hfx ?_
                        have J83 : ((¬ (bt 6 a)) ∨ (¬ (bt 7 b))) → zEv d 371 787 [.ref n, .retAddr 0, .retAddr 0, .retAddr 0, .int (zbo ((bt 8 a) ∧ (bt 8 b))), .int (zbo ((bt 5 a) ∨ (bt 5 b))), .retAddr 0] [.int (zbo ((bt 6 a) ∧ (bt 6 b))), .int (zbo ((bt 5 a) ∧ (bt 5 b))), .ref n] (sI (sI (sI (sI (sI (sI S 145 n (p + 1)) 147 n 0) 148 n (zbo ((bt 0 a) ∧ (bt 0 b)))) 149 n 0) 150 n (zbo ((bt 3 a) ∨ (bt 3 b)))) 151 n (zbo ((bt 4 a) ∧ (bt 4 b)))) post := by
                          intro b84
                          refine zv_c1 ht rfl rfl ?_
                          exact (zv_sub (zz := zbo (((bt 7 a) ∧ (bt 6 b)) ∨ ((bt 6 a) ∧ (bt 7 b)))) (zy := 0) (p := fun zz => zEv d 371 788 [.ref n, .retAddr 0, .retAddr 0, .retAddr 0, .int (zbo ((bt 8 a) ∧ (bt 8 b))), .int (zbo ((bt 5 a) ∨ (bt 5 b))), .retAddr 0] [.int zz, .int (zbo ((bt 6 a) ∧ (bt 6 b))), .int (zbo ((bt 5 a) ∧ (bt 5 b))), .ref n] (sI (sI (sI (sI (sI (sI S 145 n (p + 1)) 147 n 0) 148 n (zbo ((bt 0 a) ∧ (bt 0 b)))) 149 n 0) 150 n (zbo ((bt 3 a) ∨ (bt 3 b)))) 151 n (zbo ((bt 4 a) ∧ (bt 4 b)))) post) (zbo_neg (b80.elim (fun y1 => (b84.elim (fun y2 => (fun h => h.elim (fun h => y1 h.1) (fun h => y2 h.1))) (fun y2 => (fun h => h.elim (fun h => y1 h.1) (fun h => y2 h.2))))) (fun y1 => (b84.elim (fun y2 => (fun h => h.elim (fun h => y1 h.2) (fun h => y2 h.1))) (fun y2 => (fun h => h.elim (fun h => y1 h.2) (fun h => y2 h.2))))))) J87)
                        refine zv_br ht rfl rfl rfl (fun b81 => ?_) (fun b81 => ?_)
                        · replace b81 : ¬ (bt 6 a) := (zbo_eq0 : (zbo (bt 6 a)) = 0 ↔ ¬ (bt 6 a)).mp b81
                          exact (J83 (Or.inl b81))
                        · replace b81 : bt 6 a := Classical.byContradiction (fun h => b81 ((zbo_eq0 : (zbo (bt 6 a)) = 0 ↔ ¬ (bt 6 a)).mpr h))
                          refine zv_c1 ht rfl rfl ?_
                          refine zv_g3 (q := y) ht rfl hF rfl rfl (zhas_of (htn) rfl) hpy ?_
                          refine zv_ei (x := zbo (bt 7 b)) ht rfl rfl (zhas_nc hcy (by decide)) hey ?_
                          refine zv_br ht rfl rfl rfl (fun b82 => ?_) (fun b82 => ?_)
                          · replace b82 : ¬ (bt 7 b) := (zbo_eq0 : (zbo (bt 7 b)) = 0 ↔ ¬ (bt 7 b)).mp b82
                            exact (J83 (Or.inr b82))
                          · replace b82 : bt 7 b := Classical.byContradiction (fun h => b82 ((zbo_eq0 : (zbo (bt 7 b)) = 0 ↔ ¬ (bt 7 b)).mpr h))
                            exact (J85 (Or.inr ⟨b81, b82⟩))
                      refine zv_br ht rfl rfl rfl (fun b77 => ?_) (fun b77 => ?_)
                      · replace b77 : ¬ (bt 7 a) := (zbo_eq0 : (zbo (bt 7 a)) = 0 ↔ ¬ (bt 7 a)).mp b77
                        exact (J79 (Or.inl b77))
                      · replace b77 : bt 7 a := Classical.byContradiction (fun h => b77 ((zbo_eq0 : (zbo (bt 7 a)) = 0 ↔ ¬ (bt 7 a)).mpr h))
                        refine zv_c1 ht rfl rfl ?_
                        refine zv_g3 (q := y) ht rfl hF rfl rfl (zhas_of (htn) rfl) hpy ?_
                        refine zv_ei (x := zbo (bt 6 b)) ht rfl rfl (zhas_nc hcy (by decide)) hfy ?_
                        refine zv_br ht rfl rfl rfl (fun b78 => ?_) (fun b78 => ?_)
                        · replace b78 : bt 6 b := Classical.byContradiction (fun h => b78 ((zbo_eq0 : (zbo (bt 6 b)) = 0 ↔ ¬ (bt 6 b)).mpr h))
                          exact (J85 (Or.inl ⟨b77, b78⟩))
                        · replace b78 : ¬ (bt 6 b) := (zbo_eq0 : (zbo (bt 6 b)) = 0 ↔ ¬ (bt 6 b)).mp (Classical.not_not.mp b78)
                          exact (J79 (Or.inr b78))
                    have J73 : ((¬ (bt 6 a)) ∨ (¬ (bt 6 b))) → zEv d 371 742 [.ref n, .retAddr 0, .retAddr 0, .retAddr 0, .int (zbo ((bt 8 a) ∧ (bt 8 b))), .int (zbo ((bt 5 a) ∨ (bt 5 b))), .retAddr 0] [.int (zbo ((bt 5 a) ∧ (bt 5 b))), .ref n] (sI (sI (sI (sI (sI (sI S 145 n (p + 1)) 147 n 0) 148 n (zbo ((bt 0 a) ∧ (bt 0 b)))) 149 n 0) 150 n (zbo ((bt 3 a) ∨ (bt 3 b)))) 151 n (zbo ((bt 4 a) ∧ (bt 4 b)))) post := by
                      intro b74
                      refine zv_c1 ht rfl rfl ?_
                      exact (zv_sub (zz := zbo ((bt 6 a) ∧ (bt 6 b))) (zy := 0) (p := fun zz => zEv d 371 743 [.ref n, .retAddr 0, .retAddr 0, .retAddr 0, .int (zbo ((bt 8 a) ∧ (bt 8 b))), .int (zbo ((bt 5 a) ∨ (bt 5 b))), .retAddr 0] [.int zz, .int (zbo ((bt 5 a) ∧ (bt 5 b))), .ref n] (sI (sI (sI (sI (sI (sI S 145 n (p + 1)) 147 n 0) 148 n (zbo ((bt 0 a) ∧ (bt 0 b)))) 149 n 0) 150 n (zbo ((bt 3 a) ∨ (bt 3 b)))) 151 n (zbo ((bt 4 a) ∧ (bt 4 b)))) post) (zbo_neg (b74.elim (fun y1 => (fun h => y1 h.1)) (fun y1 => (fun h => y1 h.2)))) J75)
                    refine zv_br ht rfl rfl rfl (fun b71 => ?_) (fun b71 => ?_)
                    · replace b71 : ¬ (bt 6 a) := (zbo_eq0 : (zbo (bt 6 a)) = 0 ↔ ¬ (bt 6 a)).mp b71
                      exact zEv.wk (L := [.ref n, .retAddr 0, .retAddr 0, .retAddr 0, .int (zbo ((bt 8 a) ∧ (bt 8 b))), .int (zbo ((bt 5 a) ∨ (bt 5 b))), .retAddr 0]) (L' := [.ref n, .retAddr 0, .retAddr 0, .retAddr 0, .int (zbo ((bt 8 a) ∧ (bt 8 b))), .int (zbo ((bt 5 a) ∨ (bt 5 b))), .int (zbo ((bt 5 a) ∧ (bt 5 b)))]) (And.intro (Or.inl rfl) (And.intro (Or.inl rfl) (And.intro (Or.inl rfl) (And.intro (Or.inl rfl) (And.intro (Or.inl rfl) (And.intro (Or.inl rfl) (And.intro (Or.inr rfl) trivial))))))) (J73 (Or.inl b71))
                    · replace b71 : bt 6 a := Classical.byContradiction (fun h => b71 ((zbo_eq0 : (zbo (bt 6 a)) = 0 ↔ ¬ (bt 6 a)).mpr h))
                      refine zv_c1 ht rfl rfl ?_
                      refine zv_g3 (q := y) ht rfl hF rfl rfl (zhas_of (htn) rfl) hpy ?_
                      refine zv_ei (x := zbo (bt 6 b)) ht rfl rfl (zhas_nc hcy (by decide)) hfy ?_
                      refine zv_br ht rfl rfl rfl (fun b72 => ?_) (fun b72 => ?_)
                      · replace b72 : ¬ (bt 6 b) := (zbo_eq0 : (zbo (bt 6 b)) = 0 ↔ ¬ (bt 6 b)).mp b72
                        exact zEv.wk (L := [.ref n, .retAddr 0, .retAddr 0, .retAddr 0, .int (zbo ((bt 8 a) ∧ (bt 8 b))), .int (zbo ((bt 5 a) ∨ (bt 5 b))), .retAddr 0]) (L' := [.ref n, .retAddr 0, .retAddr 0, .retAddr 0, .int (zbo ((bt 8 a) ∧ (bt 8 b))), .int (zbo ((bt 5 a) ∨ (bt 5 b))), .int (zbo ((bt 5 a) ∧ (bt 5 b)))]) (And.intro (Or.inl rfl) (And.intro (Or.inl rfl) (And.intro (Or.inl rfl) (And.intro (Or.inl rfl) (And.intro (Or.inl rfl) (And.intro (Or.inl rfl) (And.intro (Or.inr rfl) trivial))))))) (J73 (Or.inr b72))
                      · replace b72 : bt 6 b := Classical.byContradiction (fun h => b72 ((zbo_eq0 : (zbo (bt 6 b)) = 0 ↔ ¬ (bt 6 b)).mpr h))
                        refine zv_c1 ht rfl rfl (zv_c1 ht rfl rfl ?_)
                        exact zEv.wk (L := [.ref n, .retAddr 0, .retAddr 0, .retAddr 0, .int (zbo ((bt 8 a) ∧ (bt 8 b))), .int (zbo ((bt 5 a) ∨ (bt 5 b))), .retAddr 0]) (L' := [.ref n, .retAddr 0, .retAddr 0, .retAddr 0, .int (zbo ((bt 8 a) ∧ (bt 8 b))), .int (zbo ((bt 5 a) ∨ (bt 5 b))), .int (zbo ((bt 5 a) ∧ (bt 5 b)))]) (And.intro (Or.inl rfl) (And.intro (Or.inl rfl) (And.intro (Or.inl rfl) (And.intro (Or.inl rfl) (And.intro (Or.inl rfl) (And.intro (Or.inl rfl) (And.intro (Or.inr rfl) trivial))))))) (zv_sub (zz := zbo ((bt 6 a) ∧ (bt 6 b))) (zy := 1) (p := fun zz => zEv d 371 743 [.ref n, .retAddr 0, .retAddr 0, .retAddr 0, .int (zbo ((bt 8 a) ∧ (bt 8 b))), .int (zbo ((bt 5 a) ∨ (bt 5 b))), .retAddr 0] [.int zz, .int (zbo ((bt 5 a) ∧ (bt 5 b))), .ref n] (sI (sI (sI (sI (sI (sI S 145 n (p + 1)) 147 n 0) 148 n (zbo ((bt 0 a) ∧ (bt 0 b)))) 149 n 0) 150 n (zbo ((bt 3 a) ∨ (bt 3 b)))) 151 n (zbo ((bt 4 a) ∧ (bt 4 b)))) post) (zbo_pos ⟨b71, b72⟩) J75)
                  have J63 : ((¬ (bt 4 a)) ∨ (¬ (bt 4 b))) → zEv d 371 711 [.ref n, .retAddr 0, .retAddr 0, .retAddr 0, .int (zbo ((bt 8 a) ∧ (bt 8 b))), .int (zbo ((bt 5 a) ∨ (bt 5 b))), .int (zbo ((bt 5 a) ∧ (bt 5 b)))] [.int (zbo ((bt 3 a) ∨ (bt 3 b))), .int 0, .int (zbo ((bt 0 a) ∧ (bt 0 b))), .int 0, .int (p + 1), .ref n] S post := by
                    intro b64
                    refine zv_c1 ht rfl rfl ?_
                    exact (zv_sub (zz := zbo ((bt 4 a) ∧ (bt 4 b))) (zy := 0) (p := fun zz => zEv d 371 712 [.ref n, .retAddr 0, .retAddr 0, .retAddr 0, .int (zbo ((bt 8 a) ∧ (bt 8 b))), .int (zbo ((bt 5 a) ∨ (bt 5 b))), .int (zbo ((bt 5 a) ∧ (bt 5 b)))] [.int zz, .int (zbo ((bt 3 a) ∨ (bt 3 b))), .int 0, .int (zbo ((bt 0 a) ∧ (bt 0 b))), .int 0, .int (p + 1), .ref n] S post) (zbo_neg (b64.elim (fun y1 => (fun h => y1 h.1)) (fun y1 => (fun h => y1 h.2)))) J65)
                  refine zv_br ht rfl rfl rfl (fun b61 => ?_) (fun b61 => ?_)
                  · replace b61 : ¬ (bt 4 a) := (zbo_eq0 : (zbo (bt 4 a)) = 0 ↔ ¬ (bt 4 a)).mp b61
                    exact (J63 (Or.inl b61))
                  · replace b61 : bt 4 a := Classical.byContradiction (fun h => b61 ((zbo_eq0 : (zbo (bt 4 a)) = 0 ↔ ¬ (bt 4 a)).mpr h))
                    refine zv_c1 ht rfl rfl ?_
                    refine zv_g3 (q := y) ht rfl hF rfl rfl (zhas_of (htn) rfl) hpy ?_
                    refine zv_ei (x := zbo (bt 4 b)) ht rfl rfl (zhas_nc hcy (by decide)) huy ?_
                    refine zv_br ht rfl rfl rfl (fun b62 => ?_) (fun b62 => ?_)
                    · replace b62 : ¬ (bt 4 b) := (zbo_eq0 : (zbo (bt 4 b)) = 0 ↔ ¬ (bt 4 b)).mp b62
                      exact (J63 (Or.inr b62))
                    · replace b62 : bt 4 b := Classical.byContradiction (fun h => b62 ((zbo_eq0 : (zbo (bt 4 b)) = 0 ↔ ¬ (bt 4 b)).mpr h))
                      refine zv_c1 ht rfl rfl (zv_c1 ht rfl rfl ?_)
                      exact (zv_sub (zz := zbo ((bt 4 a) ∧ (bt 4 b))) (zy := 1) (p := fun zz => zEv d 371 712 [.ref n, .retAddr 0, .retAddr 0, .retAddr 0, .int (zbo ((bt 8 a) ∧ (bt 8 b))), .int (zbo ((bt 5 a) ∨ (bt 5 b))), .int (zbo ((bt 5 a) ∧ (bt 5 b)))] [.int zz, .int (zbo ((bt 3 a) ∨ (bt 3 b))), .int 0, .int (zbo ((bt 0 a) ∧ (bt 0 b))), .int 0, .int (p + 1), .ref n] S post) (zbo_pos ⟨b61, b62⟩) J65)
                have J57 : ((bt 3 a) ∨ (bt 3 b)) → zEv d 371 682 [.ref n, .retAddr 0, .retAddr 0, .retAddr 0, .int (zbo ((bt 8 a) ∧ (bt 8 b))), .int (zbo ((bt 5 a) ∨ (bt 5 b))), .int (zbo ((bt 5 a) ∧ (bt 5 b)))] [.int 0, .int (zbo ((bt 0 a) ∧ (bt 0 b))), .int 0, .int (p + 1), .ref n] S post := by
                  intro b58
                  refine zv_c1 ht rfl rfl (zv_c1 ht rfl rfl ?_)
                  exact (zv_sub (zz := zbo ((bt 3 a) ∨ (bt 3 b))) (zy := 1) (p := fun zz => zEv d 371 687 [.ref n, .retAddr 0, .retAddr 0, .retAddr 0, .int (zbo ((bt 8 a) ∧ (bt 8 b))), .int (zbo ((bt 5 a) ∨ (bt 5 b))), .int (zbo ((bt 5 a) ∧ (bt 5 b)))] [.int zz, .int 0, .int (zbo ((bt 0 a) ∧ (bt 0 b))), .int 0, .int (p + 1), .ref n] S post) (zbo_pos b58) J59)
                refine zv_br ht rfl rfl rfl (fun b55 => ?_) (fun b55 => ?_)
                · replace b55 : bt 3 a := Classical.byContradiction (fun h => b55 ((zbo_eq0 : (zbo (bt 3 a)) = 0 ↔ ¬ (bt 3 a)).mpr h))
                  exact zEv.wk (L := [.ref n, .retAddr 0, .retAddr 0, .retAddr 0, .int (zbo ((bt 8 a) ∧ (bt 8 b))), .int (zbo ((bt 5 a) ∨ (bt 5 b))), .int (zbo ((bt 5 a) ∧ (bt 5 b)))]) (L' := [.ref n, .int (zbo ((bt 0 a) ∧ (bt 0 b))), .int (zbo ((bt 1 a) ∧ (bt 0 b))), .int (zbo (((bt 1 a) ∧ (bt 0 b)) ∨ ((bt 0 a) ∧ (bt 1 b)))), .int (zbo ((bt 8 a) ∧ (bt 8 b))), .int (zbo ((bt 5 a) ∨ (bt 5 b))), .int (zbo ((bt 5 a) ∧ (bt 5 b)))]) (And.intro (Or.inl rfl) (And.intro (Or.inr rfl) (And.intro (Or.inr rfl) (And.intro (Or.inr rfl) (And.intro (Or.inl rfl) (And.intro (Or.inl rfl) (And.intro (Or.inl rfl) trivial))))))) (J57 (Or.inl b55))
                · replace b55 : ¬ (bt 3 a) := (zbo_eq0 : (zbo (bt 3 a)) = 0 ↔ ¬ (bt 3 a)).mp (Classical.not_not.mp b55)
                  refine zv_c1 ht rfl rfl ?_
                  refine zv_g3 (q := y) ht rfl hF rfl rfl (zhas_of (htn) rfl) hpy ?_
                  refine zv_ei (x := zbo (bt 3 b)) ht rfl rfl (zhas_nc hcy (by decide)) hdy ?_
                  refine zv_br ht rfl rfl rfl (fun b56 => ?_) (fun b56 => ?_)
                  · replace b56 : ¬ (bt 3 b) := (zbo_eq0 : (zbo (bt 3 b)) = 0 ↔ ¬ (bt 3 b)).mp b56
                    refine zv_c1 ht rfl rfl ?_
                    exact zEv.wk (L := [.ref n, .retAddr 0, .retAddr 0, .retAddr 0, .int (zbo ((bt 8 a) ∧ (bt 8 b))), .int (zbo ((bt 5 a) ∨ (bt 5 b))), .int (zbo ((bt 5 a) ∧ (bt 5 b)))]) (L' := [.ref n, .int (zbo ((bt 0 a) ∧ (bt 0 b))), .int (zbo ((bt 1 a) ∧ (bt 0 b))), .int (zbo (((bt 1 a) ∧ (bt 0 b)) ∨ ((bt 0 a) ∧ (bt 1 b)))), .int (zbo ((bt 8 a) ∧ (bt 8 b))), .int (zbo ((bt 5 a) ∨ (bt 5 b))), .int (zbo ((bt 5 a) ∧ (bt 5 b)))]) (And.intro (Or.inl rfl) (And.intro (Or.inr rfl) (And.intro (Or.inr rfl) (And.intro (Or.inr rfl) (And.intro (Or.inl rfl) (And.intro (Or.inl rfl) (And.intro (Or.inl rfl) trivial))))))) (zv_sub (zz := zbo ((bt 3 a) ∨ (bt 3 b))) (zy := 0) (p := fun zz => zEv d 371 687 [.ref n, .retAddr 0, .retAddr 0, .retAddr 0, .int (zbo ((bt 8 a) ∧ (bt 8 b))), .int (zbo ((bt 5 a) ∨ (bt 5 b))), .int (zbo ((bt 5 a) ∧ (bt 5 b)))] [.int zz, .int 0, .int (zbo ((bt 0 a) ∧ (bt 0 b))), .int 0, .int (p + 1), .ref n] S post) (zbo_neg (fun h => h.elim b55 b56)) J59)
                  · replace b56 : bt 3 b := Classical.byContradiction (fun h => b56 ((zbo_eq0 : (zbo (bt 3 b)) = 0 ↔ ¬ (bt 3 b)).mpr h))
                    exact zEv.wk (L := [.ref n, .retAddr 0, .retAddr 0, .retAddr 0, .int (zbo ((bt 8 a) ∧ (bt 8 b))), .int (zbo ((bt 5 a) ∨ (bt 5 b))), .int (zbo ((bt 5 a) ∧ (bt 5 b)))]) (L' := [.ref n, .int (zbo ((bt 0 a) ∧ (bt 0 b))), .int (zbo ((bt 1 a) ∧ (bt 0 b))), .int (zbo (((bt 1 a) ∧ (bt 0 b)) ∨ ((bt 0 a) ∧ (bt 1 b)))), .int (zbo ((bt 8 a) ∧ (bt 8 b))), .int (zbo ((bt 5 a) ∨ (bt 5 b))), .int (zbo ((bt 5 a) ∧ (bt 5 b)))]) (And.intro (Or.inl rfl) (And.intro (Or.inr rfl) (And.intro (Or.inr rfl) (And.intro (Or.inr rfl) (And.intro (Or.inl rfl) (And.intro (Or.inl rfl) (And.intro (Or.inl rfl) trivial))))))) (J57 (Or.inr b56))
              have J51 : ((¬ (bt 5 a)) ∨ (¬ (bt 5 b))) → zEv d 371 172 [.ref n, .int (zbo ((bt 0 a) ∧ (bt 0 b))), .int (zbo ((bt 1 a) ∧ (bt 0 b))), .int (zbo (((bt 1 a) ∧ (bt 0 b)) ∨ ((bt 0 a) ∧ (bt 1 b)))), .int (zbo ((bt 8 a) ∧ (bt 8 b))), .int (zbo ((bt 5 a) ∨ (bt 5 b))), .retAddr 0] [] S post := by
                intro b52
                refine zv_c1 ht rfl rfl ?_
                exact (zv_sub (zz := zbo ((bt 5 a) ∧ (bt 5 b))) (zy := 0) (p := fun zz => zEv d 371 173 [.ref n, .int (zbo ((bt 0 a) ∧ (bt 0 b))), .int (zbo ((bt 1 a) ∧ (bt 0 b))), .int (zbo (((bt 1 a) ∧ (bt 0 b)) ∨ ((bt 0 a) ∧ (bt 1 b)))), .int (zbo ((bt 8 a) ∧ (bt 8 b))), .int (zbo ((bt 5 a) ∨ (bt 5 b))), .retAddr 0] [.int zz] S post) (zbo_neg (b52.elim (fun y1 => (fun h => y1 h.1)) (fun y1 => (fun h => y1 h.2)))) J53)
              refine zv_br ht rfl rfl rfl (fun b49 => ?_) (fun b49 => ?_)
              · replace b49 : ¬ (bt 5 a) := (zbo_eq0 : (zbo (bt 5 a)) = 0 ↔ ¬ (bt 5 a)).mp b49
                exact (J51 (Or.inl b49))
              · replace b49 : bt 5 a := Classical.byContradiction (fun h => b49 ((zbo_eq0 : (zbo (bt 5 a)) = 0 ↔ ¬ (bt 5 a)).mpr h))
                refine zv_c1 ht rfl rfl ?_
                refine zv_g3 (q := y) ht rfl hF rfl rfl (zhas_of (htn) rfl) hpy ?_
                refine zv_ei (x := zbo (bt 5 b)) ht rfl rfl (zhas_nc hcy (by decide)) hsy ?_
                refine zv_br ht rfl rfl rfl (fun b50 => ?_) (fun b50 => ?_)
                · replace b50 : ¬ (bt 5 b) := (zbo_eq0 : (zbo (bt 5 b)) = 0 ↔ ¬ (bt 5 b)).mp b50
                  exact (J51 (Or.inr b50))
                · replace b50 : bt 5 b := Classical.byContradiction (fun h => b50 ((zbo_eq0 : (zbo (bt 5 b)) = 0 ↔ ¬ (bt 5 b)).mpr h))
                  refine zv_c1 ht rfl rfl (zv_c1 ht rfl rfl ?_)
                  exact (zv_sub (zz := zbo ((bt 5 a) ∧ (bt 5 b))) (zy := 1) (p := fun zz => zEv d 371 173 [.ref n, .int (zbo ((bt 0 a) ∧ (bt 0 b))), .int (zbo ((bt 1 a) ∧ (bt 0 b))), .int (zbo (((bt 1 a) ∧ (bt 0 b)) ∨ ((bt 0 a) ∧ (bt 1 b)))), .int (zbo ((bt 8 a) ∧ (bt 8 b))), .int (zbo ((bt 5 a) ∨ (bt 5 b))), .retAddr 0] [.int zz] S post) (zbo_pos ⟨b49, b50⟩) J53)
            have J45 : ((bt 5 a) ∨ (bt 5 b)) → zEv d 371 141 [.ref n, .int (zbo ((bt 0 a) ∧ (bt 0 b))), .int (zbo ((bt 1 a) ∧ (bt 0 b))), .int (zbo (((bt 1 a) ∧ (bt 0 b)) ∨ ((bt 0 a) ∧ (bt 1 b)))), .int (zbo ((bt 8 a) ∧ (bt 8 b))), .retAddr 0, .retAddr 0] [] S post := by
              intro b46
              refine zv_c1 ht rfl rfl (zv_c1 ht rfl rfl ?_)
              exact (zv_sub (zz := zbo ((bt 5 a) ∨ (bt 5 b))) (zy := 1) (p := fun zz => zEv d 371 146 [.ref n, .int (zbo ((bt 0 a) ∧ (bt 0 b))), .int (zbo ((bt 1 a) ∧ (bt 0 b))), .int (zbo (((bt 1 a) ∧ (bt 0 b)) ∨ ((bt 0 a) ∧ (bt 1 b)))), .int (zbo ((bt 8 a) ∧ (bt 8 b))), .retAddr 0, .retAddr 0] [.int zz] S post) (zbo_pos b46) J47)
            refine zv_br ht rfl rfl rfl (fun b43 => ?_) (fun b43 => ?_)
            · replace b43 : bt 5 a := Classical.byContradiction (fun h => b43 ((zbo_eq0 : (zbo (bt 5 a)) = 0 ↔ ¬ (bt 5 a)).mpr h))
              exact (J45 (Or.inl b43))
            · replace b43 : ¬ (bt 5 a) := (zbo_eq0 : (zbo (bt 5 a)) = 0 ↔ ¬ (bt 5 a)).mp (Classical.not_not.mp b43)
              refine zv_c1 ht rfl rfl ?_
              refine zv_g3 (q := y) ht rfl hF rfl rfl (zhas_of (htn) rfl) hpy ?_
              refine zv_ei (x := zbo (bt 5 b)) ht rfl rfl (zhas_nc hcy (by decide)) hsy ?_
              refine zv_br ht rfl rfl rfl (fun b44 => ?_) (fun b44 => ?_)
              · replace b44 : ¬ (bt 5 b) := (zbo_eq0 : (zbo (bt 5 b)) = 0 ↔ ¬ (bt 5 b)).mp b44
                refine zv_c1 ht rfl rfl ?_
                exact (zv_sub (zz := zbo ((bt 5 a) ∨ (bt 5 b))) (zy := 0) (p := fun zz => zEv d 371 146 [.ref n, .int (zbo ((bt 0 a) ∧ (bt 0 b))), .int (zbo ((bt 1 a) ∧ (bt 0 b))), .int (zbo (((bt 1 a) ∧ (bt 0 b)) ∨ ((bt 0 a) ∧ (bt 1 b)))), .int (zbo ((bt 8 a) ∧ (bt 8 b))), .retAddr 0, .retAddr 0] [.int zz] S post) (zbo_neg (fun h => h.elim b43 b44)) J47)
              · replace b44 : bt 5 b := Classical.byContradiction (fun h => b44 ((zbo_eq0 : (zbo (bt 5 b)) = 0 ↔ ¬ (bt 5 b)).mpr h))
                exact (J45 (Or.inr b44))
          have J39 : ((¬ (bt 8 a)) ∨ (¬ (bt 8 b))) → zEv d 371 118 [.ref n, .int (zbo ((bt 0 a) ∧ (bt 0 b))), .int (zbo ((bt 1 a) ∧ (bt 0 b))), .int (zbo (((bt 1 a) ∧ (bt 0 b)) ∨ ((bt 0 a) ∧ (bt 1 b)))), .retAddr 0, .retAddr 0, .retAddr 0] [] S post := by
            intro b40
            refine zv_c1 ht rfl rfl ?_
            exact (zv_sub (zz := zbo ((bt 8 a) ∧ (bt 8 b))) (zy := 0) (p := fun zz => zEv d 371 119 [.ref n, .int (zbo ((bt 0 a) ∧ (bt 0 b))), .int (zbo ((bt 1 a) ∧ (bt 0 b))), .int (zbo (((bt 1 a) ∧ (bt 0 b)) ∨ ((bt 0 a) ∧ (bt 1 b)))), .retAddr 0, .retAddr 0, .retAddr 0] [.int zz] S post) (zbo_neg (b40.elim (fun y1 => (fun h => y1 h.1)) (fun y1 => (fun h => y1 h.2)))) J41)
          refine zv_br ht rfl rfl rfl (fun b37 => ?_) (fun b37 => ?_)
          · replace b37 : ¬ (bt 8 a) := (zbo_eq0 : (zbo (bt 8 a)) = 0 ↔ ¬ (bt 8 a)).mp b37
            exact (J39 (Or.inl b37))
          · replace b37 : bt 8 a := Classical.byContradiction (fun h => b37 ((zbo_eq0 : (zbo (bt 8 a)) = 0 ↔ ¬ (bt 8 a)).mpr h))
            refine zv_c1 ht rfl rfl ?_
            refine zv_g3 (q := y) ht rfl hF rfl rfl (zhas_of (htn) rfl) hpy ?_
            refine zv_ei (x := zbo (bt 8 b)) ht rfl rfl (zhas_nc hcy (by decide)) hmy ?_
            refine zv_br ht rfl rfl rfl (fun b38 => ?_) (fun b38 => ?_)
            · replace b38 : ¬ (bt 8 b) := (zbo_eq0 : (zbo (bt 8 b)) = 0 ↔ ¬ (bt 8 b)).mp b38
              exact (J39 (Or.inr b38))
            · replace b38 : bt 8 b := Classical.byContradiction (fun h => b38 ((zbo_eq0 : (zbo (bt 8 b)) = 0 ↔ ¬ (bt 8 b)).mpr h))
              refine zv_c1 ht rfl rfl (zv_c1 ht rfl rfl ?_)
              exact (zv_sub (zz := zbo ((bt 8 a) ∧ (bt 8 b))) (zy := 1) (p := fun zz => zEv d 371 119 [.ref n, .int (zbo ((bt 0 a) ∧ (bt 0 b))), .int (zbo ((bt 1 a) ∧ (bt 0 b))), .int (zbo (((bt 1 a) ∧ (bt 0 b)) ∨ ((bt 0 a) ∧ (bt 1 b)))), .retAddr 0, .retAddr 0, .retAddr 0] [.int zz] S post) (zbo_pos ⟨b37, b38⟩) J41)
        have J33 : (((bt 1 a) ∧ (bt 0 b)) ∨ ((bt 0 a) ∧ (bt 1 b))) → zEv d 371 88 [.ref n, .int (zbo ((bt 0 a) ∧ (bt 0 b))), .int (zbo ((bt 1 a) ∧ (bt 0 b))), .retAddr 0, .retAddr 0, .retAddr 0, .retAddr 0] [] S post := by
          intro b34
          refine zv_c1 ht rfl rfl (zv_c1 ht rfl rfl ?_)
          exact (zv_sub (zz := zbo (((bt 1 a) ∧ (bt 0 b)) ∨ ((bt 0 a) ∧ (bt 1 b)))) (zy := 1) (p := fun zz => zEv d 371 93 [.ref n, .int (zbo ((bt 0 a) ∧ (bt 0 b))), .int (zbo ((bt 1 a) ∧ (bt 0 b))), .retAddr 0, .retAddr 0, .retAddr 0, .retAddr 0] [.int zz] S post) (zbo_pos b34) J35)
        refine zv_br ht rfl rfl rfl (fun b28 => ?_) (fun b28 => ?_)
        · replace b28 : (bt 1 a) ∧ (bt 0 b) := Classical.byContradiction (fun h => b28 ((zbo_eq0 : (zbo ((bt 1 a) ∧ (bt 0 b))) = 0 ↔ ¬ ((bt 1 a) ∧ (bt 0 b))).mpr h))
          exact (J33 (Or.inl b28))
        · replace b28 : ¬ ((bt 1 a) ∧ (bt 0 b)) := (zbo_eq0 : (zbo ((bt 1 a) ∧ (bt 0 b))) = 0 ↔ ¬ ((bt 1 a) ∧ (bt 0 b))).mp (Classical.not_not.mp b28)
          refine zv_c1 ht rfl rfl ?_
          refine zv_g3 (q := x) ht rfl hF rfl rfl (zhas_of (htn) rfl) hpx ?_
          refine zv_ei (x := zbo (bt 0 a)) ht rfl rfl (zhas_nc hcx (by decide)) hzx ?_
          have J31 : ((¬ (bt 0 a)) ∨ (¬ (bt 1 b))) → zEv d 371 92 [.ref n, .int (zbo ((bt 0 a) ∧ (bt 0 b))), .int (zbo ((bt 1 a) ∧ (bt 0 b))), .retAddr 0, .retAddr 0, .retAddr 0, .retAddr 0] [] S post := by
            intro b32
            refine zv_c1 ht rfl rfl ?_
            exact (zv_sub (zz := zbo (((bt 1 a) ∧ (bt 0 b)) ∨ ((bt 0 a) ∧ (bt 1 b)))) (zy := 0) (p := fun zz => zEv d 371 93 [.ref n, .int (zbo ((bt 0 a) ∧ (bt 0 b))), .int (zbo ((bt 1 a) ∧ (bt 0 b))), .retAddr 0, .retAddr 0, .retAddr 0, .retAddr 0] [.int zz] S post) (zbo_neg (b32.elim (fun y1 => (fun h => h.elim b28 (fun h => y1 h.1))) (fun y1 => (fun h => h.elim b28 (fun h => y1 h.2))))) J35)
          refine zv_br ht rfl rfl rfl (fun b29 => ?_) (fun b29 => ?_)
          · replace b29 : ¬ (bt 0 a) := (zbo_eq0 : (zbo (bt 0 a)) = 0 ↔ ¬ (bt 0 a)).mp b29
            exact (J31 (Or.inl b29))
          · replace b29 : bt 0 a := Classical.byContradiction (fun h => b29 ((zbo_eq0 : (zbo (bt 0 a)) = 0 ↔ ¬ (bt 0 a)).mpr h))
            refine zv_c1 ht rfl rfl ?_
            refine zv_g3 (q := y) ht rfl hF rfl rfl (zhas_of (htn) rfl) hpy ?_
            refine zv_ei (x := zbo (bt 1 b)) ht rfl rfl (zhas_nc hcy (by decide)) hoy ?_
            refine zv_br ht rfl rfl rfl (fun b30 => ?_) (fun b30 => ?_)
            · replace b30 : ¬ (bt 1 b) := (zbo_eq0 : (zbo (bt 1 b)) = 0 ↔ ¬ (bt 1 b)).mp b30
              exact (J31 (Or.inr b30))
            · replace b30 : bt 1 b := Classical.byContradiction (fun h => b30 ((zbo_eq0 : (zbo (bt 1 b)) = 0 ↔ ¬ (bt 1 b)).mpr h))
              exact (J33 (Or.inr ⟨b29, b30⟩))
      have J24 : ((¬ (bt 1 a)) ∨ (¬ (bt 0 b))) → zEv d 371 62 [.ref n, .int (zbo ((bt 0 a) ∧ (bt 0 b))), .retAddr 0, .retAddr 0, .retAddr 0, .retAddr 0, .retAddr 0] [] S post := by
        intro b25
        refine zv_c1 ht rfl rfl ?_
        exact (zv_sub (zz := zbo ((bt 1 a) ∧ (bt 0 b))) (zy := 0) (p := fun zz => zEv d 371 63 [.ref n, .int (zbo ((bt 0 a) ∧ (bt 0 b))), .retAddr 0, .retAddr 0, .retAddr 0, .retAddr 0, .retAddr 0] [.int zz] S post) (zbo_neg (b25.elim (fun y1 => (fun h => y1 h.1)) (fun y1 => (fun h => y1 h.2)))) J26)
      refine zv_br ht rfl rfl rfl (fun b22 => ?_) (fun b22 => ?_)
      · replace b22 : ¬ (bt 1 a) := (zbo_eq0 : (zbo (bt 1 a)) = 0 ↔ ¬ (bt 1 a)).mp b22
        exact (J24 (Or.inl b22))
      · replace b22 : bt 1 a := Classical.byContradiction (fun h => b22 ((zbo_eq0 : (zbo (bt 1 a)) = 0 ↔ ¬ (bt 1 a)).mpr h))
        refine zv_c1 ht rfl rfl ?_
        refine zv_g3 (q := y) ht rfl hF rfl rfl (zhas_of (htn) rfl) hpy ?_
        refine zv_ei (x := zbo (bt 0 b)) ht rfl rfl (zhas_nc hcy (by decide)) hzy ?_
        refine zv_br ht rfl rfl rfl (fun b23 => ?_) (fun b23 => ?_)
        · replace b23 : ¬ (bt 0 b) := (zbo_eq0 : (zbo (bt 0 b)) = 0 ↔ ¬ (bt 0 b)).mp b23
          exact (J24 (Or.inr b23))
        · replace b23 : bt 0 b := Classical.byContradiction (fun h => b23 ((zbo_eq0 : (zbo (bt 0 b)) = 0 ↔ ¬ (bt 0 b)).mpr h))
          refine zv_c1 ht rfl rfl (zv_c1 ht rfl rfl ?_)
          exact (zv_sub (zz := zbo ((bt 1 a) ∧ (bt 0 b))) (zy := 1) (p := fun zz => zEv d 371 63 [.ref n, .int (zbo ((bt 0 a) ∧ (bt 0 b))), .retAddr 0, .retAddr 0, .retAddr 0, .retAddr 0, .retAddr 0] [.int zz] S post) (zbo_pos ⟨b22, b23⟩) J26)
    have J18 : ((¬ (bt 0 a)) ∨ (¬ (bt 0 b))) → zEv d 371 36 [.ref n, .retAddr 0, .retAddr 0, .retAddr 0, .retAddr 0, .retAddr 0, .retAddr 0] [] S post := by
      intro b19
      refine zv_c1 ht rfl rfl ?_
      exact (zv_sub (zz := zbo ((bt 0 a) ∧ (bt 0 b))) (zy := 0) (p := fun zz => zEv d 371 37 [.ref n, .retAddr 0, .retAddr 0, .retAddr 0, .retAddr 0, .retAddr 0, .retAddr 0] [.int zz] S post) (zbo_neg (b19.elim (fun y1 => (fun h => y1 h.1)) (fun y1 => (fun h => y1 h.2)))) J20)
    refine zv_br ht rfl rfl rfl (fun b16 => ?_) (fun b16 => ?_)
    · replace b16 : ¬ (bt 0 a) := (zbo_eq0 : (zbo (bt 0 a)) = 0 ↔ ¬ (bt 0 a)).mp b16
      exact (J18 (Or.inl b16))
    · replace b16 : bt 0 a := Classical.byContradiction (fun h => b16 ((zbo_eq0 : (zbo (bt 0 a)) = 0 ↔ ¬ (bt 0 a)).mpr h))
      refine zv_c1 ht rfl rfl ?_
      refine zv_g3 (q := y) ht rfl hF rfl rfl (zhas_of (htn) rfl) hpy ?_
      refine zv_ei (x := zbo (bt 0 b)) ht rfl rfl (zhas_nc hcy (by decide)) hzy ?_
      refine zv_br ht rfl rfl rfl (fun b17 => ?_) (fun b17 => ?_)
      · replace b17 : ¬ (bt 0 b) := (zbo_eq0 : (zbo (bt 0 b)) = 0 ↔ ¬ (bt 0 b)).mp b17
        exact (J18 (Or.inr b17))
      · replace b17 : bt 0 b := Classical.byContradiction (fun h => b17 ((zbo_eq0 : (zbo (bt 0 b)) = 0 ↔ ¬ (bt 0 b)).mpr h))
        refine zv_c1 ht rfl rfl (zv_c1 ht rfl rfl ?_)
        exact (zv_sub (zz := zbo ((bt 0 a) ∧ (bt 0 b))) (zy := 1) (p := fun zz => zEv d 371 37 [.ref n, .retAddr 0, .retAddr 0, .retAddr 0, .retAddr 0, .retAddr 0, .retAddr 0] [.int zz] S post) (zbo_pos ⟨b16, b17⟩) J20)
  · replace b15 : ¬ (((p + 1) = (q + 1)) ∧ (¬ ((q + 1) = 4))) := (zbo_eq0 : (zbo (((p + 1) = (q + 1)) ∧ (¬ ((q + 1) = 4)))) = 0 ↔ ¬ (((p + 1) = (q + 1)) ∧ (¬ ((q + 1) = 4)))).mp (Classical.not_not.mp b15)
    refine zv_c1 ht rfl rfl ?_
    have C118 : ∀ (pst117 : Outcome × zS → Prop), (pst117 (.returned (some (.ref (gN S))), sI (sI (sT (sNew S 8 0 (zslots 8)) (gN S) 8 1) 136 (gN S) 3) 137 (gN S) (gI S 144 n))) → zCall (d - 1) 283 [.ref n] S pst117 := by
      intro pst117 k124
      have ht119 : ztab 283 = ztb283 := rfl
      show zEv (d - 1) 283 0 [.ref n] [] S pst117
      refine zv_ci (st' := [.ref (gN S)]) (S' := sNew S 8 0 (zslots 8)) ht119 rfl rfl (znew_ok (show 1639 ≤ gN S from by omega) (show gN S < 2000000 from by omega)) ?_
      refine zv_c1 ht119 rfl rfl (zv_c1 ht119 rfl rfl (zv_c1 ht119 rfl rfl ?_))
      refine zv_ei (x := gI S 144 n) ht119 rfl rfl (zhas_of (Eq.trans (ztyp_new (S := S) (t := 8) (n := 0) (s := zslots 8) (show n ≠ gN S from by omega)) htn) rfl) (gI_new (S := S) (t := 8) (n := 0) (s := zslots 8) (show n ≠ gN S from by omega)) ?_
      have C121 : ∀ (pst120 : Outcome × zS → Prop), (pst120 (.returned none, sI (sI (sT (sNew S 8 0 (zslots 8)) (gN S) 8 1) 136 (gN S) 3) 137 (gN S) (gI S 144 n))) → zCall ((d - 1) - 1) 269 [.ref (gN S), .int 3, .int (gI S 144 n)] (sNew S 8 0 (zslots 8)) pst120 := by
        intro pst120 k123
        have ht122 : ztab 269 = ztb269 := rfl
        show zEv ((d - 1) - 1) 269 0 [.ref (gN S), .int 3, .int (gI S 144 n)] [] (sNew S 8 0 (zslots 8)) pst120
        refine zv_c1 ht122 rfl rfl ?_
        refine zv_ci (S' := sT (sNew S 8 0 (zslots 8)) (gN S) 8 1) ht122 rfl rfl ⟨ztyp_new_at (S := S) (t := 8) (n := 0) (s := zslots 8) (show 1639 ≤ gN S from by omega), (show gN S < gN S + 1 from by omega), zlen_new_at (S := S) (t := 8) (n := 0) (s := zslots 8) (show 1639 ≤ gN S from by omega)⟩ ?_
        refine zv_c1 ht122 rfl rfl (zv_c1 ht122 rfl rfl ?_)
        refine zv_ci (S' := sI (sT (sNew S 8 0 (zslots 8)) (gN S) 8 1) 136 (gN S) 3) ht122 rfl rfl ⟨⟨(zhas_of (ztyp_sT1 (show 1639 ≤ gN S from by omega)) rfl), (show gN S < gN S + 1 from by omega)⟩, zlen_sT1 (show 1639 ≤ gN S from by omega)⟩ ?_
        refine zv_c1 ht122 rfl rfl (zv_c1 ht122 rfl rfl ?_)
        refine zv_ci (S' := sI (sI (sT (sNew S 8 0 (zslots 8)) (gN S) 8 1) 136 (gN S) 3) 137 (gN S) (gI S 144 n)) ht122 rfl rfl ⟨⟨(zhas_of (ztyp_sT1 (show 1639 ≤ gN S from by omega)) rfl), (show gN S < gN S + 1 from by omega)⟩, zlen_sT1 (show 1639 ≤ gN S from by omega)⟩ ?_
        exact zv_rt ht122 rfl rfl rfl rfl k123
      refine zv_cl ht119 rfl rfl rfl rfl (by omega) (Nat.le_of_ble_eq_true rfl) (C121 _ ?_)
      show zEv (d - 1) 283 12 [.ref n] [.ref (gN S)] (sI (sI (sT (sNew S 8 0 (zslots 8)) (gN S) 8 1) 136 (gN S) 3) 137 (gN S) (gI S 144 n)) pst117
      exact zv_rt ht119 rfl rfl rfl rfl k124
    refine zv_cl ht rfl rfl rfl (zv_tgv (htn) rfl) (by omega) (Nat.le_of_ble_eq_true rfl) (C118 _ ?_)
    show zEv d 371 11 [.ref n, .retAddr 0, .retAddr 0, .retAddr 0, .retAddr 0, .retAddr 0, .retAddr 0] [.ref (gN S)] (sI (sI (sT (sNew S 8 0 (zslots 8)) (gN S) 8 1) 136 (gN S) 3) 137 (gN S) (gI S 144 n)) post
    exact zv_th ht rfl rfl rfl ⟨ztyp_sT1 (show 1639 ≤ gN S from by omega), (show gN S < gN S + 1 from by omega)⟩ rfl (h2 b15)

theorem jp11_0 {a b : Int32} : ((bt 0 a) ∧ (bt 0 b)) ↔ bt 0 (pt11_e1 a b) := by
  simp only [pt11_e1, bt_or, bt_and, bt_znt, bt_zit, bt_zbo, is_1, is_2, is_4, is_8, is_16, is_20, is_24, is_32, is_64, is_96, is_128, is_152, is_160, is_256, is_288, is_384, is_512, bl_0_0, bm_0_0, bl_1_0, bm_1_0, bl_2_0, bm_2_0, bl_4_0, bm_4_0, bl_16_0, bm_16_0, bl_32_0, bm_32_0, bl_64_0, bm_64_0, bl_256_0, bm_256_0, true_and, and_true, false_and, and_false, or_false, false_or, true_or, or_true, not_true_eq_false, not_false_eq_true, iff_self] <;> grind
theorem jp11_1 {a b : Int32} : (((bt 1 a) ∧ (bt 0 b)) ∨ ((bt 0 a) ∧ (bt 1 b))) ↔ bt 1 (pt11_e1 a b) := by
  simp only [pt11_e1, bt_or, bt_and, bt_znt, bt_zit, bt_zbo, is_1, is_2, is_4, is_8, is_16, is_20, is_24, is_32, is_64, is_96, is_128, is_152, is_160, is_256, is_288, is_384, is_512, bl_0_1, bm_0_1, bl_1_1, bm_1_1, bl_2_1, bm_2_1, bl_4_1, bm_4_1, bl_16_1, bm_16_1, bl_32_1, bm_32_1, bl_64_1, bm_64_1, bl_256_1, bm_256_1, true_and, and_true, false_and, and_false, or_false, false_or, true_or, or_true, not_true_eq_false, not_false_eq_true, iff_self] <;> grind
theorem jp11_2 {a b : Int32} : ((bt 2 a) ∨ ((bt 0 a) ∧ (bt 2 b))) ↔ bt 2 (pt11_e1 a b) := by
  simp only [pt11_e1, bt_or, bt_and, bt_znt, bt_zit, bt_zbo, is_1, is_2, is_4, is_8, is_16, is_20, is_24, is_32, is_64, is_96, is_128, is_152, is_160, is_256, is_288, is_384, is_512, bl_0_2, bm_0_2, bl_1_2, bm_1_2, bl_2_2, bm_2_2, bl_4_2, bm_4_2, bl_16_2, bm_16_2, bl_32_2, bm_32_2, bl_64_2, bm_64_2, bl_256_2, bm_256_2, true_and, and_true, false_and, and_false, or_false, false_or, true_or, or_true, not_true_eq_false, not_false_eq_true, iff_self] <;> grind
theorem jp11_3 {a b : Int32} : (False) ↔ bt 3 (pt11_e1 a b) := by
  simp only [pt11_e1, bt_or, bt_and, bt_znt, bt_zit, bt_zbo, is_1, is_2, is_4, is_8, is_16, is_20, is_24, is_32, is_64, is_96, is_128, is_152, is_160, is_256, is_288, is_384, is_512, bl_0_3, bm_0_3, bl_1_3, bm_1_3, bl_2_3, bm_2_3, bl_4_3, bm_4_3, bl_16_3, bm_16_3, bl_32_3, bm_32_3, bl_64_3, bm_64_3, bl_256_3, bm_256_3, true_and, and_true, false_and, and_false, or_false, false_or, true_or, or_true, not_true_eq_false, not_false_eq_true, iff_self] <;> grind
theorem jp11_4 {a b : Int32} : (bt 4 b) ↔ bt 4 (pt11_e1 a b) := by
  simp only [pt11_e1, bt_or, bt_and, bt_znt, bt_zit, bt_zbo, is_1, is_2, is_4, is_8, is_16, is_20, is_24, is_32, is_64, is_96, is_128, is_152, is_160, is_256, is_288, is_384, is_512, bl_0_4, bm_0_4, bl_1_4, bm_1_4, bl_2_4, bm_2_4, bl_4_4, bm_4_4, bl_16_4, bm_16_4, bl_32_4, bm_32_4, bl_64_4, bm_64_4, bl_256_4, bm_256_4, true_and, and_true, false_and, and_false, or_false, false_or, true_or, or_true, not_true_eq_false, not_false_eq_true, iff_self] <;> grind
theorem jp11_5 {a b : Int32} : ((bt 5 a) ∨ (bt 5 b)) ↔ bt 5 (pt11_e1 a b) := by
  simp only [pt11_e1, bt_or, bt_and, bt_znt, bt_zit, bt_zbo, is_1, is_2, is_4, is_8, is_16, is_20, is_24, is_32, is_64, is_96, is_128, is_152, is_160, is_256, is_288, is_384, is_512, bl_0_5, bm_0_5, bl_1_5, bm_1_5, bl_2_5, bm_2_5, bl_4_5, bm_4_5, bl_16_5, bm_16_5, bl_32_5, bm_32_5, bl_64_5, bm_64_5, bl_256_5, bm_256_5, true_and, and_true, false_and, and_false, or_false, false_or, true_or, or_true, not_true_eq_false, not_false_eq_true, iff_self] <;> grind
theorem jp11_6 {a b : Int32} : ((bt 5 a) ∨ (bt 6 b)) ↔ bt 6 (pt11_e1 a b) := by
  simp only [pt11_e1, bt_or, bt_and, bt_znt, bt_zit, bt_zbo, is_1, is_2, is_4, is_8, is_16, is_20, is_24, is_32, is_64, is_96, is_128, is_152, is_160, is_256, is_288, is_384, is_512, bl_0_6, bm_0_6, bl_1_6, bm_1_6, bl_2_6, bm_2_6, bl_4_6, bm_4_6, bl_16_6, bm_16_6, bl_32_6, bm_32_6, bl_64_6, bm_64_6, bl_256_6, bm_256_6, true_and, and_true, false_and, and_false, or_false, false_or, true_or, or_true, not_true_eq_false, not_false_eq_true, iff_self] <;> grind
theorem jp11_7 {a b : Int32} : (False) ↔ bt 7 (pt11_e1 a b) := by
  simp only [pt11_e1, bt_or, bt_and, bt_znt, bt_zit, bt_zbo, is_1, is_2, is_4, is_8, is_16, is_20, is_24, is_32, is_64, is_96, is_128, is_152, is_160, is_256, is_288, is_384, is_512, bl_0_7, bm_0_7, bl_1_7, bm_1_7, bl_2_7, bm_2_7, bl_4_7, bm_4_7, bl_16_7, bm_16_7, bl_32_7, bm_32_7, bl_64_7, bm_64_7, bl_256_7, bm_256_7, true_and, and_true, false_and, and_false, or_false, false_or, true_or, or_true, not_true_eq_false, not_false_eq_true, iff_self] <;> grind
theorem jp11_8 {a b : Int32} : ((bt 8 a) ∧ (bt 8 b)) ↔ bt 8 (pt11_e1 a b) := by
  simp only [pt11_e1, bt_or, bt_and, bt_znt, bt_zit, bt_zbo, is_1, is_2, is_4, is_8, is_16, is_20, is_24, is_32, is_64, is_96, is_128, is_152, is_160, is_256, is_288, is_384, is_512, bl_0_8, bm_0_8, bl_1_8, bm_1_8, bl_2_8, bm_2_8, bl_4_8, bm_4_8, bl_16_8, bm_16_8, bl_32_8, bm_32_8, bl_64_8, bm_64_8, bl_256_8, bm_256_8, true_and, and_true, false_and, and_false, or_false, false_or, true_or, or_true, not_true_eq_false, not_false_eq_true, iff_self] <;> grind
theorem jp11_9 {a b : Int32} : ¬ bt 9 (pt11_e1 a b) := by
  simp only [pt11_e1, bt_or, bt_and, bt_znt, bt_zit, bt_zbo, is_1, is_2, is_4, is_8, is_16, is_20, is_24, is_32, is_64, is_96, is_128, is_152, is_160, is_256, is_288, is_384, is_512, bl_0_9, bm_0_9, bl_1_9, bm_1_9, bl_2_9, bm_2_9, bl_4_9, bm_4_9, bl_16_9, bm_16_9, bl_32_9, bm_32_9, bl_64_9, bm_64_9, bl_256_9, bm_256_9, true_and, and_true, false_and, and_false, or_false, false_or, true_or, or_true, not_true_eq_false, not_false_eq_true, iff_self] <;> grind
theorem jp11_c {p q a b : Int32} (hp : tB4 p) (hq : tB4 q) : (((p + 1) = 2) ∧ (¬ ((q + 1) = 4))) ↔ ((p = 1) ∧ ((q = 0) ∨ (q = 2) ∨ (q = 1))) := by
  rcases hp with rfl | rfl | rfl | rfl <;> rcases hq with rfl | rfl | rfl | rfl <;> simp [is_8, is_16, is_24]
theorem jp11_m {p q a b tx ty : Int32} : (((bt 9 a) ∨ (((¬ ((((0 : Int32) ||| tx) &&& (1 : Int32)) = 0)) ∧ (¬ ((ty &&& (2 : Int32)) = 0))) ∨ ((¬ ((((0 : Int32) ||| tx) &&& (2 : Int32)) = 0)) ∧ (¬ ((ty &&& (1 : Int32)) = 0)))) ∨ ((¬ ((((0 : Int32) ||| tx) &&& (4 : Int32)) = 0)) ∧ (¬ ((ty &&& (8 : Int32)) = 0))) ∨ ((¬ ((((0 : Int32) ||| tx) &&& (8 : Int32)) = 0)) ∧ (¬ ((ty &&& (4 : Int32)) = 0)))) ∨ (bt 9 b)) ↔ tyMx 11 0 [(p, a, tx), (q, b, ty)] := by
  rw [tyMx_2]
  simp only [nz_1, nz_2, nz_4, nz_8, bt_or, bl_0_0, bl_0_1, bl_0_2, bl_0_3, false_or, Classical.not_not]
  simp only [tog, mxb]
  grind
theorem jp11_l {p q a b tx ty : Int32} : ((0 : Int32) ||| tx) ||| ty = lkL 11 0 ||| lkAll [(p, a, tx), (q, b, ty)] := by
  show _ = (0 : Int32) ||| (((0 : Int32) ||| tx) ||| ty)
  rw [Int32.zero_or]

theorem xj_P11 {d : Nat} {S : zS} (hF : zFin true S) (hd : 2 ≤ d) {n pl x y : Nat} {p : Int32} {a : Int32} {tx : Int32} {q : Int32} {b : Int32} {ty : Int32} (hn0 : 1639 ≤ n) (hn : n < gN S) (hx : x < gN S) (hxn : x ≠ n) (hcx : zNc (ztyp S x) = true) (hy : y < gN S) (hyn : y ≠ n) (hcy : zNc (ztyp S y) = true) (hN2 : gN S < 1900000) (htn : ztyp S n = 20) (how : gI S 187 n = Int32.ofNat 0) (hpx : gP S 188 n = some x) (hpy : gP S 189 n = some y) (hpl : gI S 144 n = Int32.ofNat pl) (hXx : xTy S x (p, a, tx)) (hXy : xTy S y (q, b, ty)) (hm0 : gI S 156 n = 0) (ht0 : gI S 146 n = 0) (h4x : tB4 p) (h4y : tB4 q) {post : Outcome × zS → Prop}
    (h1 : ∀ t S', zFin true S' → tyN 11 0 [(p, a, tx), (q, b, ty)] = some t → xJd S n S' → xTy S' n t → post (.returned none, S'))
    (h2 : tyN 11 0 [(p, a, tx), (q, b, ty)] = none → ∀ S' q, zFin true S' → xFn S n S' → xFl S' q 3 pl → gN S + 1 = gN S' ∧ gZ S' ≤ gZ S + 3 → post (.threw q, S')) : zCall d 371 [.ref n] S post := by
  have hm0' : gI S 156 n = zbo False := hm0.trans (zbo_neg id).symm
  refine pj_0 hF (by omega) n x y p q a b tx ty hn0 hn hx hxn hy hyn hcx hcy hN2 htn how hpx hpy hXx.1 hXx.2.1.1 hXx.2.1.2.1 hXx.2.1.2.2.1 hXx.2.1.2.2.2.1 hXx.2.1.2.2.2.2.1 hXx.2.1.2.2.2.2.2.1 hXx.2.1.2.2.2.2.2.2.1 hXx.2.1.2.2.2.2.2.2.2.1 hXx.2.1.2.2.2.2.2.2.2.2.1 hXx.2.1.2.2.2.2.2.2.2.2.2 hXx.2.2 hXy.1 hXy.2.1.1 hXy.2.1.2.1 hXy.2.1.2.2.1 hXy.2.1.2.2.2.1 hXy.2.1.2.2.2.2.1 hXy.2.1.2.2.2.2.2.1 hXy.2.1.2.2.2.2.2.2.1 hXy.2.1.2.2.2.2.2.2.2.1 hXy.2.1.2.2.2.2.2.2.2.2.1 hXy.2.1.2.2.2.2.2.2.2.2.2 hXy.2.2 hm0' ht0 (fun c0 => ?_) (fun c => ?_)
  · have hq : tyB 11 0 [(p, a, tx), (q, b, ty)] = some (q, pt11_e1 a b) := (tyB_P (by omega) _ _).trans (zop_pos ((jp11_c h4x h4y).mp c0))
    refine h1 _ _ (by first | exact hF | exact hF) (tyN_some hq) (xJd_s (xJd_s (xJd_s (xJd_s (xJd_s (xJd_s (xJd_s (xJd_s (xJd_s (xJd_s (xJd_s (xJd_s (xJd_s (xJd_s (xJd_s xJd.rf (by decide)) (by decide)) (by decide)) (by decide)) (by decide)) (by decide)) (by decide)) (by decide)) (by decide)) (by decide)) (by decide)) (by decide)) (by decide)) (by decide)) (by decide)) (xTy_mk (b := q) (f := pt11_e1 a b) (MX := tyMx 11 0 [(p, a, tx), (q, b, ty)]) ((gI_sI_nf (by decide)).trans ((gI_sI_nf (by decide)).trans ((gI_sI_nf (by decide)).trans ((gI_sI_nf (by decide)).trans ((gI_sI_nf (by decide)).trans ((gI_sI_nf (by decide)).trans ((gI_sI_nf (by decide)).trans ((gI_sI_nf (by decide)).trans ((gI_sI_nf (by decide)).trans ((gI_sI_nf (by decide)).trans ((gI_sI_nf (by decide)).trans ((gI_sI_nf (by decide)).trans ((gI_sI_nf (by decide)).trans ((gI_sI_nf (by decide)).trans (gI_sI_at)))))))))))))))
        ((gI_sI_nf (by decide)).trans ((gI_sI_nf (by decide)).trans ((gI_sI_nf (by decide)).trans ((gI_sI_nf (by decide)).trans ((gI_sI_nf (by decide)).trans ((gI_sI_nf (by decide)).trans ((gI_sI_nf (by decide)).trans ((gI_sI_nf (by decide)).trans ((gI_sI_nf (by decide)).trans ((gI_sI_nf (by decide)).trans ((gI_sI_nf (by decide)).trans ((gI_sI_nf (by decide)).trans ((gI_sI_nf (by decide)).trans (gI_sI_at))))))))))))))
        ((gI_sI_nf (by decide)).trans ((gI_sI_nf (by decide)).trans ((gI_sI_nf (by decide)).trans ((gI_sI_nf (by decide)).trans ((gI_sI_nf (by decide)).trans ((gI_sI_nf (by decide)).trans ((gI_sI_nf (by decide)).trans ((gI_sI_nf (by decide)).trans ((gI_sI_nf (by decide)).trans ((gI_sI_nf (by decide)).trans ((gI_sI_nf (by decide)).trans ((gI_sI_nf (by decide)).trans (gI_sI_at)))))))))))))
        ((gI_sI_nf (by decide)).trans ((gI_sI_nf (by decide)).trans ((gI_sI_nf (by decide)).trans ((gI_sI_nf (by decide)).trans ((gI_sI_nf (by decide)).trans ((gI_sI_nf (by decide)).trans ((gI_sI_nf (by decide)).trans ((gI_sI_nf (by decide)).trans ((gI_sI_nf (by decide)).trans ((gI_sI_nf (by decide)).trans ((gI_sI_nf (by decide)).trans (gI_sI_at))))))))))))
        (((gI_sI_nf (by decide)).trans ((gI_sI_nf (by decide)).trans ((gI_sI_nf (by decide)).trans ((gI_sI_nf (by decide)).trans ((gI_sI_nf (by decide)).trans ((gI_sI_nf (by decide)).trans ((gI_sI_nf (by decide)).trans ((gI_sI_nf (by decide)).trans ((gI_sI_nf (by decide)).trans ((gI_sI_nf (by decide)).trans (gI_sI_at))))))))))).trans (zbo_neg id).symm)
        ((gI_sI_nf (by decide)).trans ((gI_sI_nf (by decide)).trans ((gI_sI_nf (by decide)).trans ((gI_sI_nf (by decide)).trans ((gI_sI_nf (by decide)).trans ((gI_sI_nf (by decide)).trans ((gI_sI_nf (by decide)).trans ((gI_sI_nf (by decide)).trans ((gI_sI_nf (by decide)).trans (gI_sI_at))))))))))
        ((gI_sI_nf (by decide)).trans ((gI_sI_nf (by decide)).trans ((gI_sI_nf (by decide)).trans ((gI_sI_nf (by decide)).trans ((gI_sI_nf (by decide)).trans ((gI_sI_nf (by decide)).trans ((gI_sI_nf (by decide)).trans ((gI_sI_nf (by decide)).trans (gI_sI_at)))))))))
        ((gI_sI_nf (by decide)).trans ((gI_sI_nf (by decide)).trans ((gI_sI_nf (by decide)).trans ((gI_sI_nf (by decide)).trans ((gI_sI_nf (by decide)).trans ((gI_sI_nf (by decide)).trans ((gI_sI_nf (by decide)).trans (gI_sI_at))))))))
        (((gI_sI_nf (by decide)).trans ((gI_sI_nf (by decide)).trans ((gI_sI_nf (by decide)).trans ((gI_sI_nf (by decide)).trans ((gI_sI_nf (by decide)).trans ((gI_sI_nf (by decide)).trans (gI_sI_at))))))).trans (zbo_neg id).symm)
        ((gI_sI_nf (by decide)).trans ((gI_sI_nf (by decide)).trans ((gI_sI_nf (by decide)).trans ((gI_sI_nf (by decide)).trans ((gI_sI_nf (by decide)).trans (gI_sI_at))))))
        ((gI_sI_nf (by decide)).trans (gI_sI_at))
        (gI_sI_at) jp11_0 jp11_1 jp11_2 jp11_3 jp11_4 jp11_5 jp11_6 jp11_7 jp11_8 jp11_9 jp11_m jp11_l)
  · obtain ⟨g0, g1, g2, g3, g4⟩ := xF_new hF (by omega) hN2 3 3 pl rfl hpl
    exact h2 (tyN_none ((tyB_P (by omega) _ _).trans (zop_neg (fun x => c ((jp11_c h4x h4y).mpr x))))) _ _ g0 g1.n g2 ⟨g3, g4⟩

theorem jp12_0 {a b : Int32} : ((bt 0 a) ∧ (bt 0 b)) ↔ bt 0 (pt12_e1 a b) := by
  simp only [pt12_e1, bt_or, bt_and, bt_znt, bt_zit, bt_zbo, is_1, is_2, is_4, is_8, is_16, is_20, is_24, is_32, is_64, is_96, is_128, is_152, is_160, is_256, is_288, is_384, is_512, bl_0_0, bm_0_0, bl_1_0, bm_1_0, bl_2_0, bm_2_0, bl_4_0, bm_4_0, bl_8_0, bm_8_0, bl_16_0, bm_16_0, bl_32_0, bm_32_0, bl_64_0, bm_64_0, bl_96_0, bm_96_0, bl_128_0, bm_128_0, bl_256_0, bm_256_0, true_and, and_true, false_and, and_false, or_false, false_or, true_or, or_true, not_true_eq_false, not_false_eq_true, iff_self] <;> grind
theorem jp12_1 {a b : Int32} : (((bt 1 a) ∧ (bt 0 b)) ∨ ((bt 0 a) ∧ (bt 1 b))) ↔ bt 1 (pt12_e1 a b) := by
  simp only [pt12_e1, bt_or, bt_and, bt_znt, bt_zit, bt_zbo, is_1, is_2, is_4, is_8, is_16, is_20, is_24, is_32, is_64, is_96, is_128, is_152, is_160, is_256, is_288, is_384, is_512, bl_0_1, bm_0_1, bl_1_1, bm_1_1, bl_2_1, bm_2_1, bl_4_1, bm_4_1, bl_8_1, bm_8_1, bl_16_1, bm_16_1, bl_32_1, bm_32_1, bl_64_1, bm_64_1, bl_96_1, bm_96_1, bl_128_1, bm_128_1, bl_256_1, bm_256_1, true_and, and_true, false_and, and_false, or_false, false_or, true_or, or_true, not_true_eq_false, not_false_eq_true, iff_self] <;> grind
theorem jp12_2 {a b : Int32} : ((bt 2 a) ∨ ((bt 0 a) ∧ (bt 2 b))) ↔ bt 2 (pt12_e1 a b) := by
  simp only [pt12_e1, bt_or, bt_and, bt_znt, bt_zit, bt_zbo, is_1, is_2, is_4, is_8, is_16, is_20, is_24, is_32, is_64, is_96, is_128, is_152, is_160, is_256, is_288, is_384, is_512, bl_0_2, bm_0_2, bl_1_2, bm_1_2, bl_2_2, bm_2_2, bl_4_2, bm_4_2, bl_8_2, bm_8_2, bl_16_2, bm_16_2, bl_32_2, bm_32_2, bl_64_2, bm_64_2, bl_96_2, bm_96_2, bl_128_2, bm_128_2, bl_256_2, bm_256_2, true_and, and_true, false_and, and_false, or_false, false_or, true_or, or_true, not_true_eq_false, not_false_eq_true, iff_self] <;> grind
theorem jp12_3 {a b : Int32} : ((bt 3 a) ∧ (bt 3 b)) ↔ bt 3 (pt12_e1 a b) := by
  simp only [pt12_e1, bt_or, bt_and, bt_znt, bt_zit, bt_zbo, is_1, is_2, is_4, is_8, is_16, is_20, is_24, is_32, is_64, is_96, is_128, is_152, is_160, is_256, is_288, is_384, is_512, bl_0_3, bm_0_3, bl_1_3, bm_1_3, bl_2_3, bm_2_3, bl_4_3, bm_4_3, bl_8_3, bm_8_3, bl_16_3, bm_16_3, bl_32_3, bm_32_3, bl_64_3, bm_64_3, bl_96_3, bm_96_3, bl_128_3, bm_128_3, bl_256_3, bm_256_3, true_and, and_true, false_and, and_false, or_false, false_or, true_or, or_true, not_true_eq_false, not_false_eq_true, iff_self] <;> grind
theorem jp12_4 {a b : Int32} : (True) ↔ bt 4 (pt12_e1 a b) := by
  simp only [pt12_e1, bt_or, bt_and, bt_znt, bt_zit, bt_zbo, is_1, is_2, is_4, is_8, is_16, is_20, is_24, is_32, is_64, is_96, is_128, is_152, is_160, is_256, is_288, is_384, is_512, bl_0_4, bm_0_4, bl_1_4, bm_1_4, bl_2_4, bm_2_4, bl_4_4, bm_4_4, bl_8_4, bm_8_4, bl_16_4, bm_16_4, bl_32_4, bm_32_4, bl_64_4, bm_64_4, bl_96_4, bm_96_4, bl_128_4, bm_128_4, bl_256_4, bm_256_4, true_and, and_true, false_and, and_false, or_false, false_or, true_or, or_true, not_true_eq_false, not_false_eq_true, iff_self] <;> grind
theorem jp12_5 {a b : Int32} : ((bt 5 a) ∨ (bt 5 b)) ↔ bt 5 (pt12_e1 a b) := by
  simp only [pt12_e1, bt_or, bt_and, bt_znt, bt_zit, bt_zbo, is_1, is_2, is_4, is_8, is_16, is_20, is_24, is_32, is_64, is_96, is_128, is_152, is_160, is_256, is_288, is_384, is_512, bl_0_5, bm_0_5, bl_1_5, bm_1_5, bl_2_5, bm_2_5, bl_4_5, bm_4_5, bl_8_5, bm_8_5, bl_16_5, bm_16_5, bl_32_5, bm_32_5, bl_64_5, bm_64_5, bl_96_5, bm_96_5, bl_128_5, bm_128_5, bl_256_5, bm_256_5, true_and, and_true, false_and, and_false, or_false, false_or, true_or, or_true, not_true_eq_false, not_false_eq_true, iff_self] <;> grind
theorem jp12_6 {a b : Int32} : ((((bt 6 a) ∧ (bt 6 b)) ∨ ((bt 5 a) ∧ (bt 6 a))) ∨ ((bt 5 b) ∧ (bt 6 b))) ↔ bt 6 (pt12_e1 a b) := by
  simp only [pt12_e1, bt_or, bt_and, bt_znt, bt_zit, bt_zbo, is_1, is_2, is_4, is_8, is_16, is_20, is_24, is_32, is_64, is_96, is_128, is_152, is_160, is_256, is_288, is_384, is_512, bl_0_6, bm_0_6, bl_1_6, bm_1_6, bl_2_6, bm_2_6, bl_4_6, bm_4_6, bl_8_6, bm_8_6, bl_16_6, bm_16_6, bl_32_6, bm_32_6, bl_64_6, bm_64_6, bl_96_6, bm_96_6, bl_128_6, bm_128_6, bl_256_6, bm_256_6, true_and, and_true, false_and, and_false, or_false, false_or, true_or, or_true, not_true_eq_false, not_false_eq_true, iff_self] <;> grind
theorem jp12_7 {a b : Int32} : ((bt 7 a) ∧ (bt 7 b) ∧ (bt 5 a) ∧ (bt 5 b)) ↔ bt 7 (pt12_e1 a b) := by
  simp only [pt12_e1, bt_or, bt_and, bt_znt, bt_zit, bt_zbo, is_1, is_2, is_4, is_8, is_16, is_20, is_24, is_32, is_64, is_96, is_128, is_152, is_160, is_256, is_288, is_384, is_512, bl_0_7, bm_0_7, bl_1_7, bm_1_7, bl_2_7, bm_2_7, bl_4_7, bm_4_7, bl_8_7, bm_8_7, bl_16_7, bm_16_7, bl_32_7, bm_32_7, bl_64_7, bm_64_7, bl_96_7, bm_96_7, bl_128_7, bm_128_7, bl_256_7, bm_256_7, true_and, and_true, false_and, and_false, or_false, false_or, true_or, or_true, not_true_eq_false, not_false_eq_true, iff_self] <;> grind
theorem jp12_8 {a b : Int32} : ((bt 8 a) ∧ (bt 8 b)) ↔ bt 8 (pt12_e1 a b) := by
  simp only [pt12_e1, bt_or, bt_and, bt_znt, bt_zit, bt_zbo, is_1, is_2, is_4, is_8, is_16, is_20, is_24, is_32, is_64, is_96, is_128, is_152, is_160, is_256, is_288, is_384, is_512, bl_0_8, bm_0_8, bl_1_8, bm_1_8, bl_2_8, bm_2_8, bl_4_8, bm_4_8, bl_8_8, bm_8_8, bl_16_8, bm_16_8, bl_32_8, bm_32_8, bl_64_8, bm_64_8, bl_96_8, bm_96_8, bl_128_8, bm_128_8, bl_256_8, bm_256_8, true_and, and_true, false_and, and_false, or_false, false_or, true_or, or_true, not_true_eq_false, not_false_eq_true, iff_self] <;> grind
theorem jp12_9 {a b : Int32} : ¬ bt 9 (pt12_e1 a b) := by
  simp only [pt12_e1, bt_or, bt_and, bt_znt, bt_zit, bt_zbo, is_1, is_2, is_4, is_8, is_16, is_20, is_24, is_32, is_64, is_96, is_128, is_152, is_160, is_256, is_288, is_384, is_512, bl_0_9, bm_0_9, bl_1_9, bm_1_9, bl_2_9, bm_2_9, bl_4_9, bm_4_9, bl_8_9, bm_8_9, bl_16_9, bm_16_9, bl_32_9, bm_32_9, bl_64_9, bm_64_9, bl_96_9, bm_96_9, bl_128_9, bm_128_9, bl_256_9, bm_256_9, true_and, and_true, false_and, and_false, or_false, false_or, true_or, or_true, not_true_eq_false, not_false_eq_true, iff_self] <;> grind
theorem jp12_c {p q a b : Int32} (hp : tB4 p) (hq : tB4 q) : (((p + 1) = 1) ∧ ((q + 1) = 4)) ↔ ((p = 0) ∧ (q = 3)) := by
  rcases hp with rfl | rfl | rfl | rfl <;> rcases hq with rfl | rfl | rfl | rfl <;> simp [is_8, is_16, is_24]
theorem jp12_m {p q a b tx ty : Int32} : (((bt 9 a) ∨ (((¬ ((((0 : Int32) ||| tx) &&& (1 : Int32)) = 0)) ∧ (¬ ((ty &&& (2 : Int32)) = 0))) ∨ ((¬ ((((0 : Int32) ||| tx) &&& (2 : Int32)) = 0)) ∧ (¬ ((ty &&& (1 : Int32)) = 0)))) ∨ ((¬ ((((0 : Int32) ||| tx) &&& (4 : Int32)) = 0)) ∧ (¬ ((ty &&& (8 : Int32)) = 0))) ∨ ((¬ ((((0 : Int32) ||| tx) &&& (8 : Int32)) = 0)) ∧ (¬ ((ty &&& (4 : Int32)) = 0)))) ∨ (bt 9 b)) ↔ tyMx 12 0 [(p, a, tx), (q, b, ty)] := by
  rw [tyMx_2]
  simp only [nz_1, nz_2, nz_4, nz_8, bt_or, bl_0_0, bl_0_1, bl_0_2, bl_0_3, false_or, Classical.not_not]
  simp only [tog, mxb]
  grind
theorem jp12_l {p q a b tx ty : Int32} : ((0 : Int32) ||| tx) ||| ty = lkL 12 0 ||| lkAll [(p, a, tx), (q, b, ty)] := by
  show _ = (0 : Int32) ||| (((0 : Int32) ||| tx) ||| ty)
  rw [Int32.zero_or]

theorem xj_P12 {d : Nat} {S : zS} (hF : zFin true S) (hd : 2 ≤ d) {n pl x y : Nat} {p : Int32} {a : Int32} {tx : Int32} {q : Int32} {b : Int32} {ty : Int32} (hn0 : 1639 ≤ n) (hn : n < gN S) (hx : x < gN S) (hxn : x ≠ n) (hcx : zNc (ztyp S x) = true) (hy : y < gN S) (hyn : y ≠ n) (hcy : zNc (ztyp S y) = true) (hN2 : gN S < 1900000) (htn : ztyp S n = 20) (how : gI S 187 n = Int32.ofNat 1) (hpx : gP S 188 n = some x) (hpy : gP S 189 n = some y) (hpl : gI S 144 n = Int32.ofNat pl) (hXx : xTy S x (p, a, tx)) (hXy : xTy S y (q, b, ty)) (hm0 : gI S 156 n = 0) (ht0 : gI S 146 n = 0) (h4x : tB4 p) (h4y : tB4 q) {post : Outcome × zS → Prop}
    (h1 : ∀ t S', zFin true S' → tyN 12 0 [(p, a, tx), (q, b, ty)] = some t → xJd S n S' → xTy S' n t → post (.returned none, S'))
    (h2 : tyN 12 0 [(p, a, tx), (q, b, ty)] = none → ∀ S' q, zFin true S' → xFn S n S' → xFl S' q 3 pl → gN S + 1 = gN S' ∧ gZ S' ≤ gZ S + 3 → post (.threw q, S')) : zCall d 371 [.ref n] S post := by
  have hm0' : gI S 156 n = zbo False := hm0.trans (zbo_neg id).symm
  refine pj_1 hF (by omega) n x y p q a b tx ty hn0 hn hx hxn hy hyn hcx hcy hN2 htn how hpx hpy hXx.1 hXx.2.1.1 hXx.2.1.2.1 hXx.2.1.2.2.1 hXx.2.1.2.2.2.1 hXx.2.1.2.2.2.2.1 hXx.2.1.2.2.2.2.2.1 hXx.2.1.2.2.2.2.2.2.1 hXx.2.1.2.2.2.2.2.2.2.1 hXx.2.1.2.2.2.2.2.2.2.2.1 hXx.2.1.2.2.2.2.2.2.2.2.2 hXx.2.2 hXy.1 hXy.2.1.1 hXy.2.1.2.1 hXy.2.1.2.2.1 hXy.2.1.2.2.2.1 hXy.2.1.2.2.2.2.1 hXy.2.1.2.2.2.2.2.1 hXy.2.1.2.2.2.2.2.2.1 hXy.2.1.2.2.2.2.2.2.2.1 hXy.2.1.2.2.2.2.2.2.2.2.1 hXy.2.1.2.2.2.2.2.2.2.2.2 hXy.2.2 hm0' ht0 (fun c0 => ?_) (fun c => ?_)
  · have hq : tyB 12 0 [(p, a, tx), (q, b, ty)] = some (0, pt12_e1 a b) := (tyB_P (by omega) _ _).trans (zop_pos ((jp12_c h4x h4y).mp c0))
    refine h1 _ _ (by first | exact hF | exact hF) (tyN_some hq) (xJd_s (xJd_s (xJd_s (xJd_s (xJd_s (xJd_s (xJd_s (xJd_s (xJd_s (xJd_s (xJd_s (xJd_s (xJd_s (xJd_s (xJd_s xJd.rf (by decide)) (by decide)) (by decide)) (by decide)) (by decide)) (by decide)) (by decide)) (by decide)) (by decide)) (by decide)) (by decide)) (by decide)) (by decide)) (by decide)) (by decide)) (xTy_mk (b := 0) (f := pt12_e1 a b) (MX := tyMx 12 0 [(p, a, tx), (q, b, ty)]) (((gI_sI_nf (by decide)).trans ((gI_sI_nf (by decide)).trans ((gI_sI_nf (by decide)).trans ((gI_sI_nf (by decide)).trans ((gI_sI_nf (by decide)).trans ((gI_sI_nf (by decide)).trans ((gI_sI_nf (by decide)).trans ((gI_sI_nf (by decide)).trans ((gI_sI_nf (by decide)).trans ((gI_sI_nf (by decide)).trans ((gI_sI_nf (by decide)).trans ((gI_sI_nf (by decide)).trans ((gI_sI_nf (by decide)).trans ((gI_sI_nf (by decide)).trans (gI_sI_at))))))))))))))).trans (show (1 : Int32) = 0 + 1 from by decide))
        ((gI_sI_nf (by decide)).trans ((gI_sI_nf (by decide)).trans ((gI_sI_nf (by decide)).trans ((gI_sI_nf (by decide)).trans ((gI_sI_nf (by decide)).trans ((gI_sI_nf (by decide)).trans ((gI_sI_nf (by decide)).trans ((gI_sI_nf (by decide)).trans ((gI_sI_nf (by decide)).trans ((gI_sI_nf (by decide)).trans ((gI_sI_nf (by decide)).trans ((gI_sI_nf (by decide)).trans ((gI_sI_nf (by decide)).trans (gI_sI_at))))))))))))))
        ((gI_sI_nf (by decide)).trans ((gI_sI_nf (by decide)).trans ((gI_sI_nf (by decide)).trans ((gI_sI_nf (by decide)).trans ((gI_sI_nf (by decide)).trans ((gI_sI_nf (by decide)).trans ((gI_sI_nf (by decide)).trans ((gI_sI_nf (by decide)).trans ((gI_sI_nf (by decide)).trans ((gI_sI_nf (by decide)).trans ((gI_sI_nf (by decide)).trans ((gI_sI_nf (by decide)).trans (gI_sI_at)))))))))))))
        ((gI_sI_nf (by decide)).trans ((gI_sI_nf (by decide)).trans ((gI_sI_nf (by decide)).trans ((gI_sI_nf (by decide)).trans ((gI_sI_nf (by decide)).trans ((gI_sI_nf (by decide)).trans ((gI_sI_nf (by decide)).trans ((gI_sI_nf (by decide)).trans ((gI_sI_nf (by decide)).trans ((gI_sI_nf (by decide)).trans ((gI_sI_nf (by decide)).trans (gI_sI_at))))))))))))
        ((gI_sI_nf (by decide)).trans ((gI_sI_nf (by decide)).trans ((gI_sI_nf (by decide)).trans ((gI_sI_nf (by decide)).trans ((gI_sI_nf (by decide)).trans ((gI_sI_nf (by decide)).trans ((gI_sI_nf (by decide)).trans ((gI_sI_nf (by decide)).trans ((gI_sI_nf (by decide)).trans ((gI_sI_nf (by decide)).trans (gI_sI_at)))))))))))
        (((gI_sI_nf (by decide)).trans ((gI_sI_nf (by decide)).trans ((gI_sI_nf (by decide)).trans ((gI_sI_nf (by decide)).trans ((gI_sI_nf (by decide)).trans ((gI_sI_nf (by decide)).trans ((gI_sI_nf (by decide)).trans ((gI_sI_nf (by decide)).trans ((gI_sI_nf (by decide)).trans (gI_sI_at)))))))))).trans (zbo_pos trivial).symm)
        ((gI_sI_nf (by decide)).trans ((gI_sI_nf (by decide)).trans ((gI_sI_nf (by decide)).trans ((gI_sI_nf (by decide)).trans ((gI_sI_nf (by decide)).trans ((gI_sI_nf (by decide)).trans ((gI_sI_nf (by decide)).trans ((gI_sI_nf (by decide)).trans (gI_sI_at)))))))))
        ((gI_sI_nf (by decide)).trans ((gI_sI_nf (by decide)).trans ((gI_sI_nf (by decide)).trans ((gI_sI_nf (by decide)).trans ((gI_sI_nf (by decide)).trans ((gI_sI_nf (by decide)).trans ((gI_sI_nf (by decide)).trans (gI_sI_at))))))))
        ((gI_sI_nf (by decide)).trans ((gI_sI_nf (by decide)).trans ((gI_sI_nf (by decide)).trans ((gI_sI_nf (by decide)).trans ((gI_sI_nf (by decide)).trans ((gI_sI_nf (by decide)).trans (gI_sI_at)))))))
        ((gI_sI_nf (by decide)).trans ((gI_sI_nf (by decide)).trans ((gI_sI_nf (by decide)).trans ((gI_sI_nf (by decide)).trans ((gI_sI_nf (by decide)).trans (gI_sI_at))))))
        ((gI_sI_nf (by decide)).trans (gI_sI_at))
        (gI_sI_at) jp12_0 jp12_1 jp12_2 jp12_3 jp12_4 jp12_5 jp12_6 jp12_7 jp12_8 jp12_9 jp12_m jp12_l)
  · obtain ⟨g0, g1, g2, g3, g4⟩ := xF_new hF (by omega) hN2 3 3 pl rfl hpl
    exact h2 (tyN_none ((tyB_P (by omega) _ _).trans (zop_neg (fun x => c ((jp12_c h4x h4y).mpr x))))) _ _ g0 g1.n g2 ⟨g3, g4⟩

theorem jp13_0 {a b : Int32} : ((bt 0 a) ∧ (bt 0 b)) ↔ bt 0 ((((((((a &&& b) &&& (1 : Int32)) ||| (Int32.ofNat (znt ((((a &&& (2 : Int32)) = 2) ∧ ((b &&& (1 : Int32)) = 1)) ∨ (((a &&& (1 : Int32)) = 1) ∧ ((b &&& (2 : Int32)) = 2))) 2 0))) ||| (8 : Int32)) ||| (16 : Int32)) ||| ((a &&& b) &&& (32 : Int32))) ||| (128 : Int32)) ||| (Int32.ofNat (znt ((((a &&& b) &&& (384 : Int32)) = 384) ∧ (((a ||| b) &&& (32 : Int32)) = 32)) 256 0))) := by
  simp only [bt_or, bt_and, bt_znt, bt_zit, bt_zbo, is_1, is_2, is_4, is_8, is_16, is_20, is_24, is_32, is_64, is_96, is_128, is_152, is_160, is_256, is_288, is_384, is_512, bl_0_0, bm_0_0, bl_1_0, bm_1_0, bl_2_0, bm_2_0, bl_8_0, bm_8_0, bl_16_0, bm_16_0, bl_32_0, bm_32_0, bl_128_0, bm_128_0, bl_256_0, bm_256_0, true_and, and_true, false_and, and_false, or_false, false_or, true_or, or_true, not_true_eq_false, not_false_eq_true, iff_self] <;> grind
theorem jp13_1 {a b : Int32} : (((bt 1 a) ∧ (bt 0 b)) ∨ ((bt 0 a) ∧ (bt 1 b))) ↔ bt 1 ((((((((a &&& b) &&& (1 : Int32)) ||| (Int32.ofNat (znt ((((a &&& (2 : Int32)) = 2) ∧ ((b &&& (1 : Int32)) = 1)) ∨ (((a &&& (1 : Int32)) = 1) ∧ ((b &&& (2 : Int32)) = 2))) 2 0))) ||| (8 : Int32)) ||| (16 : Int32)) ||| ((a &&& b) &&& (32 : Int32))) ||| (128 : Int32)) ||| (Int32.ofNat (znt ((((a &&& b) &&& (384 : Int32)) = 384) ∧ (((a ||| b) &&& (32 : Int32)) = 32)) 256 0))) := by
  simp only [bt_or, bt_and, bt_znt, bt_zit, bt_zbo, is_1, is_2, is_4, is_8, is_16, is_20, is_24, is_32, is_64, is_96, is_128, is_152, is_160, is_256, is_288, is_384, is_512, bl_0_1, bm_0_1, bl_1_1, bm_1_1, bl_2_1, bm_2_1, bl_8_1, bm_8_1, bl_16_1, bm_16_1, bl_32_1, bm_32_1, bl_128_1, bm_128_1, bl_256_1, bm_256_1, true_and, and_true, false_and, and_false, or_false, false_or, true_or, or_true, not_true_eq_false, not_false_eq_true, iff_self] <;> grind
theorem jp13_2 {a b : Int32} : (False) ↔ bt 2 ((((((((a &&& b) &&& (1 : Int32)) ||| (Int32.ofNat (znt ((((a &&& (2 : Int32)) = 2) ∧ ((b &&& (1 : Int32)) = 1)) ∨ (((a &&& (1 : Int32)) = 1) ∧ ((b &&& (2 : Int32)) = 2))) 2 0))) ||| (8 : Int32)) ||| (16 : Int32)) ||| ((a &&& b) &&& (32 : Int32))) ||| (128 : Int32)) ||| (Int32.ofNat (znt ((((a &&& b) &&& (384 : Int32)) = 384) ∧ (((a ||| b) &&& (32 : Int32)) = 32)) 256 0))) := by
  simp only [bt_or, bt_and, bt_znt, bt_zit, bt_zbo, is_1, is_2, is_4, is_8, is_16, is_20, is_24, is_32, is_64, is_96, is_128, is_152, is_160, is_256, is_288, is_384, is_512, bl_0_2, bm_0_2, bl_1_2, bm_1_2, bl_2_2, bm_2_2, bl_8_2, bm_8_2, bl_16_2, bm_16_2, bl_32_2, bm_32_2, bl_128_2, bm_128_2, bl_256_2, bm_256_2, true_and, and_true, false_and, and_false, or_false, false_or, true_or, or_true, not_true_eq_false, not_false_eq_true, iff_self] <;> grind
theorem jp13_3 {a b : Int32} : (True) ↔ bt 3 ((((((((a &&& b) &&& (1 : Int32)) ||| (Int32.ofNat (znt ((((a &&& (2 : Int32)) = 2) ∧ ((b &&& (1 : Int32)) = 1)) ∨ (((a &&& (1 : Int32)) = 1) ∧ ((b &&& (2 : Int32)) = 2))) 2 0))) ||| (8 : Int32)) ||| (16 : Int32)) ||| ((a &&& b) &&& (32 : Int32))) ||| (128 : Int32)) ||| (Int32.ofNat (znt ((((a &&& b) &&& (384 : Int32)) = 384) ∧ (((a ||| b) &&& (32 : Int32)) = 32)) 256 0))) := by
  simp only [bt_or, bt_and, bt_znt, bt_zit, bt_zbo, is_1, is_2, is_4, is_8, is_16, is_20, is_24, is_32, is_64, is_96, is_128, is_152, is_160, is_256, is_288, is_384, is_512, bl_0_3, bm_0_3, bl_1_3, bm_1_3, bl_2_3, bm_2_3, bl_8_3, bm_8_3, bl_16_3, bm_16_3, bl_32_3, bm_32_3, bl_128_3, bm_128_3, bl_256_3, bm_256_3, true_and, and_true, false_and, and_false, or_false, false_or, true_or, or_true, not_true_eq_false, not_false_eq_true, iff_self] <;> grind
theorem jp13_4 {a b : Int32} : (True) ↔ bt 4 ((((((((a &&& b) &&& (1 : Int32)) ||| (Int32.ofNat (znt ((((a &&& (2 : Int32)) = 2) ∧ ((b &&& (1 : Int32)) = 1)) ∨ (((a &&& (1 : Int32)) = 1) ∧ ((b &&& (2 : Int32)) = 2))) 2 0))) ||| (8 : Int32)) ||| (16 : Int32)) ||| ((a &&& b) &&& (32 : Int32))) ||| (128 : Int32)) ||| (Int32.ofNat (znt ((((a &&& b) &&& (384 : Int32)) = 384) ∧ (((a ||| b) &&& (32 : Int32)) = 32)) 256 0))) := by
  simp only [bt_or, bt_and, bt_znt, bt_zit, bt_zbo, is_1, is_2, is_4, is_8, is_16, is_20, is_24, is_32, is_64, is_96, is_128, is_152, is_160, is_256, is_288, is_384, is_512, bl_0_4, bm_0_4, bl_1_4, bm_1_4, bl_2_4, bm_2_4, bl_8_4, bm_8_4, bl_16_4, bm_16_4, bl_32_4, bm_32_4, bl_128_4, bm_128_4, bl_256_4, bm_256_4, true_and, and_true, false_and, and_false, or_false, false_or, true_or, or_true, not_true_eq_false, not_false_eq_true, iff_self] <;> grind
theorem jp13_5 {a b : Int32} : ((bt 5 a) ∧ (bt 5 b)) ↔ bt 5 ((((((((a &&& b) &&& (1 : Int32)) ||| (Int32.ofNat (znt ((((a &&& (2 : Int32)) = 2) ∧ ((b &&& (1 : Int32)) = 1)) ∨ (((a &&& (1 : Int32)) = 1) ∧ ((b &&& (2 : Int32)) = 2))) 2 0))) ||| (8 : Int32)) ||| (16 : Int32)) ||| ((a &&& b) &&& (32 : Int32))) ||| (128 : Int32)) ||| (Int32.ofNat (znt ((((a &&& b) &&& (384 : Int32)) = 384) ∧ (((a ||| b) &&& (32 : Int32)) = 32)) 256 0))) := by
  simp only [bt_or, bt_and, bt_znt, bt_zit, bt_zbo, is_1, is_2, is_4, is_8, is_16, is_20, is_24, is_32, is_64, is_96, is_128, is_152, is_160, is_256, is_288, is_384, is_512, bl_0_5, bm_0_5, bl_1_5, bm_1_5, bl_2_5, bm_2_5, bl_8_5, bm_8_5, bl_16_5, bm_16_5, bl_32_5, bm_32_5, bl_128_5, bm_128_5, bl_256_5, bm_256_5, true_and, and_true, false_and, and_false, or_false, false_or, true_or, or_true, not_true_eq_false, not_false_eq_true, iff_self] <;> grind
theorem jp13_6 {a b : Int32} : (False) ↔ bt 6 ((((((((a &&& b) &&& (1 : Int32)) ||| (Int32.ofNat (znt ((((a &&& (2 : Int32)) = 2) ∧ ((b &&& (1 : Int32)) = 1)) ∨ (((a &&& (1 : Int32)) = 1) ∧ ((b &&& (2 : Int32)) = 2))) 2 0))) ||| (8 : Int32)) ||| (16 : Int32)) ||| ((a &&& b) &&& (32 : Int32))) ||| (128 : Int32)) ||| (Int32.ofNat (znt ((((a &&& b) &&& (384 : Int32)) = 384) ∧ (((a ||| b) &&& (32 : Int32)) = 32)) 256 0))) := by
  simp only [bt_or, bt_and, bt_znt, bt_zit, bt_zbo, is_1, is_2, is_4, is_8, is_16, is_20, is_24, is_32, is_64, is_96, is_128, is_152, is_160, is_256, is_288, is_384, is_512, bl_0_6, bm_0_6, bl_1_6, bm_1_6, bl_2_6, bm_2_6, bl_8_6, bm_8_6, bl_16_6, bm_16_6, bl_32_6, bm_32_6, bl_128_6, bm_128_6, bl_256_6, bm_256_6, true_and, and_true, false_and, and_false, or_false, false_or, true_or, or_true, not_true_eq_false, not_false_eq_true, iff_self] <;> grind
theorem jp13_7 {a b : Int32} : (True) ↔ bt 7 ((((((((a &&& b) &&& (1 : Int32)) ||| (Int32.ofNat (znt ((((a &&& (2 : Int32)) = 2) ∧ ((b &&& (1 : Int32)) = 1)) ∨ (((a &&& (1 : Int32)) = 1) ∧ ((b &&& (2 : Int32)) = 2))) 2 0))) ||| (8 : Int32)) ||| (16 : Int32)) ||| ((a &&& b) &&& (32 : Int32))) ||| (128 : Int32)) ||| (Int32.ofNat (znt ((((a &&& b) &&& (384 : Int32)) = 384) ∧ (((a ||| b) &&& (32 : Int32)) = 32)) 256 0))) := by
  simp only [bt_or, bt_and, bt_znt, bt_zit, bt_zbo, is_1, is_2, is_4, is_8, is_16, is_20, is_24, is_32, is_64, is_96, is_128, is_152, is_160, is_256, is_288, is_384, is_512, bl_0_7, bm_0_7, bl_1_7, bm_1_7, bl_2_7, bm_2_7, bl_8_7, bm_8_7, bl_16_7, bm_16_7, bl_32_7, bm_32_7, bl_128_7, bm_128_7, bl_256_7, bm_256_7, true_and, and_true, false_and, and_false, or_false, false_or, true_or, or_true, not_true_eq_false, not_false_eq_true, iff_self] <;> grind
theorem jp13_8 {a b : Int32} : (((bt 8 a) ∧ (bt 8 b)) ∧ (bt 7 a) ∧ (bt 7 b) ∧ ((bt 5 a) ∨ (bt 5 b))) ↔ bt 8 ((((((((a &&& b) &&& (1 : Int32)) ||| (Int32.ofNat (znt ((((a &&& (2 : Int32)) = 2) ∧ ((b &&& (1 : Int32)) = 1)) ∨ (((a &&& (1 : Int32)) = 1) ∧ ((b &&& (2 : Int32)) = 2))) 2 0))) ||| (8 : Int32)) ||| (16 : Int32)) ||| ((a &&& b) &&& (32 : Int32))) ||| (128 : Int32)) ||| (Int32.ofNat (znt ((((a &&& b) &&& (384 : Int32)) = 384) ∧ (((a ||| b) &&& (32 : Int32)) = 32)) 256 0))) := by
  simp only [bt_or, bt_and, bt_znt, bt_zit, bt_zbo, is_1, is_2, is_4, is_8, is_16, is_20, is_24, is_32, is_64, is_96, is_128, is_152, is_160, is_256, is_288, is_384, is_512, bl_0_8, bm_0_8, bl_1_8, bm_1_8, bl_2_8, bm_2_8, bl_8_8, bm_8_8, bl_16_8, bm_16_8, bl_32_8, bm_32_8, bl_128_8, bm_128_8, bl_256_8, bm_256_8, true_and, and_true, false_and, and_false, or_false, false_or, true_or, or_true, not_true_eq_false, not_false_eq_true, iff_self] <;> grind
theorem jp13_9 {a b : Int32} : ¬ bt 9 ((((((((a &&& b) &&& (1 : Int32)) ||| (Int32.ofNat (znt ((((a &&& (2 : Int32)) = 2) ∧ ((b &&& (1 : Int32)) = 1)) ∨ (((a &&& (1 : Int32)) = 1) ∧ ((b &&& (2 : Int32)) = 2))) 2 0))) ||| (8 : Int32)) ||| (16 : Int32)) ||| ((a &&& b) &&& (32 : Int32))) ||| (128 : Int32)) ||| (Int32.ofNat (znt ((((a &&& b) &&& (384 : Int32)) = 384) ∧ (((a ||| b) &&& (32 : Int32)) = 32)) 256 0))) := by
  simp only [bt_or, bt_and, bt_znt, bt_zit, bt_zbo, is_1, is_2, is_4, is_8, is_16, is_20, is_24, is_32, is_64, is_96, is_128, is_152, is_160, is_256, is_288, is_384, is_512, bl_0_9, bm_0_9, bl_1_9, bm_1_9, bl_2_9, bm_2_9, bl_8_9, bm_8_9, bl_16_9, bm_16_9, bl_32_9, bm_32_9, bl_128_9, bm_128_9, bl_256_9, bm_256_9, true_and, and_true, false_and, and_false, or_false, false_or, true_or, or_true, not_true_eq_false, not_false_eq_true, iff_self] <;> grind
theorem jp13_c {p q a b : Int32} (hp : tB4 p) (hq : tB4 q) : (((p + 1) = 1) ∧ (bt 3 a) ∧ ((q + 1) = 4) ∧ (bt 3 b)) ↔ ((p = 0) ∧ ((a &&& (8 : Int32)) = 8) ∧ (q = 3) ∧ ((b &&& (8 : Int32)) = 8)) := by
  rcases hp with rfl | rfl | rfl | rfl <;> rcases hq with rfl | rfl | rfl | rfl <;> simp [is_8, is_16, is_24]
theorem jp13_m {p q a b tx ty : Int32} : ((bt 9 a) ∨ (bt 9 b)) ↔ tyMx 13 0 [(p, a, tx), (q, b, ty)] := by
  rw [tyMx_2]
  simp only [nz_1, nz_2, nz_4, nz_8, bt_or, bl_0_0, bl_0_1, bl_0_2, bl_0_3, false_or, Classical.not_not]
  simp only [tog, mxb]
  grind
theorem jp13_l {p q a b tx ty : Int32} : ((0 : Int32) ||| tx) ||| ty = lkL 13 0 ||| lkAll [(p, a, tx), (q, b, ty)] := by
  show _ = (0 : Int32) ||| (((0 : Int32) ||| tx) ||| ty)
  rw [Int32.zero_or]

theorem xj_P13 {d : Nat} {S : zS} (hF : zFin true S) (hd : 2 ≤ d) {n pl x y : Nat} {p : Int32} {a : Int32} {tx : Int32} {q : Int32} {b : Int32} {ty : Int32} (hn0 : 1639 ≤ n) (hn : n < gN S) (hx : x < gN S) (hxn : x ≠ n) (hcx : zNc (ztyp S x) = true) (hy : y < gN S) (hyn : y ≠ n) (hcy : zNc (ztyp S y) = true) (hN2 : gN S < 1900000) (htn : ztyp S n = 20) (how : gI S 187 n = Int32.ofNat 2) (hpx : gP S 188 n = some x) (hpy : gP S 189 n = some y) (hpl : gI S 144 n = Int32.ofNat pl) (hXx : xTy S x (p, a, tx)) (hXy : xTy S y (q, b, ty)) (hm0 : gI S 156 n = 0) (ht0 : gI S 146 n = 0) (h4x : tB4 p) (h4y : tB4 q) {post : Outcome × zS → Prop}
    (h1 : ∀ t S', zFin true S' → tyN 13 0 [(p, a, tx), (q, b, ty)] = some t → xJd S n S' → xTy S' n t → post (.returned none, S'))
    (h2 : tyN 13 0 [(p, a, tx), (q, b, ty)] = none → ∀ S' q, zFin true S' → xFn S n S' → xFl S' q 3 pl → gN S + 1 = gN S' ∧ gZ S' ≤ gZ S + 3 → post (.threw q, S')) : zCall d 371 [.ref n] S post := by
  have hm0' : gI S 156 n = zbo False := hm0.trans (zbo_neg id).symm
  refine pj_2 hF (by omega) n x y p q a b tx ty hn0 hn hx hxn hy hyn hcx hcy hN2 htn how hpx hpy hXx.1 hXx.2.1.1 hXx.2.1.2.1 hXx.2.1.2.2.1 hXx.2.1.2.2.2.1 hXx.2.1.2.2.2.2.1 hXx.2.1.2.2.2.2.2.1 hXx.2.1.2.2.2.2.2.2.1 hXx.2.1.2.2.2.2.2.2.2.1 hXx.2.1.2.2.2.2.2.2.2.2.1 hXx.2.1.2.2.2.2.2.2.2.2.2 hXx.2.2 hXy.1 hXy.2.1.1 hXy.2.1.2.1 hXy.2.1.2.2.1 hXy.2.1.2.2.2.1 hXy.2.1.2.2.2.2.1 hXy.2.1.2.2.2.2.2.1 hXy.2.1.2.2.2.2.2.2.1 hXy.2.1.2.2.2.2.2.2.2.1 hXy.2.1.2.2.2.2.2.2.2.2.1 hXy.2.1.2.2.2.2.2.2.2.2.2 hXy.2.2 hm0' ht0 (fun c0 => ?_) (fun c => ?_)
  · have hq : tyB 13 0 [(p, a, tx), (q, b, ty)] = some (0, (((((((a &&& b) &&& (1 : Int32)) ||| (Int32.ofNat (znt ((((a &&& (2 : Int32)) = 2) ∧ ((b &&& (1 : Int32)) = 1)) ∨ (((a &&& (1 : Int32)) = 1) ∧ ((b &&& (2 : Int32)) = 2))) 2 0))) ||| (8 : Int32)) ||| (16 : Int32)) ||| ((a &&& b) &&& (32 : Int32))) ||| (128 : Int32)) ||| (Int32.ofNat (znt ((((a &&& b) &&& (384 : Int32)) = 384) ∧ (((a ||| b) &&& (32 : Int32)) = 32)) 256 0))) := (tyB_P (by omega) _ _).trans (zop_pos ((jp13_c h4x h4y).mp c0))
    refine h1 _ _ (by first | exact hF | exact hF) (tyN_some hq) (xJd_s (xJd_s (xJd_s (xJd_s (xJd_s (xJd_s (xJd_s (xJd_s (xJd_s (xJd_s (xJd_s (xJd_s (xJd_s (xJd_s xJd.rf (by decide)) (by decide)) (by decide)) (by decide)) (by decide)) (by decide)) (by decide)) (by decide)) (by decide)) (by decide)) (by decide)) (by decide)) (by decide)) (by decide)) (xTy_mk (b := 0) (f := (((((((a &&& b) &&& (1 : Int32)) ||| (Int32.ofNat (znt ((((a &&& (2 : Int32)) = 2) ∧ ((b &&& (1 : Int32)) = 1)) ∨ (((a &&& (1 : Int32)) = 1) ∧ ((b &&& (2 : Int32)) = 2))) 2 0))) ||| (8 : Int32)) ||| (16 : Int32)) ||| ((a &&& b) &&& (32 : Int32))) ||| (128 : Int32)) ||| (Int32.ofNat (znt ((((a &&& b) &&& (384 : Int32)) = 384) ∧ (((a ||| b) &&& (32 : Int32)) = 32)) 256 0))) (MX := tyMx 13 0 [(p, a, tx), (q, b, ty)]) (((gI_sI_nf (by decide)).trans ((gI_sI_nf (by decide)).trans ((gI_sI_nf (by decide)).trans ((gI_sI_nf (by decide)).trans ((gI_sI_nf (by decide)).trans ((gI_sI_nf (by decide)).trans ((gI_sI_nf (by decide)).trans ((gI_sI_nf (by decide)).trans ((gI_sI_nf (by decide)).trans ((gI_sI_nf (by decide)).trans ((gI_sI_nf (by decide)).trans ((gI_sI_nf (by decide)).trans ((gI_sI_nf (by decide)).trans (gI_sI_at)))))))))))))).trans (show (1 : Int32) = 0 + 1 from by decide))
        ((gI_sI_nf (by decide)).trans ((gI_sI_nf (by decide)).trans ((gI_sI_nf (by decide)).trans ((gI_sI_nf (by decide)).trans ((gI_sI_nf (by decide)).trans ((gI_sI_nf (by decide)).trans ((gI_sI_nf (by decide)).trans ((gI_sI_nf (by decide)).trans ((gI_sI_nf (by decide)).trans ((gI_sI_nf (by decide)).trans ((gI_sI_nf (by decide)).trans ((gI_sI_nf (by decide)).trans (gI_sI_at)))))))))))))
        ((gI_sI_nf (by decide)).trans ((gI_sI_nf (by decide)).trans ((gI_sI_nf (by decide)).trans ((gI_sI_nf (by decide)).trans ((gI_sI_nf (by decide)).trans ((gI_sI_nf (by decide)).trans ((gI_sI_nf (by decide)).trans ((gI_sI_nf (by decide)).trans ((gI_sI_nf (by decide)).trans ((gI_sI_nf (by decide)).trans ((gI_sI_nf (by decide)).trans (gI_sI_at))))))))))))
        (((gI_sI_nf (by decide)).trans ((gI_sI_nf (by decide)).trans ((gI_sI_nf (by decide)).trans ((gI_sI_nf (by decide)).trans ((gI_sI_nf (by decide)).trans ((gI_sI_nf (by decide)).trans ((gI_sI_nf (by decide)).trans ((gI_sI_nf (by decide)).trans ((gI_sI_nf (by decide)).trans ((gI_sI_nf (by decide)).trans (gI_sI_at))))))))))).trans (zbo_neg id).symm)
        (((gI_sI_nf (by decide)).trans ((gI_sI_nf (by decide)).trans ((gI_sI_nf (by decide)).trans ((gI_sI_nf (by decide)).trans ((gI_sI_nf (by decide)).trans ((gI_sI_nf (by decide)).trans ((gI_sI_nf (by decide)).trans ((gI_sI_nf (by decide)).trans ((gI_sI_nf (by decide)).trans (gI_sI_at)))))))))).trans (zbo_pos trivial).symm)
        (((gI_sI_nf (by decide)).trans ((gI_sI_nf (by decide)).trans ((gI_sI_nf (by decide)).trans ((gI_sI_nf (by decide)).trans ((gI_sI_nf (by decide)).trans ((gI_sI_nf (by decide)).trans ((gI_sI_nf (by decide)).trans ((gI_sI_nf (by decide)).trans (gI_sI_at))))))))).trans (zbo_pos trivial).symm)
        ((gI_sI_nf (by decide)).trans ((gI_sI_nf (by decide)).trans ((gI_sI_nf (by decide)).trans ((gI_sI_nf (by decide)).trans ((gI_sI_nf (by decide)).trans ((gI_sI_nf (by decide)).trans ((gI_sI_nf (by decide)).trans (gI_sI_at))))))))
        (((gI_sI_nf (by decide)).trans ((gI_sI_nf (by decide)).trans ((gI_sI_nf (by decide)).trans ((gI_sI_nf (by decide)).trans ((gI_sI_nf (by decide)).trans ((gI_sI_nf (by decide)).trans (gI_sI_at))))))).trans (zbo_neg id).symm)
        (((gI_sI_nf (by decide)).trans ((gI_sI_nf (by decide)).trans ((gI_sI_nf (by decide)).trans ((gI_sI_nf (by decide)).trans ((gI_sI_nf (by decide)).trans (gI_sI_at)))))).trans (zbo_pos trivial).symm)
        ((gI_sI_nf (by decide)).trans ((gI_sI_nf (by decide)).trans ((gI_sI_nf (by decide)).trans ((gI_sI_nf (by decide)).trans (gI_sI_at)))))
        ((gI_sI_nf (by decide)).trans (gI_sI_at))
        (gI_sI_at) jp13_0 jp13_1 jp13_2 jp13_3 jp13_4 jp13_5 jp13_6 jp13_7 jp13_8 jp13_9 jp13_m jp13_l)
  · obtain ⟨g0, g1, g2, g3, g4⟩ := xF_new hF (by omega) hN2 3 3 pl rfl hpl
    exact h2 (tyN_none ((tyB_P (by omega) _ _).trans (zop_neg (fun x => c ((jp13_c h4x h4y).mpr x))))) _ _ g0 g1.n g2 ⟨g3, g4⟩

theorem jp14_0 {a b : Int32} : ((bt 0 a) ∧ (bt 0 b)) ↔ bt 0 ((((((a &&& b) &&& (1 : Int32)) ||| (Int32.ofNat (znt (((a &&& (2 : Int32)) = 2) ∧ ((b &&& (1 : Int32)) = 1)) 2 0))) ||| ((a &&& b) &&& (32 : Int32))) ||| (64 : Int32)) ||| (Int32.ofNat (znt ((((a &&& b) &&& (256 : Int32)) = 256) ∧ ((a &&& (128 : Int32)) = 128) ∧ (((a ||| b) &&& (32 : Int32)) = 32)) 256 0))) := by
  simp only [bt_or, bt_and, bt_znt, bt_zit, bt_zbo, is_1, is_2, is_4, is_8, is_16, is_20, is_24, is_32, is_64, is_96, is_128, is_152, is_160, is_256, is_288, is_384, is_512, bl_0_0, bm_0_0, bl_1_0, bm_1_0, bl_2_0, bm_2_0, bl_32_0, bm_32_0, bl_64_0, bm_64_0, bl_128_0, bm_128_0, bl_256_0, bm_256_0, true_and, and_true, false_and, and_false, or_false, false_or, true_or, or_true, not_true_eq_false, not_false_eq_true, iff_self] <;> grind
theorem jp14_1 {a b : Int32} : ((bt 1 a) ∧ (bt 0 b)) ↔ bt 1 ((((((a &&& b) &&& (1 : Int32)) ||| (Int32.ofNat (znt (((a &&& (2 : Int32)) = 2) ∧ ((b &&& (1 : Int32)) = 1)) 2 0))) ||| ((a &&& b) &&& (32 : Int32))) ||| (64 : Int32)) ||| (Int32.ofNat (znt ((((a &&& b) &&& (256 : Int32)) = 256) ∧ ((a &&& (128 : Int32)) = 128) ∧ (((a ||| b) &&& (32 : Int32)) = 32)) 256 0))) := by
  simp only [bt_or, bt_and, bt_znt, bt_zit, bt_zbo, is_1, is_2, is_4, is_8, is_16, is_20, is_24, is_32, is_64, is_96, is_128, is_152, is_160, is_256, is_288, is_384, is_512, bl_0_1, bm_0_1, bl_1_1, bm_1_1, bl_2_1, bm_2_1, bl_32_1, bm_32_1, bl_64_1, bm_64_1, bl_128_1, bm_128_1, bl_256_1, bm_256_1, true_and, and_true, false_and, and_false, or_false, false_or, true_or, or_true, not_true_eq_false, not_false_eq_true, iff_self] <;> grind
theorem jp14_2 {a b : Int32} : (False) ↔ bt 2 ((((((a &&& b) &&& (1 : Int32)) ||| (Int32.ofNat (znt (((a &&& (2 : Int32)) = 2) ∧ ((b &&& (1 : Int32)) = 1)) 2 0))) ||| ((a &&& b) &&& (32 : Int32))) ||| (64 : Int32)) ||| (Int32.ofNat (znt ((((a &&& b) &&& (256 : Int32)) = 256) ∧ ((a &&& (128 : Int32)) = 128) ∧ (((a ||| b) &&& (32 : Int32)) = 32)) 256 0))) := by
  simp only [bt_or, bt_and, bt_znt, bt_zit, bt_zbo, is_1, is_2, is_4, is_8, is_16, is_20, is_24, is_32, is_64, is_96, is_128, is_152, is_160, is_256, is_288, is_384, is_512, bl_0_2, bm_0_2, bl_1_2, bm_1_2, bl_2_2, bm_2_2, bl_32_2, bm_32_2, bl_64_2, bm_64_2, bl_128_2, bm_128_2, bl_256_2, bm_256_2, true_and, and_true, false_and, and_false, or_false, false_or, true_or, or_true, not_true_eq_false, not_false_eq_true, iff_self] <;> grind
theorem jp14_3 {a b : Int32} : (False) ↔ bt 3 ((((((a &&& b) &&& (1 : Int32)) ||| (Int32.ofNat (znt (((a &&& (2 : Int32)) = 2) ∧ ((b &&& (1 : Int32)) = 1)) 2 0))) ||| ((a &&& b) &&& (32 : Int32))) ||| (64 : Int32)) ||| (Int32.ofNat (znt ((((a &&& b) &&& (256 : Int32)) = 256) ∧ ((a &&& (128 : Int32)) = 128) ∧ (((a ||| b) &&& (32 : Int32)) = 32)) 256 0))) := by
  simp only [bt_or, bt_and, bt_znt, bt_zit, bt_zbo, is_1, is_2, is_4, is_8, is_16, is_20, is_24, is_32, is_64, is_96, is_128, is_152, is_160, is_256, is_288, is_384, is_512, bl_0_3, bm_0_3, bl_1_3, bm_1_3, bl_2_3, bm_2_3, bl_32_3, bm_32_3, bl_64_3, bm_64_3, bl_128_3, bm_128_3, bl_256_3, bm_256_3, true_and, and_true, false_and, and_false, or_false, false_or, true_or, or_true, not_true_eq_false, not_false_eq_true, iff_self] <;> grind
theorem jp14_4 {a b : Int32} : (False) ↔ bt 4 ((((((a &&& b) &&& (1 : Int32)) ||| (Int32.ofNat (znt (((a &&& (2 : Int32)) = 2) ∧ ((b &&& (1 : Int32)) = 1)) 2 0))) ||| ((a &&& b) &&& (32 : Int32))) ||| (64 : Int32)) ||| (Int32.ofNat (znt ((((a &&& b) &&& (256 : Int32)) = 256) ∧ ((a &&& (128 : Int32)) = 128) ∧ (((a ||| b) &&& (32 : Int32)) = 32)) 256 0))) := by
  simp only [bt_or, bt_and, bt_znt, bt_zit, bt_zbo, is_1, is_2, is_4, is_8, is_16, is_20, is_24, is_32, is_64, is_96, is_128, is_152, is_160, is_256, is_288, is_384, is_512, bl_0_4, bm_0_4, bl_1_4, bm_1_4, bl_2_4, bm_2_4, bl_32_4, bm_32_4, bl_64_4, bm_64_4, bl_128_4, bm_128_4, bl_256_4, bm_256_4, true_and, and_true, false_and, and_false, or_false, false_or, true_or, or_true, not_true_eq_false, not_false_eq_true, iff_self] <;> grind
theorem jp14_5 {a b : Int32} : ((bt 5 a) ∧ (bt 5 b)) ↔ bt 5 ((((((a &&& b) &&& (1 : Int32)) ||| (Int32.ofNat (znt (((a &&& (2 : Int32)) = 2) ∧ ((b &&& (1 : Int32)) = 1)) 2 0))) ||| ((a &&& b) &&& (32 : Int32))) ||| (64 : Int32)) ||| (Int32.ofNat (znt ((((a &&& b) &&& (256 : Int32)) = 256) ∧ ((a &&& (128 : Int32)) = 128) ∧ (((a ||| b) &&& (32 : Int32)) = 32)) 256 0))) := by
  simp only [bt_or, bt_and, bt_znt, bt_zit, bt_zbo, is_1, is_2, is_4, is_8, is_16, is_20, is_24, is_32, is_64, is_96, is_128, is_152, is_160, is_256, is_288, is_384, is_512, bl_0_5, bm_0_5, bl_1_5, bm_1_5, bl_2_5, bm_2_5, bl_32_5, bm_32_5, bl_64_5, bm_64_5, bl_128_5, bm_128_5, bl_256_5, bm_256_5, true_and, and_true, false_and, and_false, or_false, false_or, true_or, or_true, not_true_eq_false, not_false_eq_true, iff_self] <;> grind
theorem jp14_6 {a b : Int32} : (True) ↔ bt 6 ((((((a &&& b) &&& (1 : Int32)) ||| (Int32.ofNat (znt (((a &&& (2 : Int32)) = 2) ∧ ((b &&& (1 : Int32)) = 1)) 2 0))) ||| ((a &&& b) &&& (32 : Int32))) ||| (64 : Int32)) ||| (Int32.ofNat (znt ((((a &&& b) &&& (256 : Int32)) = 256) ∧ ((a &&& (128 : Int32)) = 128) ∧ (((a ||| b) &&& (32 : Int32)) = 32)) 256 0))) := by
  simp only [bt_or, bt_and, bt_znt, bt_zit, bt_zbo, is_1, is_2, is_4, is_8, is_16, is_20, is_24, is_32, is_64, is_96, is_128, is_152, is_160, is_256, is_288, is_384, is_512, bl_0_6, bm_0_6, bl_1_6, bm_1_6, bl_2_6, bm_2_6, bl_32_6, bm_32_6, bl_64_6, bm_64_6, bl_128_6, bm_128_6, bl_256_6, bm_256_6, true_and, and_true, false_and, and_false, or_false, false_or, true_or, or_true, not_true_eq_false, not_false_eq_true, iff_self] <;> grind
theorem jp14_7 {a b : Int32} : (False) ↔ bt 7 ((((((a &&& b) &&& (1 : Int32)) ||| (Int32.ofNat (znt (((a &&& (2 : Int32)) = 2) ∧ ((b &&& (1 : Int32)) = 1)) 2 0))) ||| ((a &&& b) &&& (32 : Int32))) ||| (64 : Int32)) ||| (Int32.ofNat (znt ((((a &&& b) &&& (256 : Int32)) = 256) ∧ ((a &&& (128 : Int32)) = 128) ∧ (((a ||| b) &&& (32 : Int32)) = 32)) 256 0))) := by
  simp only [bt_or, bt_and, bt_znt, bt_zit, bt_zbo, is_1, is_2, is_4, is_8, is_16, is_20, is_24, is_32, is_64, is_96, is_128, is_152, is_160, is_256, is_288, is_384, is_512, bl_0_7, bm_0_7, bl_1_7, bm_1_7, bl_2_7, bm_2_7, bl_32_7, bm_32_7, bl_64_7, bm_64_7, bl_128_7, bm_128_7, bl_256_7, bm_256_7, true_and, and_true, false_and, and_false, or_false, false_or, true_or, or_true, not_true_eq_false, not_false_eq_true, iff_self] <;> grind
theorem jp14_8 {a b : Int32} : (((bt 8 a) ∧ (bt 8 b)) ∧ (bt 7 a) ∧ ((bt 5 a) ∨ (bt 5 b))) ↔ bt 8 ((((((a &&& b) &&& (1 : Int32)) ||| (Int32.ofNat (znt (((a &&& (2 : Int32)) = 2) ∧ ((b &&& (1 : Int32)) = 1)) 2 0))) ||| ((a &&& b) &&& (32 : Int32))) ||| (64 : Int32)) ||| (Int32.ofNat (znt ((((a &&& b) &&& (256 : Int32)) = 256) ∧ ((a &&& (128 : Int32)) = 128) ∧ (((a ||| b) &&& (32 : Int32)) = 32)) 256 0))) := by
  simp only [bt_or, bt_and, bt_znt, bt_zit, bt_zbo, is_1, is_2, is_4, is_8, is_16, is_20, is_24, is_32, is_64, is_96, is_128, is_152, is_160, is_256, is_288, is_384, is_512, bl_0_8, bm_0_8, bl_1_8, bm_1_8, bl_2_8, bm_2_8, bl_32_8, bm_32_8, bl_64_8, bm_64_8, bl_128_8, bm_128_8, bl_256_8, bm_256_8, true_and, and_true, false_and, and_false, or_false, false_or, true_or, or_true, not_true_eq_false, not_false_eq_true, iff_self] <;> grind
theorem jp14_9 {a b : Int32} : ¬ bt 9 ((((((a &&& b) &&& (1 : Int32)) ||| (Int32.ofNat (znt (((a &&& (2 : Int32)) = 2) ∧ ((b &&& (1 : Int32)) = 1)) 2 0))) ||| ((a &&& b) &&& (32 : Int32))) ||| (64 : Int32)) ||| (Int32.ofNat (znt ((((a &&& b) &&& (256 : Int32)) = 256) ∧ ((a &&& (128 : Int32)) = 128) ∧ (((a ||| b) &&& (32 : Int32)) = 32)) 256 0))) := by
  simp only [bt_or, bt_and, bt_znt, bt_zit, bt_zbo, is_1, is_2, is_4, is_8, is_16, is_20, is_24, is_32, is_64, is_96, is_128, is_152, is_160, is_256, is_288, is_384, is_512, bl_0_9, bm_0_9, bl_1_9, bm_1_9, bl_2_9, bm_2_9, bl_32_9, bm_32_9, bl_64_9, bm_64_9, bl_128_9, bm_128_9, bl_256_9, bm_256_9, true_and, and_true, false_and, and_false, or_false, false_or, true_or, or_true, not_true_eq_false, not_false_eq_true, iff_self] <;> grind
theorem jp14_c {p q a b : Int32} (hp : tB4 p) (hq : tB4 q) : ((((p + 1) = 1) ∧ (bt 3 a) ∧ (bt 4 a)) ∧ ((q + 1) = 2)) ↔ ((p = 0) ∧ ((a &&& (24 : Int32)) = 24) ∧ (q = 1)) := by
  rcases hp with rfl | rfl | rfl | rfl <;> rcases hq with rfl | rfl | rfl | rfl <;> simp [is_8, is_16, is_24]
theorem jp14_m {p q a b tx ty : Int32} : ((bt 9 a) ∨ (bt 9 b)) ↔ tyMx 14 0 [(p, a, tx), (q, b, ty)] := by
  rw [tyMx_2]
  simp only [nz_1, nz_2, nz_4, nz_8, bt_or, bl_0_0, bl_0_1, bl_0_2, bl_0_3, false_or, Classical.not_not]
  simp only [tog, mxb]
  grind
theorem jp14_l {p q a b tx ty : Int32} : ((0 : Int32) ||| tx) ||| ty = lkL 14 0 ||| lkAll [(p, a, tx), (q, b, ty)] := by
  show _ = (0 : Int32) ||| (((0 : Int32) ||| tx) ||| ty)
  rw [Int32.zero_or]

theorem xj_P14 {d : Nat} {S : zS} (hF : zFin true S) (hd : 2 ≤ d) {n pl x y : Nat} {p : Int32} {a : Int32} {tx : Int32} {q : Int32} {b : Int32} {ty : Int32} (hn0 : 1639 ≤ n) (hn : n < gN S) (hx : x < gN S) (hxn : x ≠ n) (hcx : zNc (ztyp S x) = true) (hy : y < gN S) (hyn : y ≠ n) (hcy : zNc (ztyp S y) = true) (hN2 : gN S < 1900000) (htn : ztyp S n = 20) (how : gI S 187 n = Int32.ofNat 3) (hpx : gP S 188 n = some x) (hpy : gP S 189 n = some y) (hpl : gI S 144 n = Int32.ofNat pl) (hXx : xTy S x (p, a, tx)) (hXy : xTy S y (q, b, ty)) (hm0 : gI S 156 n = 0) (ht0 : gI S 146 n = 0) (h4x : tB4 p) (h4y : tB4 q) {post : Outcome × zS → Prop}
    (h1 : ∀ t S', zFin true S' → tyN 14 0 [(p, a, tx), (q, b, ty)] = some t → xJd S n S' → xTy S' n t → post (.returned none, S'))
    (h2 : tyN 14 0 [(p, a, tx), (q, b, ty)] = none → ∀ S' q, zFin true S' → xFn S n S' → xFl S' q 3 pl → gN S + 1 = gN S' ∧ gZ S' ≤ gZ S + 3 → post (.threw q, S')) : zCall d 371 [.ref n] S post := by
  have hm0' : gI S 156 n = zbo False := hm0.trans (zbo_neg id).symm
  refine pj_3 hF (by omega) n x y p q a b tx ty hn0 hn hx hxn hy hyn hcx hcy hN2 htn how hpx hpy hXx.1 hXx.2.1.1 hXx.2.1.2.1 hXx.2.1.2.2.1 hXx.2.1.2.2.2.1 hXx.2.1.2.2.2.2.1 hXx.2.1.2.2.2.2.2.1 hXx.2.1.2.2.2.2.2.2.1 hXx.2.1.2.2.2.2.2.2.2.1 hXx.2.1.2.2.2.2.2.2.2.2.1 hXx.2.1.2.2.2.2.2.2.2.2.2 hXx.2.2 hXy.1 hXy.2.1.1 hXy.2.1.2.1 hXy.2.1.2.2.1 hXy.2.1.2.2.2.1 hXy.2.1.2.2.2.2.1 hXy.2.1.2.2.2.2.2.1 hXy.2.1.2.2.2.2.2.2.1 hXy.2.1.2.2.2.2.2.2.2.1 hXy.2.1.2.2.2.2.2.2.2.2.1 hXy.2.1.2.2.2.2.2.2.2.2.2 hXy.2.2 hm0' ht0 (fun c0 => ?_) (fun c => ?_)
  · have hq : tyB 14 0 [(p, a, tx), (q, b, ty)] = some (1, (((((a &&& b) &&& (1 : Int32)) ||| (Int32.ofNat (znt (((a &&& (2 : Int32)) = 2) ∧ ((b &&& (1 : Int32)) = 1)) 2 0))) ||| ((a &&& b) &&& (32 : Int32))) ||| (64 : Int32)) ||| (Int32.ofNat (znt ((((a &&& b) &&& (256 : Int32)) = 256) ∧ ((a &&& (128 : Int32)) = 128) ∧ (((a ||| b) &&& (32 : Int32)) = 32)) 256 0))) := (tyB_P (by omega) _ _).trans (zop_pos ((jp14_c h4x h4y).mp c0))
    refine h1 _ _ (by first | exact hF | exact hF) (tyN_some hq) (xJd_s (xJd_s (xJd_s (xJd_s (xJd_s (xJd_s (xJd_s (xJd_s (xJd_s (xJd_s (xJd_s (xJd_s (xJd_s (xJd_s xJd.rf (by decide)) (by decide)) (by decide)) (by decide)) (by decide)) (by decide)) (by decide)) (by decide)) (by decide)) (by decide)) (by decide)) (by decide)) (by decide)) (by decide)) (xTy_mk (b := 1) (f := (((((a &&& b) &&& (1 : Int32)) ||| (Int32.ofNat (znt (((a &&& (2 : Int32)) = 2) ∧ ((b &&& (1 : Int32)) = 1)) 2 0))) ||| ((a &&& b) &&& (32 : Int32))) ||| (64 : Int32)) ||| (Int32.ofNat (znt ((((a &&& b) &&& (256 : Int32)) = 256) ∧ ((a &&& (128 : Int32)) = 128) ∧ (((a ||| b) &&& (32 : Int32)) = 32)) 256 0))) (MX := tyMx 14 0 [(p, a, tx), (q, b, ty)]) (((gI_sI_nf (by decide)).trans ((gI_sI_nf (by decide)).trans ((gI_sI_nf (by decide)).trans ((gI_sI_nf (by decide)).trans ((gI_sI_nf (by decide)).trans ((gI_sI_nf (by decide)).trans ((gI_sI_nf (by decide)).trans ((gI_sI_nf (by decide)).trans ((gI_sI_nf (by decide)).trans ((gI_sI_nf (by decide)).trans ((gI_sI_nf (by decide)).trans ((gI_sI_nf (by decide)).trans ((gI_sI_nf (by decide)).trans (gI_sI_at)))))))))))))).trans (show (2 : Int32) = 1 + 1 from by decide))
        ((gI_sI_nf (by decide)).trans ((gI_sI_nf (by decide)).trans ((gI_sI_nf (by decide)).trans ((gI_sI_nf (by decide)).trans ((gI_sI_nf (by decide)).trans ((gI_sI_nf (by decide)).trans ((gI_sI_nf (by decide)).trans ((gI_sI_nf (by decide)).trans ((gI_sI_nf (by decide)).trans ((gI_sI_nf (by decide)).trans ((gI_sI_nf (by decide)).trans ((gI_sI_nf (by decide)).trans (gI_sI_at)))))))))))))
        ((gI_sI_nf (by decide)).trans ((gI_sI_nf (by decide)).trans ((gI_sI_nf (by decide)).trans ((gI_sI_nf (by decide)).trans ((gI_sI_nf (by decide)).trans ((gI_sI_nf (by decide)).trans ((gI_sI_nf (by decide)).trans ((gI_sI_nf (by decide)).trans ((gI_sI_nf (by decide)).trans ((gI_sI_nf (by decide)).trans ((gI_sI_nf (by decide)).trans (gI_sI_at))))))))))))
        (((gI_sI_nf (by decide)).trans ((gI_sI_nf (by decide)).trans ((gI_sI_nf (by decide)).trans ((gI_sI_nf (by decide)).trans ((gI_sI_nf (by decide)).trans ((gI_sI_nf (by decide)).trans ((gI_sI_nf (by decide)).trans ((gI_sI_nf (by decide)).trans ((gI_sI_nf (by decide)).trans ((gI_sI_nf (by decide)).trans (gI_sI_at))))))))))).trans (zbo_neg id).symm)
        (((gI_sI_nf (by decide)).trans ((gI_sI_nf (by decide)).trans ((gI_sI_nf (by decide)).trans ((gI_sI_nf (by decide)).trans ((gI_sI_nf (by decide)).trans ((gI_sI_nf (by decide)).trans ((gI_sI_nf (by decide)).trans ((gI_sI_nf (by decide)).trans ((gI_sI_nf (by decide)).trans (gI_sI_at)))))))))).trans (zbo_neg id).symm)
        (((gI_sI_nf (by decide)).trans ((gI_sI_nf (by decide)).trans ((gI_sI_nf (by decide)).trans ((gI_sI_nf (by decide)).trans ((gI_sI_nf (by decide)).trans ((gI_sI_nf (by decide)).trans ((gI_sI_nf (by decide)).trans ((gI_sI_nf (by decide)).trans (gI_sI_at))))))))).trans (zbo_neg id).symm)
        ((gI_sI_nf (by decide)).trans ((gI_sI_nf (by decide)).trans ((gI_sI_nf (by decide)).trans ((gI_sI_nf (by decide)).trans ((gI_sI_nf (by decide)).trans ((gI_sI_nf (by decide)).trans ((gI_sI_nf (by decide)).trans (gI_sI_at))))))))
        (((gI_sI_nf (by decide)).trans ((gI_sI_nf (by decide)).trans ((gI_sI_nf (by decide)).trans ((gI_sI_nf (by decide)).trans ((gI_sI_nf (by decide)).trans ((gI_sI_nf (by decide)).trans (gI_sI_at))))))).trans (zbo_pos trivial).symm)
        (((gI_sI_nf (by decide)).trans ((gI_sI_nf (by decide)).trans ((gI_sI_nf (by decide)).trans ((gI_sI_nf (by decide)).trans ((gI_sI_nf (by decide)).trans (gI_sI_at)))))).trans (zbo_neg id).symm)
        ((gI_sI_nf (by decide)).trans ((gI_sI_nf (by decide)).trans ((gI_sI_nf (by decide)).trans ((gI_sI_nf (by decide)).trans (gI_sI_at)))))
        ((gI_sI_nf (by decide)).trans (gI_sI_at))
        (gI_sI_at) jp14_0 jp14_1 jp14_2 jp14_3 jp14_4 jp14_5 jp14_6 jp14_7 jp14_8 jp14_9 jp14_m jp14_l)
  · obtain ⟨g0, g1, g2, g3, g4⟩ := xF_new hF (by omega) hN2 3 3 pl rfl hpl
    exact h2 (tyN_none ((tyB_P (by omega) _ _).trans (zop_neg (fun x => c ((jp14_c h4x h4y).mpr x))))) _ _ g0 g1.n g2 ⟨g3, g4⟩

theorem jp15_0 {a b : Int32} : ((bt 0 a) ∧ (bt 0 b)) ↔ bt 0 ((((((a &&& b) &&& (1 : Int32)) ||| (Int32.ofNat (znt (((a &&& (2 : Int32)) = 2) ∧ ((b &&& (1 : Int32)) = 1)) 2 0))) ||| (b &&& (216 : Int32))) ||| ((a &&& b) &&& (32 : Int32))) ||| (Int32.ofNat (znt ((((a &&& b) &&& (256 : Int32)) = 256) ∧ ((a &&& (128 : Int32)) = 128) ∧ (((a ||| b) &&& (32 : Int32)) = 32)) 256 0))) := by
  simp only [bt_or, bt_and, bt_znt, bt_zit, bt_zbo, is_1, is_2, is_4, is_8, is_16, is_20, is_24, is_32, is_64, is_96, is_128, is_152, is_160, is_256, is_288, is_384, is_512, bl_0_0, bm_0_0, bl_1_0, bm_1_0, bl_2_0, bm_2_0, bl_32_0, bm_32_0, bl_128_0, bm_128_0, bl_216_0, bm_216_0, bl_256_0, bm_256_0, true_and, and_true, false_and, and_false, or_false, false_or, true_or, or_true, not_true_eq_false, not_false_eq_true, iff_self] <;> grind
theorem jp15_1 {a b : Int32} : ((bt 1 a) ∧ (bt 0 b)) ↔ bt 1 ((((((a &&& b) &&& (1 : Int32)) ||| (Int32.ofNat (znt (((a &&& (2 : Int32)) = 2) ∧ ((b &&& (1 : Int32)) = 1)) 2 0))) ||| (b &&& (216 : Int32))) ||| ((a &&& b) &&& (32 : Int32))) ||| (Int32.ofNat (znt ((((a &&& b) &&& (256 : Int32)) = 256) ∧ ((a &&& (128 : Int32)) = 128) ∧ (((a ||| b) &&& (32 : Int32)) = 32)) 256 0))) := by
  simp only [bt_or, bt_and, bt_znt, bt_zit, bt_zbo, is_1, is_2, is_4, is_8, is_16, is_20, is_24, is_32, is_64, is_96, is_128, is_152, is_160, is_256, is_288, is_384, is_512, bl_0_1, bm_0_1, bl_1_1, bm_1_1, bl_2_1, bm_2_1, bl_32_1, bm_32_1, bl_128_1, bm_128_1, bl_216_1, bm_216_1, bl_256_1, bm_256_1, true_and, and_true, false_and, and_false, or_false, false_or, true_or, or_true, not_true_eq_false, not_false_eq_true, iff_self] <;> grind
theorem jp15_2 {a b : Int32} : (False) ↔ bt 2 ((((((a &&& b) &&& (1 : Int32)) ||| (Int32.ofNat (znt (((a &&& (2 : Int32)) = 2) ∧ ((b &&& (1 : Int32)) = 1)) 2 0))) ||| (b &&& (216 : Int32))) ||| ((a &&& b) &&& (32 : Int32))) ||| (Int32.ofNat (znt ((((a &&& b) &&& (256 : Int32)) = 256) ∧ ((a &&& (128 : Int32)) = 128) ∧ (((a ||| b) &&& (32 : Int32)) = 32)) 256 0))) := by
  simp only [bt_or, bt_and, bt_znt, bt_zit, bt_zbo, is_1, is_2, is_4, is_8, is_16, is_20, is_24, is_32, is_64, is_96, is_128, is_152, is_160, is_256, is_288, is_384, is_512, bl_0_2, bm_0_2, bl_1_2, bm_1_2, bl_2_2, bm_2_2, bl_32_2, bm_32_2, bl_128_2, bm_128_2, bl_216_2, bm_216_2, bl_256_2, bm_256_2, true_and, and_true, false_and, and_false, or_false, false_or, true_or, or_true, not_true_eq_false, not_false_eq_true, iff_self] <;> grind
theorem jp15_3 {a b : Int32} : (bt 3 b) ↔ bt 3 ((((((a &&& b) &&& (1 : Int32)) ||| (Int32.ofNat (znt (((a &&& (2 : Int32)) = 2) ∧ ((b &&& (1 : Int32)) = 1)) 2 0))) ||| (b &&& (216 : Int32))) ||| ((a &&& b) &&& (32 : Int32))) ||| (Int32.ofNat (znt ((((a &&& b) &&& (256 : Int32)) = 256) ∧ ((a &&& (128 : Int32)) = 128) ∧ (((a ||| b) &&& (32 : Int32)) = 32)) 256 0))) := by
  simp only [bt_or, bt_and, bt_znt, bt_zit, bt_zbo, is_1, is_2, is_4, is_8, is_16, is_20, is_24, is_32, is_64, is_96, is_128, is_152, is_160, is_256, is_288, is_384, is_512, bl_0_3, bm_0_3, bl_1_3, bm_1_3, bl_2_3, bm_2_3, bl_32_3, bm_32_3, bl_128_3, bm_128_3, bl_216_3, bm_216_3, bl_256_3, bm_256_3, true_and, and_true, false_and, and_false, or_false, false_or, true_or, or_true, not_true_eq_false, not_false_eq_true, iff_self] <;> grind
theorem jp15_4 {a b : Int32} : (bt 4 b) ↔ bt 4 ((((((a &&& b) &&& (1 : Int32)) ||| (Int32.ofNat (znt (((a &&& (2 : Int32)) = 2) ∧ ((b &&& (1 : Int32)) = 1)) 2 0))) ||| (b &&& (216 : Int32))) ||| ((a &&& b) &&& (32 : Int32))) ||| (Int32.ofNat (znt ((((a &&& b) &&& (256 : Int32)) = 256) ∧ ((a &&& (128 : Int32)) = 128) ∧ (((a ||| b) &&& (32 : Int32)) = 32)) 256 0))) := by
  simp only [bt_or, bt_and, bt_znt, bt_zit, bt_zbo, is_1, is_2, is_4, is_8, is_16, is_20, is_24, is_32, is_64, is_96, is_128, is_152, is_160, is_256, is_288, is_384, is_512, bl_0_4, bm_0_4, bl_1_4, bm_1_4, bl_2_4, bm_2_4, bl_32_4, bm_32_4, bl_128_4, bm_128_4, bl_216_4, bm_216_4, bl_256_4, bm_256_4, true_and, and_true, false_and, and_false, or_false, false_or, true_or, or_true, not_true_eq_false, not_false_eq_true, iff_self] <;> grind
theorem jp15_5 {a b : Int32} : ((bt 5 a) ∧ (bt 5 b)) ↔ bt 5 ((((((a &&& b) &&& (1 : Int32)) ||| (Int32.ofNat (znt (((a &&& (2 : Int32)) = 2) ∧ ((b &&& (1 : Int32)) = 1)) 2 0))) ||| (b &&& (216 : Int32))) ||| ((a &&& b) &&& (32 : Int32))) ||| (Int32.ofNat (znt ((((a &&& b) &&& (256 : Int32)) = 256) ∧ ((a &&& (128 : Int32)) = 128) ∧ (((a ||| b) &&& (32 : Int32)) = 32)) 256 0))) := by
  simp only [bt_or, bt_and, bt_znt, bt_zit, bt_zbo, is_1, is_2, is_4, is_8, is_16, is_20, is_24, is_32, is_64, is_96, is_128, is_152, is_160, is_256, is_288, is_384, is_512, bl_0_5, bm_0_5, bl_1_5, bm_1_5, bl_2_5, bm_2_5, bl_32_5, bm_32_5, bl_128_5, bm_128_5, bl_216_5, bm_216_5, bl_256_5, bm_256_5, true_and, and_true, false_and, and_false, or_false, false_or, true_or, or_true, not_true_eq_false, not_false_eq_true, iff_self] <;> grind
theorem jp15_6 {a b : Int32} : (bt 6 b) ↔ bt 6 ((((((a &&& b) &&& (1 : Int32)) ||| (Int32.ofNat (znt (((a &&& (2 : Int32)) = 2) ∧ ((b &&& (1 : Int32)) = 1)) 2 0))) ||| (b &&& (216 : Int32))) ||| ((a &&& b) &&& (32 : Int32))) ||| (Int32.ofNat (znt ((((a &&& b) &&& (256 : Int32)) = 256) ∧ ((a &&& (128 : Int32)) = 128) ∧ (((a ||| b) &&& (32 : Int32)) = 32)) 256 0))) := by
  simp only [bt_or, bt_and, bt_znt, bt_zit, bt_zbo, is_1, is_2, is_4, is_8, is_16, is_20, is_24, is_32, is_64, is_96, is_128, is_152, is_160, is_256, is_288, is_384, is_512, bl_0_6, bm_0_6, bl_1_6, bm_1_6, bl_2_6, bm_2_6, bl_32_6, bm_32_6, bl_128_6, bm_128_6, bl_216_6, bm_216_6, bl_256_6, bm_256_6, true_and, and_true, false_and, and_false, or_false, false_or, true_or, or_true, not_true_eq_false, not_false_eq_true, iff_self] <;> grind
theorem jp15_7 {a b : Int32} : (bt 7 b) ↔ bt 7 ((((((a &&& b) &&& (1 : Int32)) ||| (Int32.ofNat (znt (((a &&& (2 : Int32)) = 2) ∧ ((b &&& (1 : Int32)) = 1)) 2 0))) ||| (b &&& (216 : Int32))) ||| ((a &&& b) &&& (32 : Int32))) ||| (Int32.ofNat (znt ((((a &&& b) &&& (256 : Int32)) = 256) ∧ ((a &&& (128 : Int32)) = 128) ∧ (((a ||| b) &&& (32 : Int32)) = 32)) 256 0))) := by
  simp only [bt_or, bt_and, bt_znt, bt_zit, bt_zbo, is_1, is_2, is_4, is_8, is_16, is_20, is_24, is_32, is_64, is_96, is_128, is_152, is_160, is_256, is_288, is_384, is_512, bl_0_7, bm_0_7, bl_1_7, bm_1_7, bl_2_7, bm_2_7, bl_32_7, bm_32_7, bl_128_7, bm_128_7, bl_216_7, bm_216_7, bl_256_7, bm_256_7, true_and, and_true, false_and, and_false, or_false, false_or, true_or, or_true, not_true_eq_false, not_false_eq_true, iff_self] <;> grind
theorem jp15_8 {a b : Int32} : (((bt 8 a) ∧ (bt 8 b)) ∧ (bt 7 a) ∧ ((bt 5 a) ∨ (bt 5 b))) ↔ bt 8 ((((((a &&& b) &&& (1 : Int32)) ||| (Int32.ofNat (znt (((a &&& (2 : Int32)) = 2) ∧ ((b &&& (1 : Int32)) = 1)) 2 0))) ||| (b &&& (216 : Int32))) ||| ((a &&& b) &&& (32 : Int32))) ||| (Int32.ofNat (znt ((((a &&& b) &&& (256 : Int32)) = 256) ∧ ((a &&& (128 : Int32)) = 128) ∧ (((a ||| b) &&& (32 : Int32)) = 32)) 256 0))) := by
  simp only [bt_or, bt_and, bt_znt, bt_zit, bt_zbo, is_1, is_2, is_4, is_8, is_16, is_20, is_24, is_32, is_64, is_96, is_128, is_152, is_160, is_256, is_288, is_384, is_512, bl_0_8, bm_0_8, bl_1_8, bm_1_8, bl_2_8, bm_2_8, bl_32_8, bm_32_8, bl_128_8, bm_128_8, bl_216_8, bm_216_8, bl_256_8, bm_256_8, true_and, and_true, false_and, and_false, or_false, false_or, true_or, or_true, not_true_eq_false, not_false_eq_true, iff_self] <;> grind
theorem jp15_9 {a b : Int32} : ¬ bt 9 ((((((a &&& b) &&& (1 : Int32)) ||| (Int32.ofNat (znt (((a &&& (2 : Int32)) = 2) ∧ ((b &&& (1 : Int32)) = 1)) 2 0))) ||| (b &&& (216 : Int32))) ||| ((a &&& b) &&& (32 : Int32))) ||| (Int32.ofNat (znt ((((a &&& b) &&& (256 : Int32)) = 256) ∧ ((a &&& (128 : Int32)) = 128) ∧ (((a ||| b) &&& (32 : Int32)) = 32)) 256 0))) := by
  simp only [bt_or, bt_and, bt_znt, bt_zit, bt_zbo, is_1, is_2, is_4, is_8, is_16, is_20, is_24, is_32, is_64, is_96, is_128, is_152, is_160, is_256, is_288, is_384, is_512, bl_0_9, bm_0_9, bl_1_9, bm_1_9, bl_2_9, bm_2_9, bl_32_9, bm_32_9, bl_128_9, bm_128_9, bl_216_9, bm_216_9, bl_256_9, bm_256_9, true_and, and_true, false_and, and_false, or_false, false_or, true_or, or_true, not_true_eq_false, not_false_eq_true, iff_self] <;> grind
theorem jp15_c {p q a b : Int32} (hp : tB4 p) (hq : tB4 q) : ((((p + 1) = 1) ∧ (bt 3 a) ∧ (bt 4 a)) ∧ ((q + 1) = 1)) ↔ ((p = 0) ∧ ((a &&& (24 : Int32)) = 24) ∧ (q = 0)) := by
  rcases hp with rfl | rfl | rfl | rfl <;> rcases hq with rfl | rfl | rfl | rfl <;> simp [is_8, is_16, is_24]
theorem jp15_m {p q a b tx ty : Int32} : ((bt 9 a) ∨ (bt 9 b)) ↔ tyMx 15 0 [(p, a, tx), (q, b, ty)] := by
  rw [tyMx_2]
  simp only [nz_1, nz_2, nz_4, nz_8, bt_or, bl_0_0, bl_0_1, bl_0_2, bl_0_3, false_or, Classical.not_not]
  simp only [tog, mxb]
  grind
theorem jp15_l {p q a b tx ty : Int32} : ((0 : Int32) ||| tx) ||| ty = lkL 15 0 ||| lkAll [(p, a, tx), (q, b, ty)] := by
  show _ = (0 : Int32) ||| (((0 : Int32) ||| tx) ||| ty)
  rw [Int32.zero_or]

theorem xj_P15 {d : Nat} {S : zS} (hF : zFin true S) (hd : 2 ≤ d) {n pl x y : Nat} {p : Int32} {a : Int32} {tx : Int32} {q : Int32} {b : Int32} {ty : Int32} (hn0 : 1639 ≤ n) (hn : n < gN S) (hx : x < gN S) (hxn : x ≠ n) (hcx : zNc (ztyp S x) = true) (hy : y < gN S) (hyn : y ≠ n) (hcy : zNc (ztyp S y) = true) (hN2 : gN S < 1900000) (htn : ztyp S n = 20) (how : gI S 187 n = Int32.ofNat 4) (hpx : gP S 188 n = some x) (hpy : gP S 189 n = some y) (hpl : gI S 144 n = Int32.ofNat pl) (hXx : xTy S x (p, a, tx)) (hXy : xTy S y (q, b, ty)) (hm0 : gI S 156 n = 0) (ht0 : gI S 146 n = 0) (h4x : tB4 p) (h4y : tB4 q) {post : Outcome × zS → Prop}
    (h1 : ∀ t S', zFin true S' → tyN 15 0 [(p, a, tx), (q, b, ty)] = some t → xJd S n S' → xTy S' n t → post (.returned none, S'))
    (h2 : tyN 15 0 [(p, a, tx), (q, b, ty)] = none → ∀ S' q, zFin true S' → xFn S n S' → xFl S' q 3 pl → gN S + 1 = gN S' ∧ gZ S' ≤ gZ S + 3 → post (.threw q, S')) : zCall d 371 [.ref n] S post := by
  have hm0' : gI S 156 n = zbo False := hm0.trans (zbo_neg id).symm
  refine pj_4 hF (by omega) n x y p q a b tx ty hn0 hn hx hxn hy hyn hcx hcy hN2 htn how hpx hpy hXx.1 hXx.2.1.1 hXx.2.1.2.1 hXx.2.1.2.2.1 hXx.2.1.2.2.2.1 hXx.2.1.2.2.2.2.1 hXx.2.1.2.2.2.2.2.1 hXx.2.1.2.2.2.2.2.2.1 hXx.2.1.2.2.2.2.2.2.2.1 hXx.2.1.2.2.2.2.2.2.2.2.1 hXx.2.1.2.2.2.2.2.2.2.2.2 hXx.2.2 hXy.1 hXy.2.1.1 hXy.2.1.2.1 hXy.2.1.2.2.1 hXy.2.1.2.2.2.1 hXy.2.1.2.2.2.2.1 hXy.2.1.2.2.2.2.2.1 hXy.2.1.2.2.2.2.2.2.1 hXy.2.1.2.2.2.2.2.2.2.1 hXy.2.1.2.2.2.2.2.2.2.2.1 hXy.2.1.2.2.2.2.2.2.2.2.2 hXy.2.2 hm0' ht0 (fun c0 => ?_) (fun c => ?_)
  · have hq : tyB 15 0 [(p, a, tx), (q, b, ty)] = some (0, (((((a &&& b) &&& (1 : Int32)) ||| (Int32.ofNat (znt (((a &&& (2 : Int32)) = 2) ∧ ((b &&& (1 : Int32)) = 1)) 2 0))) ||| (b &&& (216 : Int32))) ||| ((a &&& b) &&& (32 : Int32))) ||| (Int32.ofNat (znt ((((a &&& b) &&& (256 : Int32)) = 256) ∧ ((a &&& (128 : Int32)) = 128) ∧ (((a ||| b) &&& (32 : Int32)) = 32)) 256 0))) := (tyB_P (by omega) _ _).trans (zop_pos ((jp15_c h4x h4y).mp c0))
    refine h1 _ _ (by first | exact hF | exact hF) (tyN_some hq) (xJd_s (xJd_s (xJd_s (xJd_s (xJd_s (xJd_s (xJd_s (xJd_s (xJd_s (xJd_s (xJd_s (xJd_s (xJd_s (xJd_s xJd.rf (by decide)) (by decide)) (by decide)) (by decide)) (by decide)) (by decide)) (by decide)) (by decide)) (by decide)) (by decide)) (by decide)) (by decide)) (by decide)) (by decide)) (xTy_mk (b := 0) (f := (((((a &&& b) &&& (1 : Int32)) ||| (Int32.ofNat (znt (((a &&& (2 : Int32)) = 2) ∧ ((b &&& (1 : Int32)) = 1)) 2 0))) ||| (b &&& (216 : Int32))) ||| ((a &&& b) &&& (32 : Int32))) ||| (Int32.ofNat (znt ((((a &&& b) &&& (256 : Int32)) = 256) ∧ ((a &&& (128 : Int32)) = 128) ∧ (((a ||| b) &&& (32 : Int32)) = 32)) 256 0))) (MX := tyMx 15 0 [(p, a, tx), (q, b, ty)]) (((gI_sI_nf (by decide)).trans ((gI_sI_nf (by decide)).trans ((gI_sI_nf (by decide)).trans ((gI_sI_nf (by decide)).trans ((gI_sI_nf (by decide)).trans ((gI_sI_nf (by decide)).trans ((gI_sI_nf (by decide)).trans ((gI_sI_nf (by decide)).trans ((gI_sI_nf (by decide)).trans ((gI_sI_nf (by decide)).trans ((gI_sI_nf (by decide)).trans ((gI_sI_nf (by decide)).trans ((gI_sI_nf (by decide)).trans (gI_sI_at)))))))))))))).trans (show (1 : Int32) = 0 + 1 from by decide))
        ((gI_sI_nf (by decide)).trans ((gI_sI_nf (by decide)).trans ((gI_sI_nf (by decide)).trans ((gI_sI_nf (by decide)).trans ((gI_sI_nf (by decide)).trans ((gI_sI_nf (by decide)).trans ((gI_sI_nf (by decide)).trans ((gI_sI_nf (by decide)).trans ((gI_sI_nf (by decide)).trans ((gI_sI_nf (by decide)).trans ((gI_sI_nf (by decide)).trans ((gI_sI_nf (by decide)).trans (gI_sI_at)))))))))))))
        ((gI_sI_nf (by decide)).trans ((gI_sI_nf (by decide)).trans ((gI_sI_nf (by decide)).trans ((gI_sI_nf (by decide)).trans ((gI_sI_nf (by decide)).trans ((gI_sI_nf (by decide)).trans ((gI_sI_nf (by decide)).trans ((gI_sI_nf (by decide)).trans ((gI_sI_nf (by decide)).trans ((gI_sI_nf (by decide)).trans ((gI_sI_nf (by decide)).trans (gI_sI_at))))))))))))
        (((gI_sI_nf (by decide)).trans ((gI_sI_nf (by decide)).trans ((gI_sI_nf (by decide)).trans ((gI_sI_nf (by decide)).trans ((gI_sI_nf (by decide)).trans ((gI_sI_nf (by decide)).trans ((gI_sI_nf (by decide)).trans ((gI_sI_nf (by decide)).trans ((gI_sI_nf (by decide)).trans ((gI_sI_nf (by decide)).trans (gI_sI_at))))))))))).trans (zbo_neg id).symm)
        ((gI_sI_nf (by decide)).trans ((gI_sI_nf (by decide)).trans ((gI_sI_nf (by decide)).trans ((gI_sI_nf (by decide)).trans ((gI_sI_nf (by decide)).trans ((gI_sI_nf (by decide)).trans ((gI_sI_nf (by decide)).trans ((gI_sI_nf (by decide)).trans ((gI_sI_nf (by decide)).trans (gI_sI_at))))))))))
        ((gI_sI_nf (by decide)).trans ((gI_sI_nf (by decide)).trans ((gI_sI_nf (by decide)).trans ((gI_sI_nf (by decide)).trans ((gI_sI_nf (by decide)).trans ((gI_sI_nf (by decide)).trans ((gI_sI_nf (by decide)).trans ((gI_sI_nf (by decide)).trans (gI_sI_at)))))))))
        ((gI_sI_nf (by decide)).trans ((gI_sI_nf (by decide)).trans ((gI_sI_nf (by decide)).trans ((gI_sI_nf (by decide)).trans ((gI_sI_nf (by decide)).trans ((gI_sI_nf (by decide)).trans ((gI_sI_nf (by decide)).trans (gI_sI_at))))))))
        ((gI_sI_nf (by decide)).trans ((gI_sI_nf (by decide)).trans ((gI_sI_nf (by decide)).trans ((gI_sI_nf (by decide)).trans ((gI_sI_nf (by decide)).trans ((gI_sI_nf (by decide)).trans (gI_sI_at)))))))
        ((gI_sI_nf (by decide)).trans ((gI_sI_nf (by decide)).trans ((gI_sI_nf (by decide)).trans ((gI_sI_nf (by decide)).trans ((gI_sI_nf (by decide)).trans (gI_sI_at))))))
        ((gI_sI_nf (by decide)).trans ((gI_sI_nf (by decide)).trans ((gI_sI_nf (by decide)).trans ((gI_sI_nf (by decide)).trans (gI_sI_at)))))
        ((gI_sI_nf (by decide)).trans (gI_sI_at))
        (gI_sI_at) jp15_0 jp15_1 jp15_2 jp15_3 jp15_4 jp15_5 jp15_6 jp15_7 jp15_8 jp15_9 jp15_m jp15_l)
  · obtain ⟨g0, g1, g2, g3, g4⟩ := xF_new hF (by omega) hN2 3 3 pl rfl hpl
    exact h2 (tyN_none ((tyB_P (by omega) _ _).trans (zop_neg (fun x => c ((jp15_c h4x h4y).mpr x))))) _ _ g0 g1.n g2 ⟨g3, g4⟩

theorem jp16_0 {a b : Int32} : (False) ↔ bt 0 (pt16_e1 a b) := by
  simp only [pt16_e1, bt_or, bt_and, bt_znt, bt_zit, bt_zbo, is_1, is_2, is_4, is_8, is_16, is_20, is_24, is_32, is_64, is_96, is_128, is_152, is_160, is_256, is_288, is_384, is_512, bl_0_0, bm_0_0, bl_1_0, bm_1_0, bl_2_0, bm_2_0, bl_8_0, bm_8_0, bl_16_0, bm_16_0, bl_32_0, bm_32_0, bl_64_0, bm_64_0, bl_96_0, bm_96_0, bl_128_0, bm_128_0, bl_256_0, bm_256_0, true_and, and_true, false_and, and_false, or_false, false_or, true_or, or_true, not_true_eq_false, not_false_eq_true, iff_self] <;> grind
theorem jp16_1 {a b : Int32} : ((bt 0 a) ∧ (bt 0 b)) ↔ bt 1 (pt16_e1 a b) := by
  simp only [pt16_e1, bt_or, bt_and, bt_znt, bt_zit, bt_zbo, is_1, is_2, is_4, is_8, is_16, is_20, is_24, is_32, is_64, is_96, is_128, is_152, is_160, is_256, is_288, is_384, is_512, bl_0_1, bm_0_1, bl_1_1, bm_1_1, bl_2_1, bm_2_1, bl_8_1, bm_8_1, bl_16_1, bm_16_1, bl_32_1, bm_32_1, bl_64_1, bm_64_1, bl_96_1, bm_96_1, bl_128_1, bm_128_1, bl_256_1, bm_256_1, true_and, and_true, false_and, and_false, or_false, false_or, true_or, or_true, not_true_eq_false, not_false_eq_true, iff_self] <;> grind
theorem jp16_2 {a b : Int32} : (False) ↔ bt 2 (pt16_e1 a b) := by
  simp only [pt16_e1, bt_or, bt_and, bt_znt, bt_zit, bt_zbo, is_1, is_2, is_4, is_8, is_16, is_20, is_24, is_32, is_64, is_96, is_128, is_152, is_160, is_256, is_288, is_384, is_512, bl_0_2, bm_0_2, bl_1_2, bm_1_2, bl_2_2, bm_2_2, bl_8_2, bm_8_2, bl_16_2, bm_16_2, bl_32_2, bm_32_2, bl_64_2, bm_64_2, bl_96_2, bm_96_2, bl_128_2, bm_128_2, bl_256_2, bm_256_2, true_and, and_true, false_and, and_false, or_false, false_or, true_or, or_true, not_true_eq_false, not_false_eq_true, iff_self] <;> grind
theorem jp16_3 {a b : Int32} : ((bt 3 a) ∨ (bt 3 b)) ↔ bt 3 (pt16_e1 a b) := by
  simp only [pt16_e1, bt_or, bt_and, bt_znt, bt_zit, bt_zbo, is_1, is_2, is_4, is_8, is_16, is_20, is_24, is_32, is_64, is_96, is_128, is_152, is_160, is_256, is_288, is_384, is_512, bl_0_3, bm_0_3, bl_1_3, bm_1_3, bl_2_3, bm_2_3, bl_8_3, bm_8_3, bl_16_3, bm_16_3, bl_32_3, bm_32_3, bl_64_3, bm_64_3, bl_96_3, bm_96_3, bl_128_3, bm_128_3, bl_256_3, bm_256_3, true_and, and_true, false_and, and_false, or_false, false_or, true_or, or_true, not_true_eq_false, not_false_eq_true, iff_self] <;> grind
theorem jp16_4 {a b : Int32} : ((bt 4 a) ∧ (bt 4 b)) ↔ bt 4 (pt16_e1 a b) := by
  simp only [pt16_e1, bt_or, bt_and, bt_znt, bt_zit, bt_zbo, is_1, is_2, is_4, is_8, is_16, is_20, is_24, is_32, is_64, is_96, is_128, is_152, is_160, is_256, is_288, is_384, is_512, bl_0_4, bm_0_4, bl_1_4, bm_1_4, bl_2_4, bm_2_4, bl_8_4, bm_8_4, bl_16_4, bm_16_4, bl_32_4, bm_32_4, bl_64_4, bm_64_4, bl_96_4, bm_96_4, bl_128_4, bm_128_4, bl_256_4, bm_256_4, true_and, and_true, false_and, and_false, or_false, false_or, true_or, or_true, not_true_eq_false, not_false_eq_true, iff_self] <;> grind
theorem jp16_5 {a b : Int32} : ((bt 5 a) ∧ (bt 5 b)) ↔ bt 5 (pt16_e1 a b) := by
  simp only [pt16_e1, bt_or, bt_and, bt_znt, bt_zit, bt_zbo, is_1, is_2, is_4, is_8, is_16, is_20, is_24, is_32, is_64, is_96, is_128, is_152, is_160, is_256, is_288, is_384, is_512, bl_0_5, bm_0_5, bl_1_5, bm_1_5, bl_2_5, bm_2_5, bl_8_5, bm_8_5, bl_16_5, bm_16_5, bl_32_5, bm_32_5, bl_64_5, bm_64_5, bl_96_5, bm_96_5, bl_128_5, bm_128_5, bl_256_5, bm_256_5, true_and, and_true, false_and, and_false, or_false, false_or, true_or, or_true, not_true_eq_false, not_false_eq_true, iff_self] <;> grind
theorem jp16_6 {a b : Int32} : ((bt 6 a) ∧ (bt 6 b)) ↔ bt 6 (pt16_e1 a b) := by
  simp only [pt16_e1, bt_or, bt_and, bt_znt, bt_zit, bt_zbo, is_1, is_2, is_4, is_8, is_16, is_20, is_24, is_32, is_64, is_96, is_128, is_152, is_160, is_256, is_288, is_384, is_512, bl_0_6, bm_0_6, bl_1_6, bm_1_6, bl_2_6, bm_2_6, bl_8_6, bm_8_6, bl_16_6, bm_16_6, bl_32_6, bm_32_6, bl_64_6, bm_64_6, bl_96_6, bm_96_6, bl_128_6, bm_128_6, bl_256_6, bm_256_6, true_and, and_true, false_and, and_false, or_false, false_or, true_or, or_true, not_true_eq_false, not_false_eq_true, iff_self] <;> grind
theorem jp16_7 {a b : Int32} : (((bt 7 a) ∧ (bt 6 b)) ∨ ((bt 6 a) ∧ (bt 7 b))) ↔ bt 7 (pt16_e1 a b) := by
  simp only [pt16_e1, bt_or, bt_and, bt_znt, bt_zit, bt_zbo, is_1, is_2, is_4, is_8, is_16, is_20, is_24, is_32, is_64, is_96, is_128, is_152, is_160, is_256, is_288, is_384, is_512, bl_0_7, bm_0_7, bl_1_7, bm_1_7, bl_2_7, bm_2_7, bl_8_7, bm_8_7, bl_16_7, bm_16_7, bl_32_7, bm_32_7, bl_64_7, bm_64_7, bl_96_7, bm_96_7, bl_128_7, bm_128_7, bl_256_7, bm_256_7, true_and, and_true, false_and, and_false, or_false, false_or, true_or, or_true, not_true_eq_false, not_false_eq_true, iff_self] <;> grind
theorem jp16_8 {a b : Int32} : (((bt 8 a) ∧ (bt 8 b)) ∧ ((bt 5 a) ∨ (bt 5 b))) ↔ bt 8 (pt16_e1 a b) := by
  simp only [pt16_e1, bt_or, bt_and, bt_znt, bt_zit, bt_zbo, is_1, is_2, is_4, is_8, is_16, is_20, is_24, is_32, is_64, is_96, is_128, is_152, is_160, is_256, is_288, is_384, is_512, bl_0_8, bm_0_8, bl_1_8, bm_1_8, bl_2_8, bm_2_8, bl_8_8, bm_8_8, bl_16_8, bm_16_8, bl_32_8, bm_32_8, bl_64_8, bm_64_8, bl_96_8, bm_96_8, bl_128_8, bm_128_8, bl_256_8, bm_256_8, true_and, and_true, false_and, and_false, or_false, false_or, true_or, or_true, not_true_eq_false, not_false_eq_true, iff_self] <;> grind
theorem jp16_9 {a b : Int32} : ¬ bt 9 (pt16_e1 a b) := by
  simp only [pt16_e1, bt_or, bt_and, bt_znt, bt_zit, bt_zbo, is_1, is_2, is_4, is_8, is_16, is_20, is_24, is_32, is_64, is_96, is_128, is_152, is_160, is_256, is_288, is_384, is_512, bl_0_9, bm_0_9, bl_1_9, bm_1_9, bl_2_9, bm_2_9, bl_8_9, bm_8_9, bl_16_9, bm_16_9, bl_32_9, bm_32_9, bl_64_9, bm_64_9, bl_96_9, bm_96_9, bl_128_9, bm_128_9, bl_256_9, bm_256_9, true_and, and_true, false_and, and_false, or_false, false_or, true_or, or_true, not_true_eq_false, not_false_eq_true, iff_self] <;> grind
theorem jp16_c {p q a b : Int32} (hp : tB4 p) (hq : tB4 q) : (((p + 1) = (q + 1)) ∧ (¬ ((q + 1) = 4))) ↔ (((p = 0) ∨ (p = 2) ∨ (p = 1)) ∧ (p = q)) := by
  rcases hp with rfl | rfl | rfl | rfl <;> rcases hq with rfl | rfl | rfl | rfl <;> simp [is_8, is_16, is_24]
theorem jp16_m {p q a b tx ty : Int32} : ((bt 9 a) ∨ (bt 9 b)) ↔ tyMx 16 0 [(p, a, tx), (q, b, ty)] := by
  rw [tyMx_2]
  simp only [nz_1, nz_2, nz_4, nz_8, bt_or, bl_0_0, bl_0_1, bl_0_2, bl_0_3, false_or, Classical.not_not]
  simp only [tog, mxb]
  grind
theorem jp16_l {p q a b tx ty : Int32} : ((0 : Int32) ||| tx) ||| ty = lkL 16 0 ||| lkAll [(p, a, tx), (q, b, ty)] := by
  show _ = (0 : Int32) ||| (((0 : Int32) ||| tx) ||| ty)
  rw [Int32.zero_or]

theorem xj_P16 {d : Nat} {S : zS} (hF : zFin true S) (hd : 2 ≤ d) {n pl x y : Nat} {p : Int32} {a : Int32} {tx : Int32} {q : Int32} {b : Int32} {ty : Int32} (hn0 : 1639 ≤ n) (hn : n < gN S) (hx : x < gN S) (hxn : x ≠ n) (hcx : zNc (ztyp S x) = true) (hy : y < gN S) (hyn : y ≠ n) (hcy : zNc (ztyp S y) = true) (hN2 : gN S < 1900000) (htn : ztyp S n = 20) (how : gI S 187 n = Int32.ofNat 5) (hpx : gP S 188 n = some x) (hpy : gP S 189 n = some y) (hpl : gI S 144 n = Int32.ofNat pl) (hXx : xTy S x (p, a, tx)) (hXy : xTy S y (q, b, ty)) (hm0 : gI S 156 n = 0) (ht0 : gI S 146 n = 0) (h4x : tB4 p) (h4y : tB4 q) {post : Outcome × zS → Prop}
    (h1 : ∀ t S', zFin true S' → tyN 16 0 [(p, a, tx), (q, b, ty)] = some t → xJd S n S' → xTy S' n t → post (.returned none, S'))
    (h2 : tyN 16 0 [(p, a, tx), (q, b, ty)] = none → ∀ S' q, zFin true S' → xFn S n S' → xFl S' q 3 pl → gN S + 1 = gN S' ∧ gZ S' ≤ gZ S + 3 → post (.threw q, S')) : zCall d 371 [.ref n] S post := by
  have hm0' : gI S 156 n = zbo False := hm0.trans (zbo_neg id).symm
  refine pj_5 hF (by omega) n x y p q a b tx ty hn0 hn hx hxn hy hyn hcx hcy hN2 htn how hpx hpy hXx.1 hXx.2.1.1 hXx.2.1.2.1 hXx.2.1.2.2.1 hXx.2.1.2.2.2.1 hXx.2.1.2.2.2.2.1 hXx.2.1.2.2.2.2.2.1 hXx.2.1.2.2.2.2.2.2.1 hXx.2.1.2.2.2.2.2.2.2.1 hXx.2.1.2.2.2.2.2.2.2.2.1 hXx.2.1.2.2.2.2.2.2.2.2.2 hXx.2.2 hXy.1 hXy.2.1.1 hXy.2.1.2.1 hXy.2.1.2.2.1 hXy.2.1.2.2.2.1 hXy.2.1.2.2.2.2.1 hXy.2.1.2.2.2.2.2.1 hXy.2.1.2.2.2.2.2.2.1 hXy.2.1.2.2.2.2.2.2.2.1 hXy.2.1.2.2.2.2.2.2.2.2.1 hXy.2.1.2.2.2.2.2.2.2.2.2 hXy.2.2 hm0' ht0 (fun c0 => ?_) (fun c => ?_)
  · have hq : tyB 16 0 [(p, a, tx), (q, b, ty)] = some (p, pt16_e1 a b) := (tyB_P (by omega) _ _).trans (zop_pos ((jp16_c h4x h4y).mp c0))
    refine h1 _ _ (by first | exact hF | exact hF) (tyN_some hq) (xJd_s (xJd_s (xJd_s (xJd_s (xJd_s (xJd_s (xJd_s (xJd_s (xJd_s (xJd_s (xJd_s (xJd_s (xJd_s (xJd_s xJd.rf (by decide)) (by decide)) (by decide)) (by decide)) (by decide)) (by decide)) (by decide)) (by decide)) (by decide)) (by decide)) (by decide)) (by decide)) (by decide)) (by decide)) (xTy_mk (b := p) (f := pt16_e1 a b) (MX := tyMx 16 0 [(p, a, tx), (q, b, ty)]) ((gI_sI_nf (by decide)).trans ((gI_sI_nf (by decide)).trans ((gI_sI_nf (by decide)).trans ((gI_sI_nf (by decide)).trans ((gI_sI_nf (by decide)).trans ((gI_sI_nf (by decide)).trans ((gI_sI_nf (by decide)).trans ((gI_sI_nf (by decide)).trans ((gI_sI_nf (by decide)).trans ((gI_sI_nf (by decide)).trans ((gI_sI_nf (by decide)).trans ((gI_sI_nf (by decide)).trans ((gI_sI_nf (by decide)).trans (gI_sI_at))))))))))))))
        (((gI_sI_nf (by decide)).trans ((gI_sI_nf (by decide)).trans ((gI_sI_nf (by decide)).trans ((gI_sI_nf (by decide)).trans ((gI_sI_nf (by decide)).trans ((gI_sI_nf (by decide)).trans ((gI_sI_nf (by decide)).trans ((gI_sI_nf (by decide)).trans ((gI_sI_nf (by decide)).trans ((gI_sI_nf (by decide)).trans ((gI_sI_nf (by decide)).trans ((gI_sI_nf (by decide)).trans (gI_sI_at))))))))))))).trans (zbo_neg id).symm)
        ((gI_sI_nf (by decide)).trans ((gI_sI_nf (by decide)).trans ((gI_sI_nf (by decide)).trans ((gI_sI_nf (by decide)).trans ((gI_sI_nf (by decide)).trans ((gI_sI_nf (by decide)).trans ((gI_sI_nf (by decide)).trans ((gI_sI_nf (by decide)).trans ((gI_sI_nf (by decide)).trans ((gI_sI_nf (by decide)).trans ((gI_sI_nf (by decide)).trans (gI_sI_at))))))))))))
        (((gI_sI_nf (by decide)).trans ((gI_sI_nf (by decide)).trans ((gI_sI_nf (by decide)).trans ((gI_sI_nf (by decide)).trans ((gI_sI_nf (by decide)).trans ((gI_sI_nf (by decide)).trans ((gI_sI_nf (by decide)).trans ((gI_sI_nf (by decide)).trans ((gI_sI_nf (by decide)).trans ((gI_sI_nf (by decide)).trans (gI_sI_at))))))))))).trans (zbo_neg id).symm)
        ((gI_sI_nf (by decide)).trans ((gI_sI_nf (by decide)).trans ((gI_sI_nf (by decide)).trans ((gI_sI_nf (by decide)).trans ((gI_sI_nf (by decide)).trans ((gI_sI_nf (by decide)).trans ((gI_sI_nf (by decide)).trans ((gI_sI_nf (by decide)).trans ((gI_sI_nf (by decide)).trans (gI_sI_at))))))))))
        ((gI_sI_nf (by decide)).trans ((gI_sI_nf (by decide)).trans ((gI_sI_nf (by decide)).trans ((gI_sI_nf (by decide)).trans ((gI_sI_nf (by decide)).trans ((gI_sI_nf (by decide)).trans ((gI_sI_nf (by decide)).trans ((gI_sI_nf (by decide)).trans (gI_sI_at)))))))))
        ((gI_sI_nf (by decide)).trans ((gI_sI_nf (by decide)).trans ((gI_sI_nf (by decide)).trans ((gI_sI_nf (by decide)).trans ((gI_sI_nf (by decide)).trans ((gI_sI_nf (by decide)).trans ((gI_sI_nf (by decide)).trans (gI_sI_at))))))))
        ((gI_sI_nf (by decide)).trans ((gI_sI_nf (by decide)).trans ((gI_sI_nf (by decide)).trans ((gI_sI_nf (by decide)).trans ((gI_sI_nf (by decide)).trans ((gI_sI_nf (by decide)).trans (gI_sI_at)))))))
        ((gI_sI_nf (by decide)).trans ((gI_sI_nf (by decide)).trans ((gI_sI_nf (by decide)).trans ((gI_sI_nf (by decide)).trans ((gI_sI_nf (by decide)).trans (gI_sI_at))))))
        ((gI_sI_nf (by decide)).trans ((gI_sI_nf (by decide)).trans ((gI_sI_nf (by decide)).trans ((gI_sI_nf (by decide)).trans (gI_sI_at)))))
        ((gI_sI_nf (by decide)).trans (gI_sI_at))
        (gI_sI_at) jp16_0 jp16_1 jp16_2 jp16_3 jp16_4 jp16_5 jp16_6 jp16_7 jp16_8 jp16_9 jp16_m jp16_l)
  · obtain ⟨g0, g1, g2, g3, g4⟩ := xF_new hF (by omega) hN2 3 3 pl rfl hpl
    exact h2 (tyN_none ((tyB_P (by omega) _ _).trans (zop_neg (fun x => c ((jp16_c h4x h4y).mpr x))))) _ _ g0 g1.n g2 ⟨g3, g4⟩


