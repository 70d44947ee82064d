set_option maxRecDepth 100000
/-! ===== the twin reads rows of parts: small things ===== -/
theorem fa1 {d : Nat} {S : zS} (hF : zFin true S) (f p : Nat)  (h_fault : gI S 91 1592 = Int32.ofNat 0) (hf : f < 4) (hp : p ≤ 300) {post : Outcome × zS → Prop} (h1 : post (.returned none, sI (sI S 91 1592 (Int32.ofNat f)) 92 1592 (Int32.ofNat p))) : zCall d 128 [.ref 1592, .int (Int32.ofNat f), .int (Int32.ofNat p)] S post := by
  have ht : ztab 128 = ztb128 := rfl
  show zEv d 128 0 [.ref 1592, .int (Int32.ofNat f), .int (Int32.ofNat p)] [] S post
  refine zv_c1 ht rfl rfl ?_
  refine zv_e1 (x := 0) ht rfl rfl h_fault ?_
  refine zv_br ht rfl rfl rfl (fun _ => ?_) (fun h => absurd (by decide) h)
  refine zv_c1 ht rfl rfl (zv_c1 ht rfl rfl ?_)
  refine zv_c1 (S' := sI S 91 1592 (Int32.ofNat f)) ht rfl rfl ?_
  refine zv_c1 ht rfl rfl (zv_c1 ht rfl rfl ?_)
  refine zv_c1 (S' := sI (sI S 91 1592 (Int32.ofNat f)) 92 1592 (Int32.ofNat p)) ht rfl rfl ?_
  exact zv_rt ht rfl rfl rfl rfl h1

theorem fa2 {d : Nat} {S : zS} (hF : zFin true S) (f p k : Nat)  (h_fault : gI S 91 1592 = Int32.ofNat k) (hf : f < 4) (hp : p ≤ 300) (hk : 0 < k) (hk4 : k < 4) {post : Outcome × zS → Prop} (h1 : post (.returned none, S)) : zCall d 128 [.ref 1592, .int (Int32.ofNat f), .int (Int32.ofNat p)] S post := by
  have ht : ztab 128 = ztb128 := rfl
  show zEv d 128 0 [.ref 1592, .int (Int32.ofNat f), .int (Int32.ofNat p)] [] S post
  refine zv_c1 ht rfl rfl ?_
  refine zv_e1 (x := Int32.ofNat k) ht rfl rfl h_fault ?_
  refine zv_br ht rfl rfl rfl (fun b1 => (show False from by have hq := b1; have hz : k ≤ 0 := (zi_leE (a := k) (b := 0) rfl rfl (by omega) (by omega)).mp hq; omega).elim) (fun b1 => ?_)
  exact zv_rt ht rfl rfl rfl rfl h1

/-- a key's node -/
def mKn (S : zS) (j v : Nat) : Prop := gA S 1610 j = Int32.ofNat 30 ∧ gA S 1611 j = Int32.ofNat v ∧ gA S 1612 j = -1
section Q14
variable {d : Nat} {post : Outcome × zS → Prop} {tp : Nat → Nat} {sz : Nat}
theorem m_seeP {S : zS} (hF : zFin true S) (hd : 1 ≤ d) {at0 rd nx wt : Nat} (hP : mP tp sz S at0 rd nx wt) (h : ∀ c, pSee tp sz at0 = c → c < 256 → post (.returned (some (.int (Int32.ofNat c))), S)) : zCall d 150 [.ref 1592] S post := m_see hF hd hP.v (h _ rfl (pSee_lt hP.2.2.1))
theorem m_fails {S : zS} (hF : zFin true S) {at0 rd nx wt f p B : Nat} (hP : mP tp sz S at0 rd nx wt) (hf : 0 < f ∧ f < 4) (hp : p ≤ 300)
    (h : ∀ S', zFin true S' → mFr B nx wt S S' → mX S' f p → mV tp sz S' at0 → post (.returned none, S')) : zCall d 128 [.ref 1592, .int (Int32.ofNat f), .int (Int32.ofNat p)] S post := by
  refine fa1 hF f p hP.1.2.2.1 hf.2 hp ?_
  exact h _ hF ((mFr_sI (by decide)).tr (mFr_sI (by decide))) ⟨by show gI (sI S 91 1592 (Int32.ofNat f)) 91 1592 = _; exact gI_sI_at, gI_sI_at, hf.1, hf.2⟩ hP.v
theorem m_failsX {S : zS} (hF : zFin true S) {f p k q : Nat} (hX : mX S k q) (hf : f < 4) (hp : p ≤ 300) (h : post (.returned none, S)) : zCall d 128 [.ref 1592, .int (Int32.ofNat f), .int (Int32.ofNat p)] S post := fa2 hF f p k hX.1 hf hp hX.2.2.1 hX.2.2.2 h
end Q14
theorem kn0 {d : Nat} {S : zS} (hF : zFin true S) (hd : 3 ≤ d) {tp : Nat → Nat} {sz at0 rd nx wt B : Nat}   (hP : mP tp sz S at0 rd nx wt) (hs0 : sz ≤ 300) (hB : nx < B) (hB3 : B ≤ 3000) {post : Outcome × zS → Prop} (h1 : ∀ S1 : zS, ∀ v1 : Nat, (zFin true S1) → (pLet tp sz 65 80 at0 = .ok (v1, at0 + 1)) → (v1 ≤ 80 - 65) → (mFr B nx wt S S1) → (mP tp sz S1 (at0 + 1) rd nx wt) → ∀ S7 : zS, (zFin true S7) → (mFr B nx wt S1 S7) → (mP tp sz S7 (at0 + 1) rd (nx + 1) wt) → (mOp S7 nx 30 v1 0 []) → post (.returned (some (.int (Int32.ofNat nx))), S7)) (h2 : ∀ S2 : zS, ∀ u2 : Int32, (zFin true S2) → (pLet tp sz 65 80 at0 = .error (1, at0)) → (mFr B nx wt S S2) → (mX S2 1 at0) → post (.returned (some (.int (-1))), S2)) : zCall d 157 [.ref 1592] S post := by
  have ht : ztab 157 = ztb157 := rfl
  show zEv d 157 0 [.ref 1592, .retAddr 0] [] S post
  refine zv_c1 ht rfl rfl (zv_c1 ht rfl rfl (zv_c1 ht rfl rfl ?_))
  refine zv_cl ht rfl rfl rfl rfl (by omega) (Nat.le_of_ble_eq_true rfl) (m_letter (S := S) (tp := tp) (sz := sz) (B := B) (lo := 65) (hi := 80) hF (by omega) hP (by omega) (by omega) (by omega) (fun S1 v1 hF1 e1 b1 k1 p1 => ?_) (fun S2 u2 hF2 e2 k2 x2 => ?_))
  · show zEv d 157 8 [.ref 1592, .retAddr 0] [.int (Int32.ofNat v1)] S1 post
    refine zv_c2 (L' := [.ref 1592, .int (Int32.ofNat v1)]) ht rfl rfl ?_
    refine zv_c1 ht rfl rfl ?_
    have C4 : ∀ (pst3 : Outcome × zS → Prop), (pst3 (.returned (some (.int 1)), S1)) → zCall (d - 1) 125 [.ref 1592] S1 pst3 := by
      intro pst3 k6
      have ht5 : ztab 125 = ztb125 := rfl
      show zEv (d - 1) 125 0 [.ref 1592] [] S1 pst3
      refine zv_c1 ht5 rfl rfl ?_
      refine zv_e1 (x := 0) ht5 rfl rfl p1.1.2.2.1 ?_
      refine zv_br ht5 rfl rfl rfl (fun h => absurd h (by decide)) (fun _ => ?_)
      refine zv_c1 ht5 rfl rfl (zv_c1 ht5 rfl rfl ?_)
      exact zv_rc ht5 rfl rfl rfl rfl (by decide) k6
    refine zv_cl ht rfl rfl rfl rfl (by omega) (Nat.le_of_ble_eq_true rfl) (C4 _ ?_)
    show zEv d 157 13 [.ref 1592, .int (Int32.ofNat v1)] [.int 1] S1 post
    refine zv_br ht rfl rfl rfl (fun h => absurd h (by decide)) (fun _ => ?_)
    refine zv_c1 ht rfl rfl (zv_c1 ht rfl rfl (zv_c1 ht rfl rfl (zv_c1 ht rfl rfl ?_)))
    refine zv_cl ht rfl rfl rfl rfl (by omega) (Nat.le_of_ble_eq_true rfl) (m_node (S := S1) (tp := tp) (sz := sz) (B := B) (k := 30) (v := v1) (p := 0) hF1 p1 (by omega) (by omega) (by omega) (by omega) (by omega) (fun S7 hF7 k7 p7 o7 => ?_))
    show zEv d 157 24 [.ref 1592, .int (Int32.ofNat v1)] [.int (Int32.ofNat nx)] S7 post
    refine zv_c1 ht rfl rfl ?_
    exact zv_rt ht rfl rfl rfl rfl (h1 S1 v1 hF1 e1 b1 k1 p1 S7 hF7 k7 p7 o7)
  · show zEv d 157 8 [.ref 1592, .retAddr 0] [.int u2] S2 post
    refine zv_c2 (L' := [.ref 1592, .int u2]) ht rfl rfl ?_
    refine zv_c1 ht rfl rfl ?_
    have C9 : ∀ (pst8 : Outcome × zS → Prop), (pst8 (.returned (some (.int 0)), S2)) → zCall (d - 1) 125 [.ref 1592] S2 pst8 := by
      intro pst8 k11
      have ht10 : ztab 125 = ztb125 := rfl
      show zEv (d - 1) 125 0 [.ref 1592] [] S2 pst8
      refine zv_c1 ht10 rfl rfl ?_
      refine zv_e1 (x := 1) ht10 rfl rfl x2.1 ?_
      refine zv_br ht10 rfl rfl rfl (fun _ => ?_) (fun h => absurd (by decide) h)
      refine zv_c1 ht10 rfl rfl ?_
      exact zv_rc ht10 rfl rfl rfl rfl (by decide) k11
    refine zv_cl ht rfl rfl rfl rfl (by omega) (Nat.le_of_ble_eq_true rfl) (C9 _ ?_)
    show zEv d 157 13 [.ref 1592, .int u2] [.int 0] S2 post
    refine zv_br ht rfl rfl rfl (fun _ => ?_) (fun h => absurd (by decide) h)
    refine zv_c1 ht rfl rfl ?_
    exact zv_rt ht rfl rfl rfl rfl (h2 S2 u2 hF2 e2 k2 x2)

theorem rl2 {d : Nat} {S : zS} (hF : zFin true S) (hd : 2 ≤ d) (tp : Nat → Nat) (at0 sz c : Nat) (lo hi k : Nat)  (h_at : gI S 89 1592 = Int32.ofNat at0) (h_fault : gI S 91 1592 = Int32.ofNat k) (hP : mV tp sz S at0) (hs : sz ≤ 300) (hl : at0 ≤ sz) (hc1 : c < 256) (hc : pSee tp sz at0 = c) (hlo : lo < 256) (hhi : hi < 256) (hk : 0 < k) (hk4 : k < 4) {post : Outcome × zS → Prop} (h1 : post (.returned (some (.int ((Int32.ofNat c) - (Int32.ofNat lo)))), S)) : zCall d 152 [.ref 1592, .int (Int32.ofNat lo), .int (Int32.ofNat hi)] S post := by
  have ht : ztab 152 = ztb152 := rfl
  show zEv d 152 0 [.ref 1592, .int (Int32.ofNat lo), .int (Int32.ofNat hi), .retAddr 0] [] S post
  refine zv_c1 ht rfl rfl ?_
  refine zv_cl ht rfl rfl rfl rfl (by omega) (Nat.le_of_ble_eq_true rfl) (m_seeC (S := S) (tp := tp) (sz := sz) (at0 := at0) hF (by omega) hP hc ?_)
  show zEv d 152 4 [.ref 1592, .int (Int32.ofNat lo), .int (Int32.ofNat hi), .retAddr 0] [.int (Int32.ofNat c)] S post
  refine zv_c1 ht rfl rfl (zv_c1 ht rfl rfl ?_)
  have C2 : ∀ (pst1 : Outcome × zS → Prop), (pst1 (.returned (some (.int (zbo ((¬ (c < lo)) ∧ (¬ (hi < c)))))), S)) → zCall (d - 1) 102 [.int (Int32.ofNat c), .int (Int32.ofNat lo), .int (Int32.ofNat hi)] S pst1 := by
    intro pst1 k10
    have ht3 : ztab 102 = ztb102 := rfl
    show zEv (d - 1) 102 0 [.int (Int32.ofNat c), .int (Int32.ofNat lo), .int (Int32.ofNat hi)] [] S pst1
    refine zv_c1 ht3 rfl rfl (zv_c1 ht3 rfl rfl ?_)
    have J8 : zEv (d - 1) 102 15 [.retAddr 0, .retAddr 0, .retAddr 0] [.int (zbo ((¬ (c < lo)) ∧ (¬ (hi < c))))] S pst1 := by
      exact zv_rc ht3 rfl rfl rfl rfl zbo_rng k10
    have J6 : ((c < lo) ∨ (hi < c)) → zEv (d - 1) 102 14 [.retAddr 0, .retAddr 0, .retAddr 0] [] S pst1 := by
      intro b7
      refine zv_c1 ht3 rfl rfl ?_
      exact (zv_sub (zz := zbo ((¬ (c < lo)) ∧ (¬ (hi < c)))) (zy := 0) (p := fun zz => zEv (d - 1) 102 15 [.retAddr 0, .retAddr 0, .retAddr 0] [.int zz] S pst1) (zbo_neg (b7.elim (fun y1 => (fun h => (fun h => h y1) h.1)) (fun y1 => (fun h => (fun h => h y1) h.2)))) J8)
    refine zv_br ht3 rfl rfl rfl (fun b4 => ?_) (fun b4 => ?_)
    · replace b4 : c < lo := (zi_ltE (a := c) (b := lo) rfl rfl (by omega) (by omega)).mp b4
      exact zEv.wk (L := [.retAddr 0, .retAddr 0, .retAddr 0]) (L' := [.int (Int32.ofNat c), .int (Int32.ofNat lo), .int (Int32.ofNat hi)]) (And.intro (Or.inr rfl) (And.intro (Or.inr rfl) (And.intro (Or.inr rfl) trivial))) (J6 (Or.inl b4))
    · replace b4 : ¬ (c < lo) := fun h => b4 ((zi_ltE (a := c) (b := lo) rfl rfl (by omega) (by omega)).mpr h)
      refine zv_c1 ht3 rfl rfl (zv_c1 ht3 rfl rfl ?_)
      refine zv_br ht3 rfl rfl rfl (fun b5 => ?_) (fun b5 => ?_)
      · replace b5 : hi < c := (zi_ltE (a := hi) (b := c) rfl rfl (by omega) (by omega)).mp b5
        exact zEv.wk (L := [.retAddr 0, .retAddr 0, .retAddr 0]) (L' := [.int (Int32.ofNat c), .int (Int32.ofNat lo), .int (Int32.ofNat hi)]) (And.intro (Or.inr rfl) (And.intro (Or.inr rfl) (And.intro (Or.inr rfl) trivial))) (J6 (Or.inr b5))
      · replace b5 : ¬ (hi < c) := fun h => b5 ((zi_ltE (a := hi) (b := c) rfl rfl (by omega) (by omega)).mpr h)
        refine zv_c1 ht3 rfl rfl (zv_c1 ht3 rfl rfl ?_)
        exact zEv.wk (L := [.retAddr 0, .retAddr 0, .retAddr 0]) (L' := [.int (Int32.ofNat c), .int (Int32.ofNat lo), .int (Int32.ofNat hi)]) (And.intro (Or.inr rfl) (And.intro (Or.inr rfl) (And.intro (Or.inr rfl) trivial))) (zv_sub (zz := zbo ((¬ (c < lo)) ∧ (¬ (hi < c)))) (zy := 1) (p := fun zz => zEv (d - 1) 102 15 [.retAddr 0, .retAddr 0, .retAddr 0] [.int zz] S pst1) (zbo_pos ⟨b4, b5⟩) J8)
  refine zv_cl ht rfl rfl rfl rfl (by omega) (Nat.le_of_ble_eq_true rfl) (C2 _ ?_)
  show zEv d 152 9 [.ref 1592, .int (Int32.ofNat lo), .int (Int32.ofNat hi), .retAddr 0] [.int (zbo ((¬ (c < lo)) ∧ (¬ (hi < c))))] S post
  have J17 : zEv d 152 21 [.ref 1592, .int (Int32.ofNat lo), .retAddr 0, .retAddr 0] [] S post := by
    refine zv_c1 ht rfl rfl ?_
    refine zv_cl ht rfl rfl rfl rfl (by omega) (Nat.le_of_ble_eq_true rfl) (m_seeC (S := S) (tp := tp) (sz := sz) (at0 := at0) hF (by omega) hP hc ?_)
    show zEv d 152 25 [.ref 1592, .int (Int32.ofNat lo), .retAddr 0, .retAddr 0] [.int (Int32.ofNat c)] S post
    refine zv_c1 ht rfl rfl ?_
    refine zv_c1 (st' := [.int ((Int32.ofNat c) - (Int32.ofNat lo))]) (S' := S) ht rfl rfl ?_
    refine zv_c2 (L' := [.ref 1592, .int (Int32.ofNat lo), .retAddr 0, .int ((Int32.ofNat c) - (Int32.ofNat lo))]) ht rfl rfl ?_
    refine zv_c1 ht rfl rfl ?_
    have C20 : ∀ (pst19 : Outcome × zS → Prop), (pst19 (.returned (some (.int 0)), S)) → zCall (d - 1) 125 [.ref 1592] S pst19 := by
      intro pst19 k23
      have ht21 : ztab 125 = ztb125 := rfl
      show zEv (d - 1) 125 0 [.ref 1592] [] S pst19
      refine zv_c1 ht21 rfl rfl ?_
      refine zv_e1 (x := Int32.ofNat k) ht21 rfl rfl h_fault ?_
      refine zv_br ht21 rfl rfl rfl (fun b22 => ?_) (fun b22 => (show False from by have hq := b22; have hz : k = 0 := (zi_eqE (a := k) (b := 0) rfl rfl (by omega) (by omega)).mp (Classical.not_not.mp hq); omega).elim)
      refine zv_c1 ht21 rfl rfl ?_
      exact zv_rc ht21 rfl rfl rfl rfl (by decide) k23
    refine zv_cl ht rfl rfl rfl rfl (by omega) (Nat.le_of_ble_eq_true rfl) (C20 _ ?_)
    show zEv d 152 32 [.ref 1592, .int (Int32.ofNat lo), .retAddr 0, .int ((Int32.ofNat c) - (Int32.ofNat lo))] [.int 0] S post
    refine zv_br ht rfl rfl rfl (fun _ => ?_) (fun h => absurd (by decide) h)
    refine zv_c1 ht rfl rfl ?_
    exact zv_rt ht rfl rfl rfl rfl h1
  refine zv_br ht rfl rfl rfl (fun b11 => ?_) (fun b11 => ?_)
  · replace b11 : (¬ (c < lo)) ∧ (¬ (hi < c)) := Classical.byContradiction (fun h => b11 ((zbo_eq0 : (zbo ((¬ (c < lo)) ∧ (¬ (hi < c)))) = 0 ↔ ¬ ((¬ (c < lo)) ∧ (¬ (hi < c)))).mpr h))
    exact zEv.wk (L := [.ref 1592, .int (Int32.ofNat lo), .retAddr 0, .retAddr 0]) (L' := [.ref 1592, .int (Int32.ofNat lo), .int (Int32.ofNat hi), .retAddr 0]) (And.intro (Or.inl rfl) (And.intro (Or.inl rfl) (And.intro (Or.inr rfl) (And.intro (Or.inl rfl) trivial)))) J17
  · replace b11 : ¬ ((¬ (c < lo)) ∧ (¬ (hi < c))) := (zbo_eq0 : (zbo ((¬ (c < lo)) ∧ (¬ (hi < c)))) = 0 ↔ ¬ ((¬ (c < lo)) ∧ (¬ (hi < c)))).mp (Classical.not_not.mp b11)
    refine zv_c1 ht rfl rfl (zv_c1 ht rfl rfl (zv_c1 ht rfl rfl ?_))
    refine zv_e1 (x := Int32.ofNat at0) ht rfl rfl h_at ?_
    have C13 : ∀ (pst12 : Outcome × zS → Prop), (pst12 (.returned none, S)) → zCall (d - 1) 128 [.ref 1592, .int 1, .int (Int32.ofNat at0)] S pst12 := by
      intro pst12 k16
      have ht14 : ztab 128 = ztb128 := rfl
      show zEv (d - 1) 128 0 [.ref 1592, .int 1, .int (Int32.ofNat at0)] [] S pst12
      refine zv_c1 ht14 rfl rfl ?_
      refine zv_e1 (x := Int32.ofNat k) ht14 rfl rfl h_fault ?_
      refine zv_br ht14 rfl rfl rfl (fun b15 => (show False from by have hq := b15; have hz : k ≤ 0 := (zi_leE (a := k) (b := 0) rfl rfl (by omega) (by omega)).mp hq; omega).elim) (fun b15 => ?_)
      exact zv_rt ht14 rfl rfl rfl rfl k16
    refine zv_cl ht rfl rfl rfl rfl (by omega) (Nat.le_of_ble_eq_true rfl) (C13 _ ?_)
    show zEv d 152 21 [.ref 1592, .int (Int32.ofNat lo), .int (Int32.ofNat hi), .retAddr 0] [] S post
    exact zEv.wk (L := [.ref 1592, .int (Int32.ofNat lo), .retAddr 0, .retAddr 0]) (L' := [.ref 1592, .int (Int32.ofNat lo), .int (Int32.ofNat hi), .retAddr 0]) (And.intro (Or.inl rfl) (And.intro (Or.inl rfl) (And.intro (Or.inr rfl) (And.intro (Or.inl rfl) trivial)))) J17

section Q14b
variable {d : Nat} {post : Outcome × zS → Prop} {tp : Nat → Nat} {sz : Nat}
theorem m_letterX {S : zS} (hF : zFin true S) (hd : 2 ≤ d) {at0 k p lo hi : Nat} (hV : mV tp sz S at0) (hX : mX S k p) (hlo : lo < 256) (hhi : hi < 256) (h : ∀ y, post (.returned (some (.int y)), S)) : zCall d 152 [.ref 1592, .int (Int32.ofNat lo), .int (Int32.ofNat hi)] S post := by
  have hq := hV
  obtain ⟨g1, g2, g3, g4, g5, g6⟩ := hV
  exact rl2 hF (by omega) tp at0 sz (pSee tp sz at0) lo hi k g1 hX.1 hq g5 g6 (pSee_lt g4) rfl hlo hhi hX.2.2.1 hX.2.2.2 (h _)
theorem m_wantV {S : zS} (hF : zFin true S) (hd : 2 ≤ d) {at0 rd nx wt w B : Nat} (hP : mP tp sz S at0 rd nx wt) (hw : w < 256) (hw0 : 0 < w)
    (h1 : ∀ S', zFin true S' → pWant tp sz w at0 = .ok (at0 + 1) → mFr B nx wt S S' → mP tp sz S' (at0 + 1) rd nx wt → post (.returned none, S'))
    (h2 : ∀ S', zFin true S' → pWant tp sz w at0 = .error (1, at0) → mFr B nx wt S S' → mX S' 1 at0 → mV tp sz S' at0 → post (.returned none, S')) : zCall d 149 [.ref 1592, .int (Int32.ofNat w)] S post := by
  have hq := hP
  obtain ⟨⟨g1, g2, g3, g4, g5, g6⟩, g7, g8, g9, g10⟩ := hP
  refine wa1 hF (by omega) tp at0 sz (pSee tp sz at0) w g1 g3 hq.v g9 g10 (pSee_lt g8) rfl hw (fun c => ?_) (fun c => ?_)
  · exact h2 _ hF (if_neg c) ((mFr_sI (by decide)).tr (mFr_sI (by decide))) ⟨by show gI (sI S 91 1592 1) 91 1592 = _; exact gI_sI_at, gI_sI_at, by omega, by omega⟩ hq.v
  · have hl : at0 < sz := by
      refine Classical.byContradiction (fun hl => ?_)
      unfold pSee at c; rw [if_neg hl] at c; omega
    exact h1 _ hF (if_pos c) (mFr_sI (by decide)) ⟨⟨gI_sI_at, g2, g3, g4, g5, g6⟩, g7, g8, g9, hl⟩
end Q14b
theorem kn1 {d : Nat} {S : zS} (hF : zFin true S) (hd : 3 ≤ d) {tp : Nat → Nat} {sz at0 k p : Nat}  (h_fault : gI S 91 1592 = Int32.ofNat k) (hV : mV tp sz S at0) (hX : mX S k p) (hk : 0 < k) (hk4 : k < 4) {post : Outcome × zS → Prop} (h1 : ∀ y : Int32, post (.returned (some (.int (-1))), S)) : zCall d 157 [.ref 1592] S post := by
  have ht : ztab 157 = ztb157 := rfl
  show zEv d 157 0 [.ref 1592, .retAddr 0] [] S post
  refine zv_c1 ht rfl rfl (zv_c1 ht rfl rfl (zv_c1 ht rfl rfl ?_))
  refine zv_cl ht rfl rfl rfl rfl (by omega) (Nat.le_of_ble_eq_true rfl) (m_letterX (S := S) (lo := 65) (hi := 80) hF (by omega) hV hX (by omega) (by omega) (fun y => ?_))
  show zEv d 157 8 [.ref 1592, .retAddr 0] [.int y] S post
  refine zv_c2 (L' := [.ref 1592, .int y]) ht rfl rfl ?_
  refine zv_c1 ht rfl rfl ?_
  have C2 : ∀ (pst1 : Outcome × zS → Prop), (pst1 (.returned (some (.int 0)), S)) → zCall (d - 1) 125 [.ref 1592] S pst1 := by
    intro pst1 k5
    have ht3 : ztab 125 = ztb125 := rfl
    show zEv (d - 1) 125 0 [.ref 1592] [] S pst1
    refine zv_c1 ht3 rfl rfl ?_
    refine zv_e1 (x := Int32.ofNat k) ht3 rfl rfl h_fault ?_
    refine zv_br ht3 rfl rfl rfl (fun b4 => ?_) (fun b4 => (show False from by have hq := b4; have hz : k = 0 := (zi_eqE (a := k) (b := 0) rfl rfl (by omega) (by omega)).mp (Classical.not_not.mp hq); omega).elim)
    refine zv_c1 ht3 rfl rfl ?_
    exact zv_rc ht3 rfl rfl rfl rfl (by decide) k5
  refine zv_cl ht rfl rfl rfl rfl (by omega) (Nat.le_of_ble_eq_true rfl) (C2 _ ?_)
  show zEv d 157 13 [.ref 1592, .int y] [.int 0] S post
  refine zv_br ht rfl rfl rfl (fun _ => ?_) (fun h => absurd (by decide) h)
  refine zv_c1 ht rfl rfl ?_
  exact zv_rt ht rfl rfl rfl rfl (h1 y)

section Q14c
variable {d : Nat} {post : Outcome × zS → Prop} {tp : Nat → Nat} {sz : Nat}
theorem m_keyNodeX {S : zS} (hF : zFin true S) (hd : 3 ≤ d) {at0 k p : Nat} (hX : mX S k p) (hV : mV tp sz S at0) (h : post (.returned (some (.int (-1))), S)) : zCall d 157 [.ref 1592] S post :=
  kn1 hF (by omega) hX.1 hV hX hX.2.2.1 hX.2.2.2 (fun _ => h)
theorem m_keyNode {S : zS} (hF : zFin true S) (hd : 3 ≤ d) {at0 rd nx wt B : Nat} (hP : mP tp sz S at0 rd nx wt) (hB : nx < B) (hB3 : B ≤ 3000)
    (h1 : ∀ S' v, zFin true S' → pKey tp sz at0 rd = .ok (v, at0 + 1, rd) → v ≤ 15 → mFr B nx wt S S' → mP tp sz S' (at0 + 1) rd (nx + 1) wt → mKn S' nx v → at0 + 1 ≤ sz → post (.returned (some (.int (Int32.ofNat nx))), S'))
    (h2 : ∀ S', zFin true S' → pKey tp sz at0 rd = .error (1, at0) → mFr B nx wt S S' → mX S' 1 at0 → post (.returned (some (.int (-1))), S')) : zCall d 157 [.ref 1592] S post := by
  refine kn0 (B := B) hF (by omega) hP hP.2.2.2.1 hB hB3 ?_ ?_
  · intro S1 v1 f1 e1 b1 k1 p1 S7 f7 k7 p7 o7
    refine h1 S7 v1 f7 (pb_ok e1) (by omega) (k1.tr k7) p7 ⟨o7.1.1, o7.1.2.1, o7.2.2⟩ p7.2.2.2.2
  · intro S2 u2 f2 e2 k2 x2
    exact h2 S2 f2 (pb_er e2) k2 x2
/-- the locks of a multi -/
theorem m_lockM {S : zS} (hF : zFin true S) {n : Nat} {js : List Nat} (hn : n < 3000) (hk : gA S 1610 n = Int32.ofNat 18) (hch : mCh S (gA S 1612 n) js) (hkk : ∀ j ∈ js, gA S 1610 j = Int32.ofNat 30) (hnn : n ∉ js) (h : post (.returned none, S)) : zCall d 146 [.ref 1592, .int (Int32.ofNat n)] S post := by
  have key : ∀ (js : List Nat) (c : Int32), mCh S c js → (∀ j ∈ js, gA S 1610 j = Int32.ofNat 30) → n ∉ js → zEv d 146 75 [.ref 1592, .int (Int32.ofNat n), .int (Int32.ofNat 18), .int c, .retAddr 0, .retAddr 0] [] S post := by
    intro js
    induction js with
    | nil =>
      intro c hc _ _
      have hc : c = -1 := hc
      subst hc
      exact lt2 hF n 18 hn (by omega) h
    | cons j js ih =>
      intro c hc hk0 hn'
      obtain ⟨rfl, hj, hc⟩ := hc
      exact lt1 hF n 18 j 30 _ _ _ _ _ hn hj (by omega) (by omega) (fun e => hn' (by rw [e]; exact List.mem_cons_self)) (hk0 j List.mem_cons_self) rfl rfl rfl rfl rfl (fun b => absurd rfl b) (fun _ => ih _ hc (fun i hi => hk0 i (List.mem_cons_of_mem _ hi)) (fun x => hn' (List.mem_cons_of_mem _ x)))
  exact lt0 hF n 18 _ hn (by omega) (by omega) (by omega) hk rfl (key js _ hch hkk hnn)
theorem tyN_18 (v : Nat) : tyN 18 v [] = some (0, 444, 0) := by
  have e : tyB 18 v [] = some (0, 444) := by unfold tyB; rw [if_pos (Or.inr rfl)]; rfl
  have hn : ¬ tyMx 18 v [] := by
    rintro (⟨t, h, _⟩ | ⟨i, j, _, h, _⟩)
    · cases h
    · exact absurd h (Nat.not_lt_zero _)
  unfold tyN
  rw [e, zit_neg hn]
  show some ((0 : Int32), (444 : Int32) ||| 0, (0 : Int32) ||| 0) = _
  rw [Int32.or_zero, Int32.or_zero]
theorem m_judges18 {S : zS} (hF : zFin true S) (hd : 4 ≤ d) {n : Nat} {js : List Nat} (hn : n < 3000) (hk : gA S 1610 n = Int32.ofNat 18) (hl0 : gA S 1618 n = 0) (hj : js ≠ []) (hch : mCh S (gA S 1612 n) js) (hkk : ∀ j ∈ js, gA S 1610 j = Int32.ofNat 30) (hnn : n ∉ js)
    (h1 : ∀ S', jKp S n S' → mTy S' n (0, 444, 0) → post (.returned (some (.int 1)), S')) : zCall d 135 [.ref 1592, .int (Int32.ofNat n)] S post := by
  have wk5 : ∀ {pc : Nat} {a b c : Value} {S1 : zS}, zEv d 135 pc [.ref 1592, .int (Int32.ofNat n), .retAddr 0, .retAddr 0, .retAddr 0] [] S1 post → zEv d 135 pc [.ref 1592, .int (Int32.ofNat n), a, b, c] [] S1 post := fun h => zEv.wk (L := [.ref 1592, .int (Int32.ofNat n), .retAddr 0, .retAddr 0, .retAddr 0]) ⟨Or.inl rfl, Or.inl rfl, Or.inr rfl, Or.inr rfl, Or.inr rfl, trivial⟩ h
  obtain ⟨j0, js0, rfl⟩ : ∃ a b, js = a :: b := by
    cases js with
    | nil => exact absurd rfl hj
    | cons a b => exact ⟨a, b, rfl⟩
  refine jdM hF (by omega) n j0 hn hk hch.2.1 hch.1 ?_
  refine pl18 hF (by omega) n hn hk ?_
  have hb : gA (sA (sA S 1616 n 0) 1617 n 444) 1616 n = 0 := by show gA (sA S 1616 n 0) 1616 n = 0; exact gA_sA_at
  refine wk5 (jz48 (S := sA (sA S 1616 n 0) 1617 n 444) hF (by omega) n 0 hn hb (fun _ => ?_) (fun b => absurd b (by decide)))
  refine m_lockM (S := sA (sA S 1616 n 0) 1617 n 444) hF hn hk (hch.eq (fun j _ => rfl)) hkk hnn ?_
  show zEv d 135 165 _ _ (sA (sA S 1616 n 0) 1617 n 444) post
  refine zEv.wk (L := [.retAddr 0, .retAddr 0, .retAddr 0, .retAddr 0, .retAddr 0]) ⟨Or.inr rfl, Or.inr rfl, Or.inl rfl, Or.inl rfl, Or.inl rfl, trivial⟩ ?_
  refine jzE (S := sA (sA S 1616 n 0) 1617 n 444) hF ?_
  refine h1 _ ⟨((zTK_sA (by decide)).tr (zTK_sA (by decide))), fun j hj => ⟨?_, ?_, rfl⟩⟩ ⟨hb, gA_sA_at, hl0⟩
  · show gA (sA S 1616 n 0) 1616 j = _; exact gA_sA_nj hj
  · exact (gA_sA_nj hj).trans rfl
/-- one more part -/
theorem m_adoptG {S : zS} (hF : zFin true S) {n k v p c : Nat} {js : List Nat} (hn : n < 3000) (hc : c < 3000) (hO : mOp S n k v p js) (hm1 : js.length < 100) (hnd : (js ++ [c]).Nodup)
    (h : ∀ S', zFin true S' → zTK [] [1614, 1613, 1612] S S' → (∀ j, j ≠ n → gA S' 1614 j = gA S 1614 j ∧ gA S' 1612 j = gA S 1612 j) → (∀ j, j ∉ js ++ [c] → gA S' 1613 j = gA S 1613 j) → mOp S' n k v p (js ++ [c]) → post (.returned none, S')) : zCall d 154 [.ref 1592, .int (Int32.ofNat n), .int (Int32.ofNat c)] S post := by
  obtain ⟨⟨o1, o2, o3, o4, o5⟩, o6, o7⟩ := hO
  have hnd1 := List.nodup_append.mp hnd
  have hcj : c ∉ js := fun x => hnd1.2.2 c x c (by simp) rfl
  refine m_adopts hF hn hc hm1 o6 o7 hnd1.1 hcj (fun S' f1 k1 m1 x1 m2 c2 => ?_)
  have A : ∀ {a j : Nat}, a ∉ [1614, 1613, 1612] → gA S' a j = gA S a j := fun ha => k1.A ha
  exact h S' f1 k1 m1 (fun j hj => x1 j (fun x => hj (by
    rcases List.mem_cons.mp x with e | e
    · rw [e]; simp
    · exact List.mem_append_left _ e))) ⟨⟨(A (by decide)).trans o1, (A (by decide)).trans o2, (A (by decide)).trans o3, (A (by decide)).trans o4, (A (by decide)).trans o5⟩, m2, c2⟩
end Q14c
theorem sv192a {d : Nat} {S : zS} (hF : zFin true S) (hd : 1 ≤ d) (mk n i w c : Nat)  (h_waits : gI S 97 1592 = Int32.ofNat w) (hn : n < 3000) (hw : w ≤ 2000) (hi : i ≤ 2000) (hmk : mk ≤ 2000) (hiw : i < w) (hc : c < 3000) (hcc : gA S 1619 i = Int32.ofNat c) {post : Outcome × zS → Prop} (h1 : (¬ (w ≤ i)) → zCall (d - 1) 154 [.ref 1592, .int (Int32.ofNat n), .int (Int32.ofNat c)] S (zAf d 156 211 [.ref 1592, .retAddr 0, .retAddr 0, .retAddr 0, .retAddr 0, .retAddr 0, .retAddr 0, .int (Int32.ofNat mk), .int (Int32.ofNat n), .int (Int32.ofNat i)] [] post)) (h2 : (w ≤ i) → zEv d 156 220 [.ref 1592, .retAddr 0, .retAddr 0, .retAddr 0, .retAddr 0, .retAddr 0, .retAddr 0, .int (Int32.ofNat mk), .int (Int32.ofNat n), .retAddr 0] [] S post) : zEv d 156 192 [.ref 1592, .retAddr 0, .retAddr 0, .retAddr 0, .retAddr 0, .retAddr 0, .retAddr 0, .int (Int32.ofNat mk), .int (Int32.ofNat n), .int (Int32.ofNat i)] [] S post := by
  have ht : ztab 156 = ztb156 := rfl
  refine zv_c1 ht rfl rfl (zv_c1 ht rfl rfl ?_)
  refine zv_e1 (x := Int32.ofNat w) ht rfl rfl h_waits ?_
  refine zv_br ht rfl rfl rfl (fun b1 => ?_) (fun b1 => ?_)
  · replace b1 : w ≤ i := (zi_leE (a := w) (b := i) rfl rfl (by omega) (by omega)).mp b1
    exact zEv.wk (L := [.ref 1592, .retAddr 0, .retAddr 0, .retAddr 0, .retAddr 0, .retAddr 0, .retAddr 0, .int (Int32.ofNat mk), .int (Int32.ofNat n), .retAddr 0]) (L' := [.ref 1592, .retAddr 0, .retAddr 0, .retAddr 0, .retAddr 0, .retAddr 0, .retAddr 0, .int (Int32.ofNat mk), .int (Int32.ofNat n), .int (Int32.ofNat i)]) (And.intro (Or.inl rfl) (And.intro (Or.inl rfl) (And.intro (Or.inl rfl) (And.intro (Or.inl rfl) (And.intro (Or.inl rfl) (And.intro (Or.inl rfl) (And.intro (Or.inl rfl) (And.intro (Or.inl rfl) (And.intro (Or.inl rfl) (And.intro (Or.inr rfl) trivial)))))))))) (h2 b1)
  · replace b1 : ¬ (w ≤ i) := fun h => b1 ((zi_leE (a := w) (b := i) rfl rfl (by omega) (by omega)).mpr h)
    refine zv_c1 ht rfl rfl (zv_c1 ht rfl rfl (zv_c1 ht rfl rfl ?_))
    refine zv_gl (st' := [.ref 1619, .int (Int32.ofNat n), .ref 1592]) ht rfl hF rfl rfl rfl ?_
    refine zv_c1 ht rfl rfl ?_
    refine zv_iaE (j := i) (x := Int32.ofNat c) ht rfl rfl rfl rfl (zi_natE (a := i) rfl (by omega)) ⟨(Or.inl rfl), zi_inE (a := i) (n := 2000) rfl (by omega) (by omega)⟩ hcc ?_
    refine zv_cl ht rfl rfl rfl rfl (by omega) (Nat.le_of_ble_eq_true rfl) (h1 b1)

theorem sv192b {d : Nat} {S : zS} (hF : zFin true S) (hd : 1 ≤ d) (mk n i w : Nat)  (h_waits : gI S 97 1592 = Int32.ofNat w) (hn : n < 3000) (hw : w ≤ 2000) (hi : i ≤ 2000) (hmk : mk ≤ 2000) (hiw : i = w) {post : Outcome × zS → Prop} (h1 : (¬ (w ≤ i)) → zCall (d - 1) 154 [.ref 1592, .int (Int32.ofNat n), .int (gA S 1619 i)] S (zAf d 156 211 [.ref 1592, .retAddr 0, .retAddr 0, .retAddr 0, .retAddr 0, .retAddr 0, .retAddr 0, .int (Int32.ofNat mk), .int (Int32.ofNat n), .int (Int32.ofNat i)] [] post)) (h2 : (w ≤ i) → zEv d 156 220 [.ref 1592, .retAddr 0, .retAddr 0, .retAddr 0, .retAddr 0, .retAddr 0, .retAddr 0, .int (Int32.ofNat mk), .int (Int32.ofNat n), .retAddr 0] [] S post) : zEv d 156 192 [.ref 1592, .retAddr 0, .retAddr 0, .retAddr 0, .retAddr 0, .retAddr 0, .retAddr 0, .int (Int32.ofNat mk), .int (Int32.ofNat n), .int (Int32.ofNat i)] [] S post := by
  have ht : ztab 156 = ztb156 := rfl
  refine zv_c1 ht rfl rfl (zv_c1 ht rfl rfl ?_)
  refine zv_e1 (x := Int32.ofNat w) ht rfl rfl h_waits ?_
  refine zv_br ht rfl rfl rfl (fun b1 => ?_) (fun b1 => ?_)
  · replace b1 : w ≤ i := (zi_leE (a := w) (b := i) rfl rfl (by omega) (by omega)).mp b1
    exact zEv.wk (L := [.ref 1592, .retAddr 0, .retAddr 0, .retAddr 0, .retAddr 0, .retAddr 0, .retAddr 0, .int (Int32.ofNat mk), .int (Int32.ofNat n), .retAddr 0]) (L' := [.ref 1592, .retAddr 0, .retAddr 0, .retAddr 0, .retAddr 0, .retAddr 0, .retAddr 0, .int (Int32.ofNat mk), .int (Int32.ofNat n), .int (Int32.ofNat i)]) (And.intro (Or.inl rfl) (And.intro (Or.inl rfl) (And.intro (Or.inl rfl) (And.intro (Or.inl rfl) (And.intro (Or.inl rfl) (And.intro (Or.inl rfl) (And.intro (Or.inl rfl) (And.intro (Or.inl rfl) (And.intro (Or.inl rfl) (And.intro (Or.inr rfl) trivial)))))))))) (h2 b1)
  · replace b1 : ¬ (w ≤ i) := fun h => b1 ((zi_leE (a := w) (b := i) rfl rfl (by omega) (by omega)).mpr h)
    refine zv_c1 ht rfl rfl (zv_c1 ht rfl rfl (zv_c1 ht rfl rfl ?_))
    refine zv_gl (st' := [.ref 1619, .int (Int32.ofNat n), .ref 1592]) ht rfl hF rfl rfl rfl ?_
    refine zv_c1 ht rfl rfl ?_
    refine zv_iaE (j := i) (x := gA S 1619 i) ht rfl rfl rfl rfl (zi_natE (a := i) rfl (by omega)) ⟨(Or.inl rfl), zi_inE (a := i) (n := 2000) rfl (by omega) (by omega)⟩ rfl ?_
    refine zv_cl ht rfl rfl rfl rfl (by omega) (Nat.le_of_ble_eq_true rfl) (h1 b1)

theorem sv214 {d : Nat} {S : zS} (hF : zFin true S) (mk n i : Nat)  (hn : n < 3000) (hi : i ≤ 2000) (hmk : mk ≤ 2000) {post : Outcome × zS → Prop} (h1 : zEv d 156 192 [.ref 1592, .retAddr 0, .retAddr 0, .retAddr 0, .retAddr 0, .retAddr 0, .retAddr 0, .int (Int32.ofNat mk), .int (Int32.ofNat n), .int (Int32.ofNat (i + 1))] [] S post) : zEv d 156 214 [.ref 1592, .retAddr 0, .retAddr 0, .retAddr 0, .retAddr 0, .retAddr 0, .retAddr 0, .int (Int32.ofNat mk), .int (Int32.ofNat n), .int (Int32.ofNat i)] [] S post := by
  have ht : ztab 156 = ztb156 := rfl
  refine zv_iinc (L' := [.ref 1592, .retAddr 0, .retAddr 0, .retAddr 0, .retAddr 0, .retAddr 0, .retAddr 0, .int (Int32.ofNat mk), .int (Int32.ofNat n), .int (Int32.ofNat (i + 1))]) (i := 9) (x := Int32.ofNat (i + 1)) ht rfl rfl (zi_addE (a := i) (b := 1) rfl rfl) rfl ?_
  refine zv_c1 ht rfl rfl ?_
  exact h1

theorem sv220 {d : Nat} {S : zS} (hF : zFin true S) (hd : 1 ≤ d) (mk n : Nat)  (hn : n < 3000) (hmk : mk ≤ 2000) {post : Outcome × zS → Prop} (h1 : zCall (d - 1) 134 [.ref 1592, .int (Int32.ofNat n)] (sI S 97 1592 (Int32.ofNat mk)) (zAf d 156 229 [.ref 1592, .retAddr 0, .retAddr 0, .retAddr 0, .retAddr 0, .retAddr 0, .retAddr 0, .int (Int32.ofNat mk), .int (Int32.ofNat n), .retAddr 0] [] post)) : zEv d 156 220 [.ref 1592, .retAddr 0, .retAddr 0, .retAddr 0, .retAddr 0, .retAddr 0, .retAddr 0, .int (Int32.ofNat mk), .int (Int32.ofNat n), .retAddr 0] [] S post := by
  have ht : ztab 156 = ztb156 := rfl
  refine zv_c1 ht rfl rfl (zv_c1 ht rfl rfl ?_)
  refine zv_c1 (S' := sI S 97 1592 (Int32.ofNat mk)) ht rfl rfl ?_
  refine zv_c1 ht rfl rfl (zv_c1 ht rfl rfl ?_)
  refine zv_cl ht rfl rfl rfl rfl (by omega) (Nat.le_of_ble_eq_true rfl) h1

theorem sv232 {d : Nat} {S : zS} (hF : zFin true S) (y : Int32) {post : Outcome × zS → Prop} (h1 : post (.returned (some (.int y)), S)) : zEv d 156 232 [.retAddr 0, .retAddr 0, .retAddr 0, .retAddr 0, .retAddr 0, .retAddr 0, .retAddr 0, .retAddr 0, .retAddr 0, .retAddr 0] [.int y] S post := by
  have ht : ztab 156 = ztb156 := rfl
  exact zv_rt ht rfl rfl rfl rfl h1


