set_option maxRecDepth 100000
/-! ===== the twin reads: small things ===== -/
/-- the twin is reading, and well so far -/
def mP (tp : Nat → Nat) (sz : Nat) (S : zS) (at0 rd nx wt : Nat) : Prop :=
  (gI S 89 1592 = Int32.ofNat at0 ∧ gI S 90 1592 = Int32.ofNat sz ∧ gI S 91 1592 = Int32.ofNat 0 ∧ gI S 93 1592 = Int32.ofNat rd ∧ gI S 85 1592 = Int32.ofNat nx ∧ gI S 97 1592 = Int32.ofNat wt) ∧ (zLits S ∧ ∀ j, j < sz → gA S 1593 j = Int32.ofNat (tp j)) ∧ (∀ j, tp j < 256) ∧ sz ≤ 300 ∧ at0 ≤ sz
def mV (tp : Nat → Nat) (sz : Nat) (S : zS) (at0 : Nat) : Prop := gI S 89 1592 = Int32.ofNat at0 ∧ gI S 90 1592 = Int32.ofNat sz ∧ (∀ j, j < sz → gA S 1593 j = Int32.ofNat (tp j)) ∧ (∀ j, tp j < 256) ∧ sz ≤ 300 ∧ at0 ≤ sz
theorem mP.v {tp : Nat → Nat} {sz : Nat} {S : zS} {at0 rd nx wt : Nat} (h : mP tp sz S at0 rd nx wt) : mV tp sz S at0 := ⟨h.1.1, h.1.2.1, h.2.1.2, h.2.2.1, h.2.2.2.1, h.2.2.2.2⟩
/-- the twin has failed -/
def mX (S : zS) (k p : Nat) : Prop := gI S 91 1592 = Int32.ofNat k ∧ gI S 92 1592 = Int32.ofNat p ∧ 0 < k ∧ k < 4
theorem sy1 {d : Nat} {S : zS} (hF : zFin true S) (at0 sz c : Nat)  (h_at : gI S 89 1592 = Int32.ofNat at0) (h_size : gI S 90 1592 = Int32.ofNat sz) (hs : sz ≤ 300) (hl : at0 < sz) (hc1 : c < 256) (hc : gA S 1593 at0 = Int32.ofNat c) {post : Outcome × zS → Prop} (h1 : post (.returned (some (.int (Int32.ofNat (znt (sz ≤ at0) 0 c)))), S)) : zCall d 150 [.ref 1592] S post := by
  have ht : ztab 150 = ztb150 := rfl
  show zEv d 150 0 [.ref 1592] [] S post
  refine zv_c1 ht rfl rfl ?_
  refine zv_e1 (x := Int32.ofNat at0) ht rfl rfl h_at ?_
  refine zv_c1 ht rfl rfl ?_
  refine zv_e1 (x := Int32.ofNat sz) ht rfl rfl h_size ?_
  have J2 : zEv d 150 24 [.retAddr 0] [.int (Int32.ofNat (znt (sz ≤ at0) 0 c))] S post := by
    exact zv_rt ht rfl rfl rfl rfl h1
  refine zv_br ht rfl rfl rfl (fun b1 => ?_) (fun b1 => ?_)
  · replace b1 : sz ≤ at0 := (zi_leE (a := sz) (b := at0) rfl rfl (by omega) (by omega)).mp b1
    refine zv_c1 ht rfl rfl ?_
    exact zEv.wk (L := [.retAddr 0]) (L' := [.ref 1592]) (And.intro (Or.inr rfl) trivial) (zv_sub (zz := Int32.ofNat (znt (sz ≤ at0) 0 c)) (zy := 0) (p := fun zz => zEv d 150 24 [.retAddr 0] [.int zz] S post) (congrArg Int32.ofNat (znt_pos b1)) J2)
  · replace b1 : ¬ (sz ≤ at0) := fun h => b1 ((zi_leE (a := sz) (b := at0) rfl rfl (by omega) (by omega)).mpr h)
    refine zv_c1 ht rfl rfl ?_
    refine zv_gl (st' := [.ref 1593]) ht rfl hF rfl rfl rfl ?_
    refine zv_c1 ht rfl rfl ?_
    refine zv_e1 (x := Int32.ofNat at0) ht rfl rfl h_at ?_
    refine zv_iaE (j := at0) (x := Int32.ofNat c) ht rfl rfl rfl rfl (zi_natE (a := at0) rfl (by omega)) ⟨(Or.inl rfl), zi_inE (a := at0) (n := 300) rfl (by omega) (by omega)⟩ hc ?_
    refine zv_c1 ht rfl rfl ?_
    exact zEv.wk (L := [.retAddr 0]) (L' := [.ref 1592]) (And.intro (Or.inr rfl) trivial) (zv_sub (zz := Int32.ofNat (znt (sz ≤ at0) 0 c)) (zy := Int32.ofNat c) (p := fun zz => zEv d 150 24 [.retAddr 0] [.int zz] S post) (congrArg Int32.ofNat (znt_neg b1)) J2)

theorem sy2 {d : Nat} {S : zS} (hF : zFin true S) (at0 sz : Nat)  (h_at : gI S 89 1592 = Int32.ofNat at0) (h_size : gI S 90 1592 = Int32.ofNat sz) (hs : sz ≤ 300) (hl : at0 = sz) {post : Outcome × zS → Prop} (h1 : post (.returned (some (.int (zit (sz ≤ at0) 0 (gA S 1593 at0)))), S)) : zCall d 150 [.ref 1592] S post := by
  have ht : ztab 150 = ztb150 := rfl
  show zEv d 150 0 [.ref 1592] [] S post
  refine zv_c1 ht rfl rfl ?_
  refine zv_e1 (x := Int32.ofNat at0) ht rfl rfl h_at ?_
  refine zv_c1 ht rfl rfl ?_
  refine zv_e1 (x := Int32.ofNat sz) ht rfl rfl h_size ?_
  have J2 : zEv d 150 24 [.retAddr 0] [.int (zit (sz ≤ at0) 0 (gA S 1593 at0))] S post := by
    exact zv_rt ht rfl rfl rfl rfl h1
  refine zv_br ht rfl rfl rfl (fun b1 => ?_) (fun b1 => ?_)
  · replace b1 : sz ≤ at0 := (zi_leE (a := sz) (b := at0) rfl rfl (by omega) (by omega)).mp b1
    refine zv_c1 ht rfl rfl ?_
    exact zEv.wk (L := [.retAddr 0]) (L' := [.ref 1592]) (And.intro (Or.inr rfl) trivial) (zv_sub (zz := zit (sz ≤ at0) 0 (gA S 1593 at0)) (zy := 0) (p := fun zz => zEv d 150 24 [.retAddr 0] [.int zz] S post) (zit_pos b1) J2)
  · replace b1 : ¬ (sz ≤ at0) := fun h => b1 ((zi_leE (a := sz) (b := at0) rfl rfl (by omega) (by omega)).mpr h)
    refine zv_c1 ht rfl rfl ?_
    refine zv_gl (st' := [.ref 1593]) ht rfl hF rfl rfl rfl ?_
    refine zv_c1 ht rfl rfl ?_
    refine zv_e1 (x := Int32.ofNat at0) ht rfl rfl h_at ?_
    refine zv_iaE (j := at0) (x := gA S 1593 at0) ht rfl rfl rfl rfl (zi_natE (a := at0) rfl (by omega)) ⟨(Or.inl rfl), zi_inE (a := at0) (n := 300) rfl (by omega) (by omega)⟩ rfl ?_
    refine zv_c1 ht rfl rfl ?_
    exact zEv.wk (L := [.retAddr 0]) (L' := [.ref 1592]) (And.intro (Or.inr rfl) trivial) (zv_sub (zz := zit (sz ≤ at0) 0 (gA S 1593 at0)) (zy := gA S 1593 at0) (p := fun zz => zEv d 150 24 [.retAddr 0] [.int zz] S post) (zit_neg b1) J2)

section Q2
variable {d : Nat} {post : Outcome × zS → Prop} {tp : Nat → Nat} {sz : Nat}
theorem pSee_lt {at0 : Nat} (h : ∀ j, tp j < 256) : pSee tp sz at0 < 256 := by
  unfold pSee; split
  · exact h _
  · omega
theorem m_see {S : zS} (hF : zFin true S) (hd : 1 ≤ d) {at0 : Nat} (hP : mV tp sz S at0) (h : post (.returned (some (.int (Int32.ofNat (pSee tp sz at0)))), S)) : zCall d 150 [.ref 1592] S post := by
  obtain ⟨h1, h2, h7, h8, h9, h10⟩ := hP
  by_cases hl : at0 < sz
  · have e : pSee tp sz at0 = tp at0 := if_pos hl
    rw [e] at h
    refine sy1 hF at0 sz (tp at0) h1 h2 h9 hl (h8 _) (h7 _ hl) ?_
    rw [znt_neg (by omega)]; exact h
  · have e : pSee tp sz at0 = 0 := if_neg hl
    rw [e] at h
    refine sy2 hF at0 sz h1 h2 h9 (by omega) ?_
    rw [zit_pos (by omega)]; exact h
end Q2
section Q2b
variable {d : Nat} {post : Outcome × zS → Prop} {tp : Nat → Nat} {sz : Nat}
theorem m_seeC {S : zS} (hF : zFin true S) (hd : 1 ≤ d) {at0 c : Nat} (hP : mV tp sz S at0) (hc : pSee tp sz at0 = c) (h : post (.returned (some (.int (Int32.ofNat c))), S)) : zCall d 150 [.ref 1592] S post := m_see hF hd hP (hc ▸ h)
end Q2b
theorem wa1 {d : Nat} {S : zS} (hF : zFin true S) (hd : 2 ≤ d) (tp : Nat → Nat) (at0 sz c : Nat) (w : Nat)  (h_at : gI S 89 1592 = Int32.ofNat at0) (h_fault : gI S 91 1592 = Int32.ofNat 0) (hP : mV tp sz S at0) (hs : sz ≤ 300) (hl : at0 ≤ sz) (hc1 : c < 256) (hc : pSee tp sz at0 = c) (hw : w < 256) {post : Outcome × zS → Prop} (h1 : (¬ (c = w)) → post (.returned none, sI (sI S 91 1592 1) 92 1592 (Int32.ofNat at0))) (h2 : (c = w) → post (.returned none, sI S 89 1592 (Int32.ofNat (at0 + 1)))) : zCall d 149 [.ref 1592, .int (Int32.ofNat w)] S post := by
  have ht : ztab 149 = ztb149 := rfl
  show zEv d 149 0 [.ref 1592, .int (Int32.ofNat w)] [] S post
  refine zv_c1 ht rfl rfl ?_
  have C2 : ∀ (pst1 : Outcome × zS → Prop), (pst1 (.returned (some (.int 1)), S)) → zCall (d - 1) 125 [.ref 1592] S pst1 := by
    intro pst1 k4
    have ht3 : ztab 125 = ztb125 := rfl
    show zEv (d - 1) 125 0 [.ref 1592] [] S pst1
    refine zv_c1 ht3 rfl rfl ?_
    refine zv_e1 (x := 0) ht3 rfl rfl h_fault ?_
    refine zv_br ht3 rfl rfl rfl (fun h => absurd h (by decide)) (fun _ => ?_)
    refine zv_c1 ht3 rfl rfl (zv_c1 ht3 rfl rfl ?_)
    exact zv_rc ht3 rfl rfl rfl rfl (by decide) k4
  refine zv_cl ht rfl rfl rfl rfl (by omega) (Nat.le_of_ble_eq_true rfl) (C2 _ ?_)
  show zEv d 149 4 [.ref 1592, .int (Int32.ofNat w)] [.int 1] S post
  refine zv_br ht rfl rfl rfl (fun h => absurd h (by decide)) (fun _ => ?_)
  refine zv_c1 ht rfl rfl ?_
  refine zv_cl ht rfl rfl rfl rfl (by omega) (Nat.le_of_ble_eq_true rfl) (m_seeC (S := S) (tp := tp) (sz := sz) (at0 := at0) hF (by omega) hP hc ?_)
  show zEv d 149 11 [.ref 1592, .int (Int32.ofNat w)] [.int (Int32.ofNat c)] S post
  refine zv_c1 ht rfl rfl ?_
  refine zv_br ht rfl rfl rfl (fun b5 => ?_) (fun b5 => ?_)
  · replace b5 : ¬ (c = w) := fun h => b5 ((zi_eqE (a := c) (b := w) rfl rfl (by omega) (by omega)).mpr h)
    refine zv_c1 ht rfl rfl (zv_c1 ht rfl rfl (zv_c1 ht rfl rfl ?_))
    refine zv_e1 (x := Int32.ofNat at0) ht rfl rfl h_at ?_
    have C7 : ∀ (pst6 : Outcome × zS → Prop), (pst6 (.returned none, sI (sI S 91 1592 1) 92 1592 (Int32.ofNat at0))) → zCall (d - 1) 128 [.ref 1592, .int 1, .int (Int32.ofNat at0)] S pst6 := by
      intro pst6 k9
      have ht8 : ztab 128 = ztb128 := rfl
      show zEv (d - 1) 128 0 [.ref 1592, .int 1, .int (Int32.ofNat at0)] [] S pst6
      refine zv_c1 ht8 rfl rfl ?_
      refine zv_e1 (x := 0) ht8 rfl rfl h_fault ?_
      refine zv_br ht8 rfl rfl rfl (fun _ => ?_) (fun h => absurd (by decide) h)
      refine zv_c1 ht8 rfl rfl (zv_c1 ht8 rfl rfl ?_)
      refine zv_c1 (S' := sI S 91 1592 1) ht8 rfl rfl ?_
      refine zv_c1 ht8 rfl rfl (zv_c1 ht8 rfl rfl ?_)
      refine zv_c1 (S' := sI (sI S 91 1592 1) 92 1592 (Int32.ofNat at0)) ht8 rfl rfl ?_
      exact zv_rt ht8 rfl rfl rfl rfl k9
    refine zv_cl ht rfl rfl rfl rfl (by omega) (Nat.le_of_ble_eq_true rfl) (C7 _ ?_)
    show zEv d 149 37 [.ref 1592, .int (Int32.ofNat w)] [] (sI (sI S 91 1592 1) 92 1592 (Int32.ofNat at0)) post
    exact zv_rt ht rfl rfl rfl rfl (h1 b5)
  · replace b5 : c = w := (zi_eqE (a := c) (b := w) rfl rfl (by omega) (by omega)).mp (Classical.not_not.mp b5)
    refine zv_c1 ht rfl rfl (zv_c1 ht rfl rfl ?_)
    refine zv_e1 (x := Int32.ofNat at0) ht rfl rfl h_at ?_
    refine zv_c1 ht rfl rfl ?_
    refine zv_e1 (x := Int32.ofNat (at0 + 1)) ht rfl rfl (zi_addE (a := at0) (b := 1) rfl rfl) ?_
    refine zv_c1 (S' := sI S 89 1592 (Int32.ofNat (at0 + 1))) ht rfl rfl ?_
    refine zv_c1 ht rfl rfl ?_
    exact zv_rt ht rfl rfl rfl rfl (h2 b5)

theorem wa2 {d : Nat} {S : zS} (hF : zFin true S) (hd : 1 ≤ d) (w k : Nat)  (h_fault : gI S 91 1592 = Int32.ofNat k) (hk : 0 < k) (hk4 : k < 4) (hw : w < 256) {post : Outcome × zS → Prop} (h1 : post (.returned none, S)) : zCall d 149 [.ref 1592, .int (Int32.ofNat w)] S post := by
  have ht : ztab 149 = ztb149 := rfl
  show zEv d 149 0 [.ref 1592, .int (Int32.ofNat w)] [] S post
  refine zv_c1 ht rfl rfl ?_
  have C2 : ∀ (pst1 : Outcome × zS → Prop), (pst1 (.returned (some (.int 0)), S)) → zCall (d - 1) 125 [.ref 1592] S pst1 := by
    intro pst1 k5
    have ht3 : ztab 125 = ztb125 := rfl
    show zEv (d - 1) 125 0 [.ref 1592] [] S pst1
    refine zv_c1 ht3 rfl rfl ?_
    refine zv_e1 (x := Int32.ofNat k) ht3 rfl rfl h_fault ?_
    refine zv_br ht3 rfl rfl rfl (fun b4 => ?_) (fun b4 => (show False from by have hq := b4; have hz : k = 0 := (zi_eqE (a := k) (b := 0) rfl rfl (by omega) (by omega)).mp (Classical.not_not.mp hq); omega).elim)
    refine zv_c1 ht3 rfl rfl ?_
    exact zv_rc ht3 rfl rfl rfl rfl (by decide) k5
  refine zv_cl ht rfl rfl rfl rfl (by omega) (Nat.le_of_ble_eq_true rfl) (C2 _ ?_)
  show zEv d 149 4 [.ref 1592, .int (Int32.ofNat w)] [.int 0] S post
  refine zv_br ht rfl rfl rfl (fun _ => ?_) (fun h => absurd (by decide) h)
  refine zv_c1 ht rfl rfl (zv_c1 ht rfl rfl (zv_c1 ht rfl rfl ?_))
  refine zv_c1 (st' := [.int (gI S 89 1592), .int 1, .ref 1592]) (S' := S) ht rfl rfl ?_
  have C7 : ∀ (pst6 : Outcome × zS → Prop), (pst6 (.returned none, S)) → zCall (d - 1) 128 [.ref 1592, .int 1, .int (gI S 89 1592)] S pst6 := by
    intro pst6 k10
    have ht8 : ztab 128 = ztb128 := rfl
    show zEv (d - 1) 128 0 [.ref 1592, .int 1, .int (gI S 89 1592)] [] S pst6
    refine zv_c1 ht8 rfl rfl ?_
    refine zv_e1 (x := Int32.ofNat k) ht8 rfl rfl h_fault ?_
    refine zv_br ht8 rfl rfl rfl (fun b9 => (show False from by have hq := b9; have hz : k ≤ 0 := (zi_leE (a := k) (b := 0) rfl rfl (by omega) (by omega)).mp hq; omega).elim) (fun b9 => ?_)
    exact zv_rt ht8 rfl rfl rfl rfl k10
  refine zv_cl ht rfl rfl rfl rfl (by omega) (Nat.le_of_ble_eq_true rfl) (C7 _ ?_)
  show zEv d 149 37 [.ref 1592, .int (Int32.ofNat w)] [] S post
  exact zv_rt ht rfl rfl rfl rfl h1

theorem rl1 {d : Nat} {S : zS} (hF : zFin true S) (hd : 2 ≤ d) (tp : Nat → Nat) (at0 sz c : Nat) (lo hi : Nat)  (h_at : gI S 89 1592 = Int32.ofNat at0) (h_fault : gI S 91 1592 = Int32.ofNat 0) (hP : mV tp sz S at0) (hs : sz ≤ 300) (hl : at0 ≤ sz) (hc1 : c < 256) (hc : pSee tp sz at0 = c) (hlo : lo < 256) (hhi : hi < 256) {post : Outcome × zS → Prop} (h1 : ((¬ (c < lo)) ∧ (¬ (hi < c))) → post (.returned (some (.int ((Int32.ofNat c) - (Int32.ofNat lo)))), sI S 89 1592 (Int32.ofNat (at0 + 1)))) (h2 : (¬ ((¬ (c < lo)) ∧ (¬ (hi < c)))) → post (.returned (some (.int ((Int32.ofNat c) - (Int32.ofNat lo)))), sI (sI S 91 1592 1) 92 1592 (Int32.ofNat at0))) : zCall d 152 [.ref 1592, .int (Int32.ofNat lo), .int (Int32.ofNat hi)] S post := by
  have ht : ztab 152 = ztb152 := rfl
  show zEv d 152 0 [.ref 1592, .int (Int32.ofNat lo), .int (Int32.ofNat hi), .retAddr 0] [] S post
  refine zv_c1 ht rfl rfl ?_
  refine zv_cl ht rfl rfl rfl rfl (by omega) (Nat.le_of_ble_eq_true rfl) (m_seeC (S := S) (tp := tp) (sz := sz) (at0 := at0) hF (by omega) hP hc ?_)
  show zEv d 152 4 [.ref 1592, .int (Int32.ofNat lo), .int (Int32.ofNat hi), .retAddr 0] [.int (Int32.ofNat c)] S post
  refine zv_c1 ht rfl rfl (zv_c1 ht rfl rfl ?_)
  have C2 : ∀ (pst1 : Outcome × zS → Prop), (pst1 (.returned (some (.int (zbo ((¬ (c < lo)) ∧ (¬ (hi < c)))))), S)) → zCall (d - 1) 102 [.int (Int32.ofNat c), .int (Int32.ofNat lo), .int (Int32.ofNat hi)] S pst1 := by
    intro pst1 k10
    have ht3 : ztab 102 = ztb102 := rfl
    show zEv (d - 1) 102 0 [.int (Int32.ofNat c), .int (Int32.ofNat lo), .int (Int32.ofNat hi)] [] S pst1
    refine zv_c1 ht3 rfl rfl (zv_c1 ht3 rfl rfl ?_)
    have J8 : zEv (d - 1) 102 15 [.retAddr 0, .retAddr 0, .retAddr 0] [.int (zbo ((¬ (c < lo)) ∧ (¬ (hi < c))))] S pst1 := by
      exact zv_rc ht3 rfl rfl rfl rfl zbo_rng k10
    have J6 : ((c < lo) ∨ (hi < c)) → zEv (d - 1) 102 14 [.retAddr 0, .retAddr 0, .retAddr 0] [] S pst1 := by
      intro b7
      refine zv_c1 ht3 rfl rfl ?_
      exact (zv_sub (zz := zbo ((¬ (c < lo)) ∧ (¬ (hi < c)))) (zy := 0) (p := fun zz => zEv (d - 1) 102 15 [.retAddr 0, .retAddr 0, .retAddr 0] [.int zz] S pst1) (zbo_neg (b7.elim (fun y1 => (fun h => (fun h => h y1) h.1)) (fun y1 => (fun h => (fun h => h y1) h.2)))) J8)
    refine zv_br ht3 rfl rfl rfl (fun b4 => ?_) (fun b4 => ?_)
    · replace b4 : c < lo := (zi_ltE (a := c) (b := lo) rfl rfl (by omega) (by omega)).mp b4
      exact zEv.wk (L := [.retAddr 0, .retAddr 0, .retAddr 0]) (L' := [.int (Int32.ofNat c), .int (Int32.ofNat lo), .int (Int32.ofNat hi)]) (And.intro (Or.inr rfl) (And.intro (Or.inr rfl) (And.intro (Or.inr rfl) trivial))) (J6 (Or.inl b4))
    · replace b4 : ¬ (c < lo) := fun h => b4 ((zi_ltE (a := c) (b := lo) rfl rfl (by omega) (by omega)).mpr h)
      refine zv_c1 ht3 rfl rfl (zv_c1 ht3 rfl rfl ?_)
      refine zv_br ht3 rfl rfl rfl (fun b5 => ?_) (fun b5 => ?_)
      · replace b5 : hi < c := (zi_ltE (a := hi) (b := c) rfl rfl (by omega) (by omega)).mp b5
        exact zEv.wk (L := [.retAddr 0, .retAddr 0, .retAddr 0]) (L' := [.int (Int32.ofNat c), .int (Int32.ofNat lo), .int (Int32.ofNat hi)]) (And.intro (Or.inr rfl) (And.intro (Or.inr rfl) (And.intro (Or.inr rfl) trivial))) (J6 (Or.inr b5))
      · replace b5 : ¬ (hi < c) := fun h => b5 ((zi_ltE (a := hi) (b := c) rfl rfl (by omega) (by omega)).mpr h)
        refine zv_c1 ht3 rfl rfl (zv_c1 ht3 rfl rfl ?_)
        exact zEv.wk (L := [.retAddr 0, .retAddr 0, .retAddr 0]) (L' := [.int (Int32.ofNat c), .int (Int32.ofNat lo), .int (Int32.ofNat hi)]) (And.intro (Or.inr rfl) (And.intro (Or.inr rfl) (And.intro (Or.inr rfl) trivial))) (zv_sub (zz := zbo ((¬ (c < lo)) ∧ (¬ (hi < c)))) (zy := 1) (p := fun zz => zEv (d - 1) 102 15 [.retAddr 0, .retAddr 0, .retAddr 0] [.int zz] S pst1) (zbo_pos ⟨b4, b5⟩) J8)
  refine zv_cl ht rfl rfl rfl rfl (by omega) (Nat.le_of_ble_eq_true rfl) (C2 _ ?_)
  show zEv d 152 9 [.ref 1592, .int (Int32.ofNat lo), .int (Int32.ofNat hi), .retAddr 0] [.int (zbo ((¬ (c < lo)) ∧ (¬ (hi < c))))] S post
  refine zv_br ht rfl rfl rfl (fun b11 => ?_) (fun b11 => ?_)
  · replace b11 : (¬ (c < lo)) ∧ (¬ (hi < c)) := Classical.byContradiction (fun h => b11 ((zbo_eq0 : (zbo ((¬ (c < lo)) ∧ (¬ (hi < c)))) = 0 ↔ ¬ ((¬ (c < lo)) ∧ (¬ (hi < c)))).mpr h))
    refine zv_c1 ht rfl rfl ?_
    refine zv_cl ht rfl rfl rfl rfl (by omega) (Nat.le_of_ble_eq_true rfl) (m_seeC (S := S) (tp := tp) (sz := sz) (at0 := at0) hF (by omega) hP hc ?_)
    show zEv d 152 25 [.ref 1592, .int (Int32.ofNat lo), .int (Int32.ofNat hi), .retAddr 0] [.int (Int32.ofNat c)] S post
    refine zv_c1 ht rfl rfl ?_
    refine zv_c1 (st' := [.int ((Int32.ofNat c) - (Int32.ofNat lo))]) (S' := S) ht rfl rfl ?_
    refine zv_c2 (L' := [.ref 1592, .int (Int32.ofNat lo), .int (Int32.ofNat hi), .int ((Int32.ofNat c) - (Int32.ofNat lo))]) ht rfl rfl ?_
    refine zv_c1 ht rfl rfl ?_
    have C17 : ∀ (pst16 : Outcome × zS → Prop), (pst16 (.returned (some (.int 1)), S)) → zCall (d - 1) 125 [.ref 1592] S pst16 := by
      intro pst16 k19
      have ht18 : ztab 125 = ztb125 := rfl
      show zEv (d - 1) 125 0 [.ref 1592] [] S pst16
      refine zv_c1 ht18 rfl rfl ?_
      refine zv_e1 (x := 0) ht18 rfl rfl h_fault ?_
      refine zv_br ht18 rfl rfl rfl (fun h => absurd h (by decide)) (fun _ => ?_)
      refine zv_c1 ht18 rfl rfl (zv_c1 ht18 rfl rfl ?_)
      exact zv_rc ht18 rfl rfl rfl rfl (by decide) k19
    refine zv_cl ht rfl rfl rfl rfl (by omega) (Nat.le_of_ble_eq_true rfl) (C17 _ ?_)
    show zEv d 152 32 [.ref 1592, .int (Int32.ofNat lo), .int (Int32.ofNat hi), .int ((Int32.ofNat c) - (Int32.ofNat lo))] [.int 1] S post
    refine zv_br ht rfl rfl rfl (fun h => absurd h (by decide)) (fun _ => ?_)
    refine zv_c1 ht rfl rfl (zv_c1 ht rfl rfl ?_)
    refine zv_e1 (x := Int32.ofNat at0) ht rfl rfl h_at ?_
    refine zv_c1 ht rfl rfl ?_
    refine zv_e1 (x := Int32.ofNat (at0 + 1)) ht rfl rfl (zi_addE (a := at0) (b := 1) rfl rfl) ?_
    refine zv_c1 (S' := sI S 89 1592 (Int32.ofNat (at0 + 1))) ht rfl rfl ?_
    refine zv_c1 ht rfl rfl ?_
    exact zv_rt ht rfl rfl rfl rfl (h1 b11)
  · replace b11 : ¬ ((¬ (c < lo)) ∧ (¬ (hi < c))) := (zbo_eq0 : (zbo ((¬ (c < lo)) ∧ (¬ (hi < c)))) = 0 ↔ ¬ ((¬ (c < lo)) ∧ (¬ (hi < c)))).mp (Classical.not_not.mp b11)
    refine zv_c1 ht rfl rfl (zv_c1 ht rfl rfl (zv_c1 ht rfl rfl ?_))
    refine zv_e1 (x := Int32.ofNat at0) ht rfl rfl h_at ?_
    have C13 : ∀ (pst12 : Outcome × zS → Prop), (pst12 (.returned none, sI (sI S 91 1592 1) 92 1592 (Int32.ofNat at0))) → zCall (d - 1) 128 [.ref 1592, .int 1, .int (Int32.ofNat at0)] S pst12 := by
      intro pst12 k15
      have ht14 : ztab 128 = ztb128 := rfl
      show zEv (d - 1) 128 0 [.ref 1592, .int 1, .int (Int32.ofNat at0)] [] S pst12
      refine zv_c1 ht14 rfl rfl ?_
      refine zv_e1 (x := 0) ht14 rfl rfl h_fault ?_
      refine zv_br ht14 rfl rfl rfl (fun _ => ?_) (fun h => absurd (by decide) h)
      refine zv_c1 ht14 rfl rfl (zv_c1 ht14 rfl rfl ?_)
      refine zv_c1 (S' := sI S 91 1592 1) ht14 rfl rfl ?_
      refine zv_c1 ht14 rfl rfl (zv_c1 ht14 rfl rfl ?_)
      refine zv_c1 (S' := sI (sI S 91 1592 1) 92 1592 (Int32.ofNat at0)) ht14 rfl rfl ?_
      exact zv_rt ht14 rfl rfl rfl rfl k15
    refine zv_cl ht rfl rfl rfl rfl (by omega) (Nat.le_of_ble_eq_true rfl) (C13 _ ?_)
    show zEv d 152 21 [.ref 1592, .int (Int32.ofNat lo), .int (Int32.ofNat hi), .retAddr 0] [] (sI (sI S 91 1592 1) 92 1592 (Int32.ofNat at0)) post
    refine zv_c1 ht rfl rfl ?_
    refine zv_cl ht rfl rfl rfl rfl (by omega) (Nat.le_of_ble_eq_true rfl) (m_seeC (S := sI (sI S 91 1592 1) 92 1592 (Int32.ofNat at0)) (tp := tp) (sz := sz) (at0 := at0) hF (by omega) hP hc ?_)
    show zEv d 152 25 [.ref 1592, .int (Int32.ofNat lo), .int (Int32.ofNat hi), .retAddr 0] [.int (Int32.ofNat c)] (sI (sI S 91 1592 1) 92 1592 (Int32.ofNat at0)) post
    refine zv_c1 ht rfl rfl ?_
    refine zv_c1 (st' := [.int ((Int32.ofNat c) - (Int32.ofNat lo))]) (S' := sI (sI S 91 1592 1) 92 1592 (Int32.ofNat at0)) ht rfl rfl ?_
    refine zv_c2 (L' := [.ref 1592, .int (Int32.ofNat lo), .int (Int32.ofNat hi), .int ((Int32.ofNat c) - (Int32.ofNat lo))]) ht rfl rfl ?_
    refine zv_c1 ht rfl rfl ?_
    have C21 : ∀ (pst20 : Outcome × zS → Prop), (pst20 (.returned (some (.int 0)), sI (sI S 91 1592 1) 92 1592 (Int32.ofNat at0))) → zCall (d - 1) 125 [.ref 1592] (sI (sI S 91 1592 1) 92 1592 (Int32.ofNat at0)) pst20 := by
      intro pst20 k23
      have ht22 : ztab 125 = ztb125 := rfl
      show zEv (d - 1) 125 0 [.ref 1592] [] (sI (sI S 91 1592 1) 92 1592 (Int32.ofNat at0)) pst20
      refine zv_c1 ht22 rfl rfl ?_
      refine zv_c1 (st' := [.int 1]) (S' := sI (sI S 91 1592 1) 92 1592 (Int32.ofNat at0)) ht22 rfl rfl ?_
      refine zv_br ht22 rfl rfl rfl (fun _ => ?_) (fun h => absurd (by decide) h)
      refine zv_c1 ht22 rfl rfl ?_
      exact zv_rc ht22 rfl rfl rfl rfl (by decide) k23
    refine zv_cl ht rfl rfl rfl rfl (by omega) (Nat.le_of_ble_eq_true rfl) (C21 _ ?_)
    show zEv d 152 32 [.ref 1592, .int (Int32.ofNat lo), .int (Int32.ofNat hi), .int ((Int32.ofNat c) - (Int32.ofNat lo))] [.int 0] (sI (sI S 91 1592 1) 92 1592 (Int32.ofNat at0)) post
    refine zv_br ht rfl rfl rfl (fun _ => ?_) (fun h => absurd (by decide) h)
    refine zv_c1 ht rfl rfl ?_
    exact zv_rt ht rfl rfl rfl rfl (h2 b11)

theorem rd1 {d : Nat} {S : zS} (hF : zFin true S) (hd : 1 ≤ d) (p deep rd : Nat)  (h_read : gI S 93 1592 = Int32.ofNat rd) (h_fault : gI S 91 1592 = Int32.ofNat 0) (hp : p ≤ 300) (hd1 : deep < 2000) (hr : rd ≤ 80) {post : Outcome × zS → Prop} (h1 : (¬ (80 < rd + 1)) → (deep ≤ 24) → post (.returned none, sI S 93 1592 (Int32.ofNat (rd + 1)))) (h2 : ((80 < rd + 1) ∨ (¬ (deep ≤ 24))) → post (.returned none, sI (sI (sI S 93 1592 (Int32.ofNat (rd + 1))) 91 1592 2) 92 1592 (Int32.ofNat p))) : zCall d 132 [.ref 1592, .int (Int32.ofNat p), .int (Int32.ofNat deep), .int 0] S post := by
  have ht : ztab 132 = ztb132 := rfl
  show zEv d 132 0 [.ref 1592, .int (Int32.ofNat p), .int (Int32.ofNat deep), .int 0] [] S post
  refine zv_c1 ht rfl rfl (zv_c1 ht rfl rfl ?_)
  refine zv_e1 (x := Int32.ofNat rd) ht rfl rfl h_read ?_
  refine zv_c1 ht rfl rfl ?_
  refine zv_br ht rfl rfl rfl (fun _ => ?_) (fun h => absurd (by decide) h)
  refine zv_c1 ht rfl rfl ?_
  refine zv_e1 (x := Int32.ofNat (rd + 1)) ht rfl rfl (zi_addE (a := rd) (b := 1) rfl rfl) ?_
  refine zv_c1 (S' := sI S 93 1592 (Int32.ofNat (rd + 1))) ht rfl rfl ?_
  refine zv_c1 ht rfl rfl ?_
  refine zv_c1 (st' := [.int (Int32.ofNat (rd + 1))]) (S' := sI S 93 1592 (Int32.ofNat (rd + 1))) ht rfl rfl ?_
  refine zv_c1 ht rfl rfl ?_
  have J3 : ((80 < rd + 1) ∨ (¬ (deep ≤ 24))) → zEv d 132 43 [.ref 1592, .int (Int32.ofNat p), .retAddr 0, .retAddr 0] [] (sI S 93 1592 (Int32.ofNat (rd + 1))) post := by
    intro b4
    refine zv_c1 ht rfl rfl (zv_c1 ht rfl rfl (zv_c1 ht rfl rfl ?_))
    have C6 : ∀ (pst5 : Outcome × zS → Prop), (pst5 (.returned none, sI (sI (sI S 93 1592 (Int32.ofNat (rd + 1))) 91 1592 2) 92 1592 (Int32.ofNat p))) → zCall (d - 1) 128 [.ref 1592, .int 2, .int (Int32.ofNat p)] (sI S 93 1592 (Int32.ofNat (rd + 1))) pst5 := by
      intro pst5 k8
      have ht7 : ztab 128 = ztb128 := rfl
      show zEv (d - 1) 128 0 [.ref 1592, .int 2, .int (Int32.ofNat p)] [] (sI S 93 1592 (Int32.ofNat (rd + 1))) pst5
      refine zv_c1 ht7 rfl rfl ?_
      refine zv_e1 (x := 0) ht7 rfl rfl h_fault ?_
      refine zv_br ht7 rfl rfl rfl (fun _ => ?_) (fun h => absurd (by decide) h)
      refine zv_c1 ht7 rfl rfl (zv_c1 ht7 rfl rfl ?_)
      refine zv_c1 (S' := sI (sI S 93 1592 (Int32.ofNat (rd + 1))) 91 1592 2) ht7 rfl rfl ?_
      refine zv_c1 ht7 rfl rfl (zv_c1 ht7 rfl rfl ?_)
      refine zv_c1 (S' := sI (sI (sI S 93 1592 (Int32.ofNat (rd + 1))) 91 1592 2) 92 1592 (Int32.ofNat p)) ht7 rfl rfl ?_
      exact zv_rt ht7 rfl rfl rfl rfl k8
    refine zv_cl ht rfl rfl rfl rfl (by omega) (Nat.le_of_ble_eq_true rfl) (C6 _ ?_)
    show zEv d 132 49 [.ref 1592, .int (Int32.ofNat p), .retAddr 0, .retAddr 0] [] (sI (sI (sI S 93 1592 (Int32.ofNat (rd + 1))) 91 1592 2) 92 1592 (Int32.ofNat p)) post
    exact zv_rt ht rfl rfl rfl rfl (h2 b4)
  refine zv_br ht rfl rfl rfl (fun b1 => ?_) (fun b1 => ?_)
  · replace b1 : 80 < rd + 1 := (zi_ltE (a := 80) (b := (rd + 1)) rfl rfl (by omega) (by omega)).mp b1
    exact zEv.wk (L := [.ref 1592, .int (Int32.ofNat p), .retAddr 0, .retAddr 0]) (L' := [.ref 1592, .int (Int32.ofNat p), .int (Int32.ofNat deep), .int 0]) (And.intro (Or.inl rfl) (And.intro (Or.inl rfl) (And.intro (Or.inr rfl) (And.intro (Or.inr rfl) trivial)))) (J3 (Or.inl b1))
  · replace b1 : ¬ (80 < rd + 1) := fun h => b1 ((zi_ltE (a := 80) (b := (rd + 1)) rfl rfl (by omega) (by omega)).mpr h)
    refine zv_c1 ht rfl rfl (zv_c1 ht rfl rfl ?_)
    refine zv_br ht rfl rfl rfl (fun _ => ?_) (fun h => absurd (by decide) h)
    refine zv_c1 ht rfl rfl ?_
    refine zv_e1 (x := Int32.ofNat deep) ht rfl rfl (zi_addE (a := deep) (b := 0) rfl rfl) ?_
    refine zv_c1 ht rfl rfl ?_
    refine zv_br ht rfl rfl rfl (fun b2 => ?_) (fun b2 => ?_)
    · replace b2 : deep ≤ 24 := (zi_leE (a := deep) (b := 24) rfl rfl (by omega) (by omega)).mp b2
      exact zv_rt ht rfl rfl rfl rfl (h1 b1 b2)
    · replace b2 : ¬ (deep ≤ 24) := fun h => b2 ((zi_leE (a := deep) (b := 24) rfl rfl (by omega) (by omega)).mpr h)
      exact zEv.wk (L := [.ref 1592, .int (Int32.ofNat p), .retAddr 0, .retAddr 0]) (L' := [.ref 1592, .int (Int32.ofNat p), .int (Int32.ofNat deep), .int 0]) (And.intro (Or.inl rfl) (And.intro (Or.inl rfl) (And.intro (Or.inr rfl) (And.intro (Or.inr rfl) trivial)))) (J3 (Or.inr b2))

theorem rd2 {d : Nat} {S : zS} (hF : zFin true S) (hd : 1 ≤ d) (p deep rd : Nat)  (h_read : gI S 93 1592 = Int32.ofNat rd) (h_fault : gI S 91 1592 = Int32.ofNat 0) (hp : p ≤ 300) (hd1 : deep < 2000) (hr : rd ≤ 80) {post : Outcome × zS → Prop} (h1 : (¬ (80 < rd + 2)) → (deep + 1 ≤ 24) → post (.returned none, sI S 93 1592 (Int32.ofNat (rd + 2)))) (h2 : ((80 < rd + 2) ∨ (¬ (deep + 1 ≤ 24))) → post (.returned none, sI (sI (sI S 93 1592 (Int32.ofNat (rd + 2))) 91 1592 2) 92 1592 (Int32.ofNat p))) : zCall d 132 [.ref 1592, .int (Int32.ofNat p), .int (Int32.ofNat deep), .int 1] S post := by
  have ht : ztab 132 = ztb132 := rfl
  show zEv d 132 0 [.ref 1592, .int (Int32.ofNat p), .int (Int32.ofNat deep), .int 1] [] S post
  refine zv_c1 ht rfl rfl (zv_c1 ht rfl rfl ?_)
  refine zv_e1 (x := Int32.ofNat rd) ht rfl rfl h_read ?_
  refine zv_c1 ht rfl rfl ?_
  refine zv_br ht rfl rfl rfl (fun h => absurd h (by decide)) (fun _ => ?_)
  refine zv_c1 ht rfl rfl (zv_c1 ht rfl rfl ?_)
  refine zv_e1 (x := Int32.ofNat (rd + 2)) ht rfl rfl (zi_addE (a := rd) (b := 2) rfl rfl) ?_
  refine zv_c1 (S' := sI S 93 1592 (Int32.ofNat (rd + 2))) ht rfl rfl ?_
  refine zv_c1 ht rfl rfl ?_
  refine zv_c1 (st' := [.int (Int32.ofNat (rd + 2))]) (S' := sI S 93 1592 (Int32.ofNat (rd + 2))) ht rfl rfl ?_
  refine zv_c1 ht rfl rfl ?_
  have J3 : ((80 < rd + 2) ∨ (¬ (deep + 1 ≤ 24))) → zEv d 132 43 [.ref 1592, .int (Int32.ofNat p), .retAddr 0, .retAddr 0] [] (sI S 93 1592 (Int32.ofNat (rd + 2))) post := by
    intro b4
    refine zv_c1 ht rfl rfl (zv_c1 ht rfl rfl (zv_c1 ht rfl rfl ?_))
    have C6 : ∀ (pst5 : Outcome × zS → Prop), (pst5 (.returned none, sI (sI (sI S 93 1592 (Int32.ofNat (rd + 2))) 91 1592 2) 92 1592 (Int32.ofNat p))) → zCall (d - 1) 128 [.ref 1592, .int 2, .int (Int32.ofNat p)] (sI S 93 1592 (Int32.ofNat (rd + 2))) pst5 := by
      intro pst5 k8
      have ht7 : ztab 128 = ztb128 := rfl
      show zEv (d - 1) 128 0 [.ref 1592, .int 2, .int (Int32.ofNat p)] [] (sI S 93 1592 (Int32.ofNat (rd + 2))) pst5
      refine zv_c1 ht7 rfl rfl ?_
      refine zv_e1 (x := 0) ht7 rfl rfl h_fault ?_
      refine zv_br ht7 rfl rfl rfl (fun _ => ?_) (fun h => absurd (by decide) h)
      refine zv_c1 ht7 rfl rfl (zv_c1 ht7 rfl rfl ?_)
      refine zv_c1 (S' := sI (sI S 93 1592 (Int32.ofNat (rd + 2))) 91 1592 2) ht7 rfl rfl ?_
      refine zv_c1 ht7 rfl rfl (zv_c1 ht7 rfl rfl ?_)
      refine zv_c1 (S' := sI (sI (sI S 93 1592 (Int32.ofNat (rd + 2))) 91 1592 2) 92 1592 (Int32.ofNat p)) ht7 rfl rfl ?_
      exact zv_rt ht7 rfl rfl rfl rfl k8
    refine zv_cl ht rfl rfl rfl rfl (by omega) (Nat.le_of_ble_eq_true rfl) (C6 _ ?_)
    show zEv d 132 49 [.ref 1592, .int (Int32.ofNat p), .retAddr 0, .retAddr 0] [] (sI (sI (sI S 93 1592 (Int32.ofNat (rd + 2))) 91 1592 2) 92 1592 (Int32.ofNat p)) post
    exact zv_rt ht rfl rfl rfl rfl (h2 b4)
  refine zv_br ht rfl rfl rfl (fun b1 => ?_) (fun b1 => ?_)
  · replace b1 : 80 < rd + 2 := (zi_ltE (a := 80) (b := (rd + 2)) rfl rfl (by omega) (by omega)).mp b1
    exact zEv.wk (L := [.ref 1592, .int (Int32.ofNat p), .retAddr 0, .retAddr 0]) (L' := [.ref 1592, .int (Int32.ofNat p), .int (Int32.ofNat deep), .int 1]) (And.intro (Or.inl rfl) (And.intro (Or.inl rfl) (And.intro (Or.inr rfl) (And.intro (Or.inr rfl) trivial)))) (J3 (Or.inl b1))
  · replace b1 : ¬ (80 < rd + 2) := fun h => b1 ((zi_ltE (a := 80) (b := (rd + 2)) rfl rfl (by omega) (by omega)).mpr h)
    refine zv_c1 ht rfl rfl (zv_c1 ht rfl rfl ?_)
    refine zv_br ht rfl rfl rfl (fun h => absurd h (by decide)) (fun _ => ?_)
    refine zv_c1 ht rfl rfl (zv_c1 ht rfl rfl ?_)
    refine zv_e1 (x := Int32.ofNat (deep + 1)) ht rfl rfl (zi_addE (a := deep) (b := 1) rfl rfl) ?_
    refine zv_c1 ht rfl rfl ?_
    refine zv_br ht rfl rfl rfl (fun b2 => ?_) (fun b2 => ?_)
    · replace b2 : deep + 1 ≤ 24 := (zi_leE (a := (deep + 1)) (b := 24) rfl rfl (by omega) (by omega)).mp b2
      exact zv_rt ht rfl rfl rfl rfl (h1 b1 b2)
    · replace b2 : ¬ (deep + 1 ≤ 24) := fun h => b2 ((zi_leE (a := (deep + 1)) (b := 24) rfl rfl (by omega) (by omega)).mpr h)
      exact zEv.wk (L := [.ref 1592, .int (Int32.ofNat p), .retAddr 0, .retAddr 0]) (L' := [.ref 1592, .int (Int32.ofNat p), .int (Int32.ofNat deep), .int 1]) (And.intro (Or.inl rfl) (And.intro (Or.inl rfl) (And.intro (Or.inr rfl) (And.intro (Or.inr rfl) trivial)))) (J3 (Or.inr b2))

theorem nd1 {d : Nat} {S : zS} (hF : zFin true S) (k v p nx : Nat)  (h_nodes : gI S 85 1592 = Int32.ofNat nx) (hnx : nx < 3000) (hk : k < 100) (hv : v < 2147483648) (hp : p ≤ 300) {post : Outcome × zS → Prop} (h1 : post (.returned (some (.int (Int32.ofNat nx))), sI (sA (sA (sA (sA (sA (sA (sA (sA (sA S 1610 nx (Int32.ofNat k)) 1611 nx (Int32.ofNat v)) 1612 nx (-1)) 1613 nx (-1)) 1614 nx 0) 1615 nx (Int32.ofNat p)) 1616 nx (-1)) 1617 nx 0) 1618 nx 0) 85 1592 (Int32.ofNat (nx + 1)))) : zCall d 133 [.ref 1592, .int (Int32.ofNat k), .int (Int32.ofNat v), .int (Int32.ofNat p)] S post := by
  have ht : ztab 133 = ztb133 := rfl
  show zEv d 133 0 [.ref 1592, .int (Int32.ofNat k), .int (Int32.ofNat v), .int (Int32.ofNat p), .retAddr 0] [] S post
  refine zv_c1 ht rfl rfl ?_
  refine zv_e1 (x := Int32.ofNat nx) ht rfl rfl h_nodes ?_
  refine zv_c2 (L' := [.ref 1592, .int (Int32.ofNat k), .int (Int32.ofNat v), .int (Int32.ofNat p), .int (Int32.ofNat nx)]) ht rfl rfl ?_
  refine zv_c1 ht rfl rfl ?_
  refine zv_gl (st' := [.ref 1610]) ht rfl hF rfl rfl rfl ?_
  refine zv_c1 ht rfl rfl (zv_c1 ht rfl rfl ?_)
  refine zv_is (j := nx) (x := Int32.ofNat k) ht rfl rfl rfl rfl (zi_natE (a := nx) rfl (by omega)) ⟨rfl, zi_inE (a := nx) (n := 3000) rfl (by omega) (by omega)⟩ ?_
  refine zv_c1 ht rfl rfl ?_
  refine zv_gl (st' := [.ref 1611]) ht rfl hF rfl rfl rfl ?_
  refine zv_c1 ht rfl rfl (zv_c1 ht rfl rfl ?_)
  refine zv_is (j := nx) (x := Int32.ofNat v) ht rfl rfl rfl rfl (zi_natE (a := nx) rfl (by omega)) ⟨rfl, zi_inE (a := nx) (n := 3000) rfl (by omega) (by omega)⟩ ?_
  refine zv_c1 ht rfl rfl ?_
  refine zv_gl (st' := [.ref 1612]) ht rfl hF rfl rfl rfl ?_
  refine zv_c1 ht rfl rfl (zv_c1 ht rfl rfl ?_)
  refine zv_is (j := nx) (x := (-1)) ht rfl rfl rfl rfl (zi_natE (a := nx) rfl (by omega)) ⟨rfl, zi_inE (a := nx) (n := 3000) rfl (by omega) (by omega)⟩ ?_
  refine zv_c1 ht rfl rfl ?_
  refine zv_gl (st' := [.ref 1613]) ht rfl hF rfl rfl rfl ?_
  refine zv_c1 ht rfl rfl (zv_c1 ht rfl rfl ?_)
  refine zv_is (j := nx) (x := (-1)) ht rfl rfl rfl rfl (zi_natE (a := nx) rfl (by omega)) ⟨rfl, zi_inE (a := nx) (n := 3000) rfl (by omega) (by omega)⟩ ?_
  refine zv_c1 ht rfl rfl ?_
  refine zv_gl (st' := [.ref 1614]) ht rfl hF rfl rfl rfl ?_
  refine zv_c1 ht rfl rfl (zv_c1 ht rfl rfl ?_)
  refine zv_is (j := nx) (x := 0) ht rfl rfl rfl rfl (zi_natE (a := nx) rfl (by omega)) ⟨rfl, zi_inE (a := nx) (n := 3000) rfl (by omega) (by omega)⟩ ?_
  refine zv_c1 ht rfl rfl ?_
  refine zv_gl (st' := [.ref 1615]) ht rfl hF rfl rfl rfl ?_
  refine zv_c1 ht rfl rfl (zv_c1 ht rfl rfl ?_)
  refine zv_is (j := nx) (x := Int32.ofNat p) ht rfl rfl rfl rfl (zi_natE (a := nx) rfl (by omega)) ⟨rfl, zi_inE (a := nx) (n := 3000) rfl (by omega) (by omega)⟩ ?_
  refine zv_c1 ht rfl rfl ?_
  refine zv_gl (st' := [.ref 1616]) ht rfl hF rfl rfl rfl ?_
  refine zv_c1 ht rfl rfl (zv_c1 ht rfl rfl ?_)
  refine zv_is (j := nx) (x := (-1)) ht rfl rfl rfl rfl (zi_natE (a := nx) rfl (by omega)) ⟨rfl, zi_inE (a := nx) (n := 3000) rfl (by omega) (by omega)⟩ ?_
  refine zv_c1 ht rfl rfl ?_
  refine zv_gl (st' := [.ref 1617]) ht rfl hF rfl rfl rfl ?_
  refine zv_c1 ht rfl rfl (zv_c1 ht rfl rfl ?_)
  refine zv_is (j := nx) (x := 0) ht rfl rfl rfl rfl (zi_natE (a := nx) rfl (by omega)) ⟨rfl, zi_inE (a := nx) (n := 3000) rfl (by omega) (by omega)⟩ ?_
  refine zv_c1 ht rfl rfl ?_
  refine zv_gl (st' := [.ref 1618]) ht rfl hF rfl rfl rfl ?_
  refine zv_c1 ht rfl rfl (zv_c1 ht rfl rfl ?_)
  refine zv_is (j := nx) (x := 0) ht rfl rfl rfl rfl (zi_natE (a := nx) rfl (by omega)) ⟨rfl, zi_inE (a := nx) (n := 3000) rfl (by omega) (by omega)⟩ ?_
  refine zv_c1 ht rfl rfl (zv_c1 ht rfl rfl ?_)
  refine zv_e1 (x := Int32.ofNat nx) ht rfl rfl h_nodes ?_
  refine zv_c1 ht rfl rfl ?_
  refine zv_e1 (x := Int32.ofNat (nx + 1)) ht rfl rfl (zi_addE (a := nx) (b := 1) rfl rfl) ?_
  refine zv_c1 (S' := sI (sA (sA (sA (sA (sA (sA (sA (sA (sA S 1610 nx (Int32.ofNat k)) 1611 nx (Int32.ofNat v)) 1612 nx (-1)) 1613 nx (-1)) 1614 nx 0) 1615 nx (Int32.ofNat p)) 1616 nx (-1)) 1617 nx 0) 1618 nx 0) 85 1592 (Int32.ofNat (nx + 1))) ht rfl rfl ?_
  refine zv_c1 ht rfl rfl ?_
  exact zv_rt ht rfl rfl rfl rfl h1


/-- the rows of nodes -/
def mRw : List Nat := [1610, 1611, 1612, 1613, 1614, 1615, 1616, 1617, 1618]
def mRa : List Nat := [1610, 1611, 1612, 1613, 1614, 1615, 1616, 1617, 1618, 1619]
def mRf : List Nat := [89, 91, 92, 93, 85, 97]
/-- what reading keeps -/
def mFr (B nx wt : Nat) (S S' : zS) : Prop := zTK mRf mRa S S' ∧ (∀ j, (j < nx ∨ B ≤ j) → ∀ a ∈ mRw, gA S' a j = gA S a j) ∧ ∀ j, j < wt → gA S' 1619 j = gA S 1619 j
section Q2c
variable {d : Nat} {post : Outcome × zS → Prop} {tp : Nat → Nat} {sz : Nat}
theorem mFr.rf {B nx wt : Nat} {S : zS} : mFr B nx wt S S := ⟨zTK.rf, fun _ _ _ _ => rfl, fun _ _ => rfl⟩
theorem mFr.tr {B nx wt : Nat} {S S' S'' : zS} (h : mFr B nx wt S S') (k : mFr B nx wt S' S'') : mFr B nx wt S S'' := ⟨h.1.tr k.1, fun j hj a ha => (k.2.1 j hj a ha).trans (h.2.1 j hj a ha), fun j hj => (k.2.2 j hj).trans (h.2.2 j hj)⟩
theorem mFr.w {B nx wt B' nx' wt' : Nat} {S S' : zS} (h : mFr B nx wt S S') (h1 : nx' ≤ nx) (h2 : wt' ≤ wt) (h3 : B ≤ B') : mFr B' nx' wt' S S' := ⟨h.1, fun j hj a ha => h.2.1 j (by omega) a ha, fun j hj => h.2.2 j (by omega)⟩
theorem mFr_sI {B nx wt f : Nat} {S : zS} {v : Int32} (h : f ∈ mRf) : mFr B nx wt S (sI S f 1592 v) := ⟨zTK_sI h, fun _ _ _ _ => rfl, fun _ _ => rfl⟩
theorem mFr_sA {B nx wt a j : Nat} {S : zS} {v : Int32} (h : a ∈ mRw) (h1 : nx ≤ j) (h2 : j < B) : mFr B nx wt S (sA S a j v) := by
  have hm : a ∈ mRa := by
    simp only [mRw, mRa, List.mem_cons, List.not_mem_nil, or_false] at h ⊢; omega
  have hw : 1619 ≠ a := by
    simp only [mRw, List.mem_cons, List.not_mem_nil, or_false] at h; omega
  refine ⟨zTK_sA hm, fun i hi b hb => ?_, fun i _ => gA_sA_ne hw⟩
  by_cases e : b = a
  · subst e; exact gA_sA_nj (by omega)
  · exact gA_sA_ne e
theorem mFr_sW {B nx wt j : Nat} {S : zS} {v : Int32} (h : wt ≤ j) : mFr B nx wt S (sA S 1619 j v) := by
  refine ⟨zTK_sA (by decide), fun i hi b hb => gA_sA_ne (fun e => ?_), fun i hi => gA_sA_nj (by omega)⟩
  subst e; exact absurd hb (by decide)
theorem mFr.tape {B nx wt : Nat} {S S' : zS} (h : mFr B nx wt S S') (j : Nat) : gA S' 1593 j = gA S 1593 j := h.1.A (by decide)
theorem mFr.size {B nx wt : Nat} {S S' : zS} (h : mFr B nx wt S S') : gI S' 90 1592 = gI S 90 1592 := h.1.I (by decide) _
theorem m_want {S : zS} (hF : zFin true S) (hd : 2 ≤ d) {at0 rd nx wt w B : Nat} (hP : mP tp sz S at0 rd nx wt) (hw : w < 256) (hw0 : 0 < w)
    (h1 : ∀ S', zFin true S' → pWant tp sz w at0 = .ok (at0 + 1) → mFr B nx wt S S' → mP tp sz S' (at0 + 1) rd nx wt → post (.returned none, S'))
    (h2 : ∀ S', zFin true S' → pWant tp sz w at0 = .error (1, at0) → mFr B nx wt S S' → mX S' 1 at0 → post (.returned none, S')) : zCall d 149 [.ref 1592, .int (Int32.ofNat w)] S post := by
  have hq := hP
  obtain ⟨⟨g1, g2, g3, g4, g5, g6⟩, g7, g8, g9, g10⟩ := hP
  refine wa1 hF (by omega) tp at0 sz (pSee tp sz at0) w g1 g3 hq.v g9 g10 (pSee_lt g8) rfl hw (fun c => ?_) (fun c => ?_)
  · exact h2 _ hF (if_neg c) ((mFr_sI (by decide)).tr (mFr_sI (by decide))) ⟨by show gI (sI S 91 1592 1) 91 1592 = _; exact gI_sI_at, gI_sI_at, by omega, by omega⟩
  · have hl : at0 < sz := by
      refine Classical.byContradiction (fun hl => ?_)
      unfold pSee at c; rw [if_neg hl] at c; omega
    exact h1 _ hF (if_pos c) (mFr_sI (by decide)) ⟨⟨gI_sI_at, g2, g3, g4, g5, g6⟩, g7, g8, g9, hl⟩
theorem m_wantX {S : zS} (hF : zFin true S) (hd : 2 ≤ d) {k p w : Nat} (hX : mX S k p) (hw : w < 256) (h1 : post (.returned none, S)) : zCall d 149 [.ref 1592, .int (Int32.ofNat w)] S post :=
  wa2 hF (by omega) w k hX.1 hX.2.2.1 hX.2.2.2 hw h1
theorem m_letter {S : zS} (hF : zFin true S) (hd : 2 ≤ d) {at0 rd nx wt lo hi B : Nat} (hP : mP tp sz S at0 rd nx wt) (hlo : lo < 256) (hhi : hi < 256) (hl0 : 0 < lo)
    (h1 : ∀ S' v, zFin true S' → pLet tp sz lo hi at0 = .ok (v, at0 + 1) → v ≤ hi - lo → mFr B nx wt S S' → mP tp sz S' (at0 + 1) rd nx wt → post (.returned (some (.int (Int32.ofNat v))), S'))
    (h2 : ∀ S' v, zFin true S' → pLet tp sz lo hi at0 = .error (1, at0) → mFr B nx wt S S' → mX S' 1 at0 → post (.returned (some (.int v)), S')) : zCall d 152 [.ref 1592, .int (Int32.ofNat lo), .int (Int32.ofNat hi)] S post := by
  have hq := hP
  obtain ⟨⟨g1, g2, g3, g4, g5, g6⟩, g7, g8, g9, g10⟩ := hP
  refine rl1 hF (by omega) tp at0 sz (pSee tp sz at0) lo hi g1 g3 hq.v g9 g10 (pSee_lt g8) rfl hlo hhi (fun c => ?_) (fun c => ?_)
  · have hl : at0 < sz := by
      refine Classical.byContradiction (fun hl => ?_)
      unfold pSee at c; rw [if_neg hl] at c; omega
    rw [zi_subE rfl rfl (by omega)]
    exact h1 _ _ hF (if_pos (by omega)) (by omega) (mFr_sI (by decide)) ⟨⟨gI_sI_at, g2, g3, g4, g5, g6⟩, g7, g8, g9, hl⟩
  · exact h2 _ _ hF (if_neg (by omega)) ((mFr_sI (by decide)).tr (mFr_sI (by decide))) ⟨by show gI (sI S 91 1592 1) 91 1592 = _; exact gI_sI_at, gI_sI_at, by omega, by omega⟩
theorem m_reads {S : zS} (hF : zFin true S) (hd : 2 ≤ d) {at0 rd nx wt p deep B : Nat} {two : Bool} (hP : mP tp sz S at0 rd nx wt) (hp : p ≤ 300) (hdp : deep < 2000) (hr : rd ≤ 80)
    (h1 : ∀ S' rd1, zFin true S' → pRead p deep rd two = .ok rd1 → rd1 ≤ 80 → deep ≤ 24 → mFr B nx wt S S' → mP tp sz S' at0 rd1 nx wt → post (.returned none, S'))
    (h2 : ∀ S', zFin true S' → pRead p deep rd two = .error (2, p) → mFr B nx wt S S' → mX S' 2 p → post (.returned none, S')) : zCall d 132 [.ref 1592, .int (Int32.ofNat p), .int (Int32.ofNat deep), .int (bif two then 1 else 0)] S post := by
  obtain ⟨⟨g1, g2, g3, g4, g5, g6⟩, g7, g8, g9, g10⟩ := hP
  have er : ∀ r, mX (sI (sI (sI S 93 1592 r) 91 1592 2) 92 1592 (Int32.ofNat p)) 2 p := fun r => ⟨by show gI (sI (sI S 93 1592 r) 91 1592 2) 91 1592 = _; exact gI_sI_at, gI_sI_at, by omega, by omega⟩
  cases two with
  | false =>
    refine rd1 hF (by omega) p deep rd g4 g3 hp hdp hr (fun a b => ?_) (fun c => ?_)
    · exact h1 _ (rd + 1) hF (by unfold pRead; exact if_neg (by simp; omega)) (by omega) b (mFr_sI (by decide)) ⟨⟨g1, g2, g3, gI_sI_at, g5, g6⟩, g7, g8, g9, g10⟩
    · exact h2 _ hF (by unfold pRead; exact if_pos (by simp; omega)) (((mFr_sI (by decide)).tr (mFr_sI (by decide))).tr (mFr_sI (by decide))) (er _)
  | true =>
    refine rd2 hF (by omega) p deep rd g4 g3 hp hdp hr (fun a b => ?_) (fun c => ?_)
    · exact h1 _ (rd + 2) hF (by unfold pRead; exact if_neg (by simp; omega)) (by omega) (by omega) (mFr_sI (by decide)) ⟨⟨g1, g2, g3, gI_sI_at, g5, g6⟩, g7, g8, g9, g10⟩
    · exact h2 _ hF (by unfold pRead; exact if_pos (by simp; omega)) (((mFr_sI (by decide)).tr (mFr_sI (by decide))).tr (mFr_sI (by decide))) (er _)
end Q2c

