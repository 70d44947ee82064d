set_option maxRecDepth 100000
/-! ===== the twin reads a fragment with its wrappers ===== -/
def pWv (w : Nat) : Prop := (19 ≤ w ∧ w < 26) ∨ w = 103 ∨ w = 104 ∨ w = 105
section Q19
variable {d : Nat} {post : Outcome × zS → Prop} {tp : Nat → Nat} {sz : Nat}
theorem pWr_v {c k : Nat} (h : pWr c = some k) : pWv k := by
  obtain ⟨q, h1, h2⟩ := lookup_mem h
  simp only [List.mem_cons, List.not_mem_nil, or_false] at h1
  rw [← h2]
  unfold pWv
  rcases h1 with e | e | e | e | e | e | e | e | e | e <;> (rw [e]; simp)
theorem m_wrapOfP {S : zS} (hF : zFin true S) {c : Nat} (hc : c < 256) (h1 : ∀ w, pWr c = some w → pWv w → w ≤ 105 → post (.returned (some (.int (Int32.ofNat w))), S)) (h2 : pWr c = none → post (.returned (some (.int (-1))), S)) : zCall d 158 [.int (Int32.ofNat c)] S post := by
  refine m_wrapOf hF hc ?_
  cases hq : pWr c with
  | none => exact h2 hq
  | some k => exact h1 k hq (pWr_v hq) (by have := pWr_v hq; unfold pWv at this; omega)
theorem mP.tpm {S : zS} {at0 rd nx wt j : Nat} (h : mP tp sz S at0 rd nx wt) (hj : j < sz) : gA S 1593 j = Int32.ofNat (tp j % 256) := by
  rw [h.2.1.2 j hj, Nat.mod_eq_of_lt (h.2.2.1 j)]
theorem mV.tpm {S : zS} {at0 j : Nat} (h : mV tp sz S at0) (hj : j < sz) : gA S 1593 j = Int32.ofNat (tp j % 256) := by
  rw [h.2.2.1 j hj, Nat.mod_eq_of_lt (h.2.2.2.1 j)]
theorem m_wrapOfS {S : zS} (hF : zFin true S) {c w : Nat} (hc : c < 256) (hw : pWr c = some w) (h : post (.returned (some (.int (Int32.ofNat w))), S)) : zCall d 158 [.int (Int32.ofNat c)] S post := by
  refine m_wrapOf hF hc ?_
  rw [hw]
  exact h
end Q19
theorem rf0 {d : Nat} {S : zS} (hF : zFin true S) (hd : 13 ≤ d) {tp : Nat → Nat} {sz at0 rd nx wt B K lo0 : Nat} {rec : Nat → Nat → Nat → pE (zNd × Nat × Nat)} (deep : Nat)  (hK : K + 4 ≤ d) (hP : mP tp sz S at0 rd nx wt) (hs0 : sz ≤ 300) (ha0 : at0 ≤ sz) (hrd : rd ≤ 80) (hB : nx + 2 * (sz - at0) ≤ B) (hB3 : B ≤ 3000) (hwt : wt + (sz - at0) ≤ 2000) (hRR : ∀ dp d', lo0 ≤ dp → dp ≤ 24 → K ≤ d' → mRd tp sz B d' (dp + 1) rec) (hdp : deep < 1000) (hlo : lo0 ≤ deep) {post : Outcome × zS → Prop} (h1 : ∀ e5 : Nat, (pWE tp sz at0 = e5) → (at0 ≤ e5) → (e5 ≤ sz) → (¬ (e5 = at0)) → (¬ (e5 = sz)) → (tp e5 % 256 = 58) → zEv d 124 66 [.ref 1592, .int (Int32.ofNat deep), .int (Int32.ofNat at0), .int (Int32.ofNat e5), .int (Int32.ofNat at0), .retAddr 0, .retAddr 0] [] S post) (h2 : ∀ e5 : Nat, (pWE tp sz at0 = e5) → (at0 ≤ e5) → (e5 ≤ sz) → (¬ (e5 = at0)) → ((e5 = sz) ∨ (¬ (tp e5 % 256 = 58))) → ∀ S11 : zS, ∀ q11 : Int32, (mEnd tp sz B nx wt S (pNamed tp sz rec deep at0 rd) (fun at1 => nx + 2 * (at1 - at0)) q11 S11) → post (.returned (some (.int q11)), S11)) (h3 : ∀ e5 : Nat, (pWE tp sz at0 = e5) → (at0 ≤ e5) → (e5 ≤ sz) → (e5 = at0) → ∀ S12 : zS, (zFin true S12) → (mFr B nx wt S S12) → (mX S12 1 at0) → (mV tp sz S12 at0) → post (.returned (some (.int (-1))), S12)) : zCall d 124 [.ref 1592, .int (Int32.ofNat deep)] S post := by
  have ht : ztab 124 = ztb124 := rfl
  show zEv d 124 0 [.ref 1592, .int (Int32.ofNat deep), .retAddr 0, .retAddr 0, .retAddr 0, .retAddr 0, .retAddr 0] [] S post
  refine zv_c1 ht rfl rfl ?_
  have C2 : ∀ (pst1 : Outcome × zS → Prop), (pst1 (.returned (some (.int 1)), S)) → zCall (d - 1) 125 [.ref 1592] S pst1 := by
    intro pst1 k4
    have ht3 : ztab 125 = ztb125 := rfl
    show zEv (d - 1) 125 0 [.ref 1592] [] S pst1
    refine zv_c1 ht3 rfl rfl ?_
    refine zv_e1 (x := 0) ht3 rfl rfl hP.1.2.2.1 ?_
    refine zv_br ht3 rfl rfl rfl (fun h => absurd h (by decide)) (fun _ => ?_)
    refine zv_c1 ht3 rfl rfl (zv_c1 ht3 rfl rfl ?_)
    exact zv_rc ht3 rfl rfl rfl rfl (by decide) k4
  refine zv_cl ht rfl rfl rfl rfl (by omega) (Nat.le_of_ble_eq_true rfl) (C2 _ ?_)
  show zEv d 124 4 [.ref 1592, .int (Int32.ofNat deep), .retAddr 0, .retAddr 0, .retAddr 0, .retAddr 0, .retAddr 0] [.int 1] S post
  refine zv_br ht rfl rfl rfl (fun _ => ?_) (fun h => absurd (by decide) h)
  refine zv_c1 ht rfl rfl ?_
  refine zv_e1 (x := Int32.ofNat at0) ht rfl rfl hP.1.1 ?_
  refine zv_c2 (L' := [.ref 1592, .int (Int32.ofNat deep), .int (Int32.ofNat at0), .retAddr 0, .retAddr 0, .retAddr 0, .retAddr 0]) ht rfl rfl ?_
  refine zv_c1 ht rfl rfl ?_
  refine zv_cl ht rfl rfl rfl rfl (by omega) (Nat.le_of_ble_eq_true rfl) (m_wordEndP (S := S) (tp := tp) (sz := sz) hF (by omega) hP (fun e5 w5 l5 z5 => ?_))
  show zEv d 124 18 [.ref 1592, .int (Int32.ofNat deep), .int (Int32.ofNat at0), .retAddr 0, .retAddr 0, .retAddr 0, .retAddr 0] [.int (Int32.ofNat e5)] S post
  refine zv_c2 (L' := [.ref 1592, .int (Int32.ofNat deep), .int (Int32.ofNat at0), .int (Int32.ofNat e5), .retAddr 0, .retAddr 0, .retAddr 0]) ht rfl rfl ?_
  refine zv_c1 ht rfl rfl (zv_c1 ht rfl rfl ?_)
  refine zv_e1 (x := Int32.ofNat at0) ht rfl rfl hP.1.1 ?_
  refine zv_br ht rfl rfl rfl (fun b6 => ?_) (fun b6 => ?_)
  · replace b6 : ¬ (e5 = at0) := fun h => b6 ((zi_eqE (a := e5) (b := at0) rfl rfl (by omega) (by omega)).mpr h)
    refine zv_c1 ht rfl rfl (zv_c1 ht rfl rfl ?_)
    refine zv_e1 (x := Int32.ofNat sz) ht rfl rfl hP.1.2.1 ?_
    have J9 : ((e5 = sz) ∨ (¬ (tp e5 % 256 = 58))) → zEv d 124 57 [.ref 1592, .int (Int32.ofNat deep), .retAddr 0, .retAddr 0, .retAddr 0, .retAddr 0, .retAddr 0] [] S post := by
      intro b10
      refine zv_c1 ht rfl rfl (zv_c1 ht rfl rfl ?_)
      refine zv_cl ht rfl rfl rfl rfl (by omega) (Nat.le_of_ble_eq_true rfl) (m_named (S := S) (tp := tp) (sz := sz) (B := B) (rec := rec) (deep := deep) (K := K) hF (by omega) (by omega) hP (by omega) (by omega) (by omega) (by omega) (by omega) (fun hq q hq2 => hRR deep q (by omega) (by omega) hq2) (fun S11 q11 m11 => ?_))
      show zEv d 124 62 [.ref 1592, .int (Int32.ofNat deep), .retAddr 0, .retAddr 0, .retAddr 0, .retAddr 0, .retAddr 0] [.int q11] S11 post
      exact zv_rt ht rfl rfl rfl rfl (h2 e5 w5 l5 z5 b6 b10 S11 q11 m11)
    refine zv_br ht rfl rfl rfl (fun b7 => ?_) (fun b7 => ?_)
    · replace b7 : e5 = sz := (zi_eqE (a := e5) (b := sz) rfl rfl (by omega) (by omega)).mp b7
      exact zEv.wk (L := [.ref 1592, .int (Int32.ofNat deep), .retAddr 0, .retAddr 0, .retAddr 0, .retAddr 0, .retAddr 0]) (L' := [.ref 1592, .int (Int32.ofNat deep), .int (Int32.ofNat at0), .int (Int32.ofNat e5), .retAddr 0, .retAddr 0, .retAddr 0]) (And.intro (Or.inl rfl) (And.intro (Or.inl rfl) (And.intro (Or.inr rfl) (And.intro (Or.inr rfl) (And.intro (Or.inl rfl) (And.intro (Or.inl rfl) (And.intro (Or.inl rfl) trivial))))))) (J9 (Or.inl b7))
    · replace b7 : ¬ (e5 = sz) := fun h => b7 ((zi_eqE (a := e5) (b := sz) rfl rfl (by omega) (by omega)).mpr h)
      refine zv_c1 ht rfl rfl ?_
      refine zv_gl (st' := [.ref 1593]) ht rfl hF rfl rfl rfl ?_
      refine zv_c1 ht rfl rfl ?_
      refine zv_iaE (j := e5) (x := Int32.ofNat (tp e5 % 256)) ht rfl rfl rfl rfl (zi_natE (a := e5) rfl (by omega)) ⟨(Or.inl rfl), zi_inE (a := e5) (n := 300) rfl (by omega) (by omega)⟩ (mP.tpm hP (j := e5) (by omega)) ?_
      refine zv_c1 ht rfl rfl ?_
      refine zv_br ht rfl rfl rfl (fun b8 => ?_) (fun b8 => ?_)
      · replace b8 : tp e5 % 256 = 58 := (zi_eqE (a := (tp e5 % 256)) (b := 58) rfl rfl (by omega) (by omega)).mp b8
        refine zv_c1 ht rfl rfl ?_
        refine zv_c2 (L' := [.ref 1592, .int (Int32.ofNat deep), .int (Int32.ofNat at0), .int (Int32.ofNat e5), .int (Int32.ofNat at0), .retAddr 0, .retAddr 0]) ht rfl rfl ?_
        exact (h1 e5 w5 l5 z5 b6 b7 b8)
      · replace b8 : ¬ (tp e5 % 256 = 58) := fun h => b8 ((zi_eqE (a := (tp e5 % 256)) (b := 58) rfl rfl (by omega) (by omega)).mpr h)
        exact zEv.wk (L := [.ref 1592, .int (Int32.ofNat deep), .retAddr 0, .retAddr 0, .retAddr 0, .retAddr 0, .retAddr 0]) (L' := [.ref 1592, .int (Int32.ofNat deep), .int (Int32.ofNat at0), .int (Int32.ofNat e5), .retAddr 0, .retAddr 0, .retAddr 0]) (And.intro (Or.inl rfl) (And.intro (Or.inl rfl) (And.intro (Or.inr rfl) (And.intro (Or.inr rfl) (And.intro (Or.inl rfl) (And.intro (Or.inl rfl) (And.intro (Or.inl rfl) trivial))))))) (J9 (Or.inr b8))
  · replace b6 : e5 = at0 := (zi_eqE (a := e5) (b := at0) rfl rfl (by omega) (by omega)).mp (Classical.not_not.mp b6)
    refine zv_c1 ht rfl rfl (zv_c1 ht rfl rfl (zv_c1 ht rfl rfl ?_))
    refine zv_e1 (x := Int32.ofNat at0) ht rfl rfl hP.1.1 ?_
    refine zv_cl ht rfl rfl rfl rfl (by omega) (Nat.le_of_ble_eq_true rfl) (m_fails (S := S) (tp := tp) (sz := sz) (B := B) (f := 1) (p := at0) hF hP (by omega) (by omega) (fun S12 hF12 k12 x12 w12 => ?_))
    show zEv d 124 36 [.ref 1592, .int (Int32.ofNat deep), .int (Int32.ofNat at0), .int (Int32.ofNat e5), .retAddr 0, .retAddr 0, .retAddr 0] [] S12 post
    refine zv_c1 ht rfl rfl ?_
    exact zv_rt ht rfl rfl rfl rfl (h3 e5 w5 l5 z5 b6 S12 hF12 k12 x12 w12)

theorem rf66 {d : Nat} {S : zS} (hF : zFin true S) (hd : 3 ≤ d) {tp : Nat → Nat} {sz at0 rd nx wt B K lo0 : Nat} {rec : Nat → Nat → Nat → pE (zNd × Nat × Nat)} (deep be e k : Nat)  (hK : K + 4 ≤ d) (hP : mP tp sz S at0 rd nx wt) (hs0 : sz ≤ 300) (ha0 : at0 ≤ sz) (hrd : rd ≤ 80) (hB : nx + 2 * (sz - at0) ≤ B) (hB3 : B ≤ 3000) (hwt : wt + (sz - at0) ≤ 2000) (hRR : ∀ dp d', lo0 ≤ dp → dp ≤ 24 → K ≤ d' → mRd tp sz B d' (dp + 1) rec)(hbe : be ≤ e) (hes : e < sz) (hdp : deep < 1000) (hk : k ≤ e) {post : Outcome × zS → Prop} (h1 : (e ≤ k) → zEv d 124 105 [.ref 1592, .retAddr 0, .int (Int32.ofNat be), .int (Int32.ofNat e), .int (Int32.ofNat deep), .int (Int32.ofNat be), .retAddr 0] [] S post) (h2 : (¬ (e ≤ k)) → ∀ w2 : Nat, (pWr (tp k % 256) = some w2) → (pWv w2) → (w2 ≤ 105) → zEv d 124 66 [.ref 1592, .int (Int32.ofNat deep), .int (Int32.ofNat be), .int (Int32.ofNat e), .int (Int32.ofNat (k + 1)), .retAddr 0, .retAddr 0] [] S post) (h3 : (¬ (e ≤ k)) → (pWr (tp k % 256) = none) → ∀ S5 : zS, (zFin true S5) → (mFr B nx wt S S5) → (mX S5 1 k) → (mV tp sz S5 at0) → zEv d 124 66 [.ref 1592, .int (Int32.ofNat deep), .int (Int32.ofNat be), .int (Int32.ofNat e), .int (Int32.ofNat (k + 1)), .retAddr 0, .retAddr 0] [] S5 post) : zEv d 124 66 [.ref 1592, .int (Int32.ofNat deep), .int (Int32.ofNat be), .int (Int32.ofNat e), .int (Int32.ofNat k), .retAddr 0, .retAddr 0] [] S post := by
  have ht : ztab 124 = ztb124 := rfl
  refine zv_c1 ht rfl rfl (zv_c1 ht rfl rfl ?_)
  refine zv_br ht rfl rfl rfl (fun b1 => ?_) (fun b1 => ?_)
  · replace b1 : e ≤ k := (zi_leE (a := e) (b := k) rfl rfl (by omega) (by omega)).mp b1
    refine zv_c1 ht rfl rfl ?_
    refine zv_c2 (L' := [.ref 1592, .int (Int32.ofNat deep), .int (Int32.ofNat be), .int (Int32.ofNat e), .int (Int32.ofNat deep), .retAddr 0, .retAddr 0]) ht rfl rfl ?_
    refine zv_c1 ht rfl rfl ?_
    refine zv_c2 (L' := [.ref 1592, .int (Int32.ofNat deep), .int (Int32.ofNat be), .int (Int32.ofNat e), .int (Int32.ofNat deep), .int (Int32.ofNat be), .retAddr 0]) ht rfl rfl ?_
    exact zEv.wk (L := [.ref 1592, .retAddr 0, .int (Int32.ofNat be), .int (Int32.ofNat e), .int (Int32.ofNat deep), .int (Int32.ofNat be), .retAddr 0]) (L' := [.ref 1592, .int (Int32.ofNat deep), .int (Int32.ofNat be), .int (Int32.ofNat e), .int (Int32.ofNat deep), .int (Int32.ofNat be), .retAddr 0]) (And.intro (Or.inl rfl) (And.intro (Or.inr rfl) (And.intro (Or.inl rfl) (And.intro (Or.inl rfl) (And.intro (Or.inl rfl) (And.intro (Or.inl rfl) (And.intro (Or.inl rfl) trivial))))))) (h1 b1)
  · replace b1 : ¬ (e ≤ k) := fun h => b1 ((zi_leE (a := e) (b := k) rfl rfl (by omega) (by omega)).mpr h)
    refine zv_c1 ht rfl rfl ?_
    refine zv_gl (st' := [.ref 1593]) ht rfl hF rfl rfl rfl ?_
    refine zv_c1 ht rfl rfl ?_
    refine zv_iaE (j := k) (x := Int32.ofNat (tp k % 256)) ht rfl rfl rfl rfl (zi_natE (a := k) rfl (by omega)) ⟨(Or.inl rfl), zi_inE (a := k) (n := 300) rfl (by omega) (by omega)⟩ (mP.tpm hP (j := k) (by omega)) ?_
    refine zv_cl ht rfl rfl rfl rfl (by omega) (Nat.le_of_ble_eq_true rfl) (m_wrapOfP (S := S) (c := tp k % 256) hF (by omega) (fun w2 q2 b2 c2 => ?_) (fun q3 => ?_))
    · show zEv d 124 82 [.ref 1592, .int (Int32.ofNat deep), .int (Int32.ofNat be), .int (Int32.ofNat e), .int (Int32.ofNat k), .retAddr 0, .retAddr 0] [.int (Int32.ofNat w2)] S post
      refine zv_c1 ht rfl rfl ?_
      refine zv_br ht rfl rfl rfl (fun b4 => ?_) (fun b4 => (b4 (zi_nneg rfl (by omega) (by decide))).elim)
      refine zv_iinc (L' := [.ref 1592, .int (Int32.ofNat deep), .int (Int32.ofNat be), .int (Int32.ofNat e), .int (Int32.ofNat (k + 1)), .retAddr 0, .retAddr 0]) (i := 4) (x := Int32.ofNat (k + 1)) ht rfl rfl (zi_addE (a := k) (b := 1) rfl rfl) rfl ?_
      refine zv_c1 ht rfl rfl ?_
      exact (h2 b1 w2 q2 b2 c2)
    · show zEv d 124 82 [.ref 1592, .int (Int32.ofNat deep), .int (Int32.ofNat be), .int (Int32.ofNat e), .int (Int32.ofNat k), .retAddr 0, .retAddr 0] [.int (-1)] S post
      refine zv_c1 ht rfl rfl ?_
      refine zv_br ht rfl rfl rfl (fun h => absurd h (by decide)) (fun _ => ?_)
      refine zv_c1 ht rfl rfl (zv_c1 ht rfl rfl (zv_c1 ht rfl rfl ?_))
      refine zv_cl ht rfl rfl rfl rfl (by omega) (Nat.le_of_ble_eq_true rfl) (m_fails (S := S) (tp := tp) (sz := sz) (B := B) (f := 1) (p := k) hF hP (by omega) (by omega) (fun S5 hF5 k5 x5 w5 => ?_))
      show zEv d 124 93 [.ref 1592, .int (Int32.ofNat deep), .int (Int32.ofNat be), .int (Int32.ofNat e), .int (Int32.ofNat k), .retAddr 0, .retAddr 0] [] S5 post
      refine zv_iinc (L' := [.ref 1592, .int (Int32.ofNat deep), .int (Int32.ofNat be), .int (Int32.ofNat e), .int (Int32.ofNat (k + 1)), .retAddr 0, .retAddr 0]) (i := 4) (x := Int32.ofNat (k + 1)) ht rfl rfl (zi_addE (a := k) (b := 1) rfl rfl) rfl ?_
      refine zv_c1 ht rfl rfl ?_
      exact (h3 b1 q3 S5 hF5 k5 x5 w5)

theorem rf105 {d : Nat} {S : zS} (hF : zFin true S) (hd : 13 ≤ d) {tp : Nat → Nat} {sz at0 rd nx wt B K lo0 : Nat} {rec : Nat → Nat → Nat → pE (zNd × Nat × Nat)} (be e dd k : Nat)  (hK : K + 4 ≤ d) (hP : mP tp sz S at0 rd nx wt) (hs0 : sz ≤ 300) (ha0 : at0 ≤ sz) (hrd : rd ≤ 80) (hB : nx + 2 * (sz - at0) ≤ B) (hB3 : B ≤ 3000) (hwt : wt + (sz - at0) ≤ 2000) (hRR : ∀ dp d', lo0 ≤ dp → dp ≤ 24 → K ≤ d' → mRd tp sz B d' (dp + 1) rec)(hbe : be ≤ e) (hes : e < sz) (hdp : dd < 2000) (hk : k ≤ e) (h1e : 1 ≤ e) (hae : at0 ≤ e) (hlo : lo0 ≤ dd) {post : Outcome × zS → Prop} (h1 : (¬ (e ≤ k)) → ∀ w6 : Nat, (pWr (tp k % 256) = some w6) → (pWv w6) → (w6 ≤ 105) → (w6 ≤ 100) → ∀ S9 : zS, ∀ rd9 : Nat, (zFin true S9) → (pRead k dd rd false = .ok rd9) → (rd9 ≤ 80) → (dd ≤ 24) → (mFr B nx wt S S9) → (mP tp sz S9 at0 rd9 nx wt) → zEv d 124 105 [.ref 1592, .retAddr 0, .int (Int32.ofNat be), .int (Int32.ofNat e), .int (Int32.ofNat (dd + 1)), .int (Int32.ofNat (k + 1)), .retAddr 0] [] S9 post) (h2 : (¬ (e ≤ k)) → ∀ w6 : Nat, (pWr (tp k % 256) = some w6) → (pWv w6) → (w6 ≤ 105) → (w6 ≤ 100) → ∀ S10 : zS, (zFin true S10) → (pRead k dd rd false = .error (2, k)) → (mFr B nx wt S S10) → (mX S10 2 k) → zEv d 124 105 [.ref 1592, .retAddr 0, .int (Int32.ofNat be), .int (Int32.ofNat e), .int (Int32.ofNat (dd + 1)), .int (Int32.ofNat (k + 1)), .retAddr 0] [] S10 post) (h3 : (¬ (e ≤ k)) → ∀ w6 : Nat, (pWr (tp k % 256) = some w6) → (pWv w6) → (w6 ≤ 105) → (¬ (w6 ≤ 100)) → ∀ S11 : zS, ∀ rd11 : Nat, (zFin true S11) → (pRead k dd rd true = .ok rd11) → (rd11 ≤ 80) → (dd ≤ 24) → (mFr B nx wt S S11) → (mP tp sz S11 at0 rd11 nx wt) → zEv d 124 105 [.ref 1592, .retAddr 0, .int (Int32.ofNat be), .int (Int32.ofNat e), .int (Int32.ofNat (dd + 1)), .int (Int32.ofNat (k + 1)), .retAddr 0] [] S11 post) (h4 : (¬ (e ≤ k)) → ∀ w6 : Nat, (pWr (tp k % 256) = some w6) → (pWv w6) → (w6 ≤ 105) → (¬ (w6 ≤ 100)) → ∀ S12 : zS, (zFin true S12) → (pRead k dd rd true = .error (2, k)) → (mFr B nx wt S S12) → (mX S12 2 k) → zEv d 124 105 [.ref 1592, .retAddr 0, .int (Int32.ofNat be), .int (Int32.ofNat e), .int (Int32.ofNat (dd + 1)), .int (Int32.ofNat (k + 1)), .retAddr 0] [] S12 post) (h5 : (¬ (e ≤ k)) → (pWr (tp k % 256) = none) → ∀ S13 : zS, ∀ rd13 : Nat, (zFin true S13) → (pRead k dd rd false = .ok rd13) → (rd13 ≤ 80) → (dd ≤ 24) → (mFr B nx wt S S13) → (mP tp sz S13 at0 rd13 nx wt) → zEv d 124 105 [.ref 1592, .retAddr 0, .int (Int32.ofNat be), .int (Int32.ofNat e), .int (Int32.ofNat (dd + 1)), .int (Int32.ofNat (k + 1)), .retAddr 0] [] S13 post) (h6 : (¬ (e ≤ k)) → (pWr (tp k % 256) = none) → ∀ S14 : zS, (zFin true S14) → (pRead k dd rd false = .error (2, k)) → (mFr B nx wt S S14) → (mX S14 2 k) → zEv d 124 105 [.ref 1592, .retAddr 0, .int (Int32.ofNat be), .int (Int32.ofNat e), .int (Int32.ofNat (dd + 1)), .int (Int32.ofNat (k + 1)), .retAddr 0] [] S14 post) (h7 : (e ≤ k) → ∀ e19 : Nat, (pWE tp sz (e + 1) = e19) → ((e + 1) ≤ e19) → (e19 ≤ sz) → (¬ (e19 = e + 1)) → ∀ S22 : zS, ∀ q22 : Int32, (mEnd tp sz B nx wt (sI S 89 1592 (Int32.ofNat (e + 1))) (pNamed tp sz rec dd (e + 1) rd) (fun at1 => nx + 2 * (at1 - (e + 1))) q22 S22) → zEv d 124 202 [.ref 1592, .retAddr 0, .int (Int32.ofNat be), .retAddr 0, .retAddr 0, .int q22, .int (Int32.ofNat (e - 1))] [] S22 post) (h8 : (e ≤ k) → ∀ e19 : Nat, (pWE tp sz (e + 1) = e19) → ((e + 1) ≤ e19) → (e19 ≤ sz) → (e19 = e + 1) → ∀ S21 : zS, (zFin true S21) → (mFr B nx wt (sI S 89 1592 (Int32.ofNat (e + 1))) S21) → (mX S21 1 (e + 1)) → (mV tp sz S21 (e + 1)) → zEv d 124 202 [.ref 1592, .retAddr 0, .int (Int32.ofNat be), .retAddr 0, .retAddr 0, .int (-1), .int (Int32.ofNat (e - 1))] [] S21 post) : zEv d 124 105 [.ref 1592, .retAddr 0, .int (Int32.ofNat be), .int (Int32.ofNat e), .int (Int32.ofNat dd), .int (Int32.ofNat k), .retAddr 0] [] S post := by
  have ht : ztab 124 = ztb124 := rfl
  refine zv_c1 ht rfl rfl (zv_c1 ht rfl rfl ?_)
  refine zv_br ht rfl rfl rfl (fun b1 => ?_) (fun b1 => ?_)
  · replace b1 : e ≤ k := (zi_leE (a := e) (b := k) rfl rfl (by omega) (by omega)).mp b1
    refine zv_c1 ht rfl rfl (zv_c1 ht rfl rfl (zv_c1 ht rfl rfl ?_))
    refine zv_e1 (x := Int32.ofNat (e + 1)) ht rfl rfl (zi_addE (a := e) (b := 1) rfl rfl) ?_
    refine zv_c1 (S' := sI S 89 1592 (Int32.ofNat (e + 1))) ht rfl rfl ?_
    refine zv_c1 ht rfl rfl ?_
    have C16 : ∀ (pst15 : Outcome × zS → Prop), (pst15 (.returned (some (.int 1)), sI S 89 1592 (Int32.ofNat (e + 1)))) → zCall (d - 1) 125 [.ref 1592] (sI S 89 1592 (Int32.ofNat (e + 1))) pst15 := by
      intro pst15 k18
      have ht17 : ztab 125 = ztb125 := rfl
      show zEv (d - 1) 125 0 [.ref 1592] [] (sI S 89 1592 (Int32.ofNat (e + 1))) pst15
      refine zv_c1 ht17 rfl rfl ?_
      refine zv_e1 (x := 0) ht17 rfl rfl hP.1.2.2.1 ?_
      refine zv_br ht17 rfl rfl rfl (fun h => absurd h (by decide)) (fun _ => ?_)
      refine zv_c1 ht17 rfl rfl (zv_c1 ht17 rfl rfl ?_)
      exact zv_rc ht17 rfl rfl rfl rfl (by decide) k18
    refine zv_cl ht rfl rfl rfl rfl (by omega) (Nat.le_of_ble_eq_true rfl) (C16 _ ?_)
    show zEv d 124 166 [.ref 1592, .retAddr 0, .int (Int32.ofNat be), .int (Int32.ofNat e), .int (Int32.ofNat dd), .int (Int32.ofNat k), .retAddr 0] [.int 1] (sI S 89 1592 (Int32.ofNat (e + 1))) post
    refine zv_br ht rfl rfl rfl (fun h => absurd h (by decide)) (fun _ => ?_)
    refine zv_c1 ht rfl rfl ?_
    refine zv_cl ht rfl rfl rfl rfl (by omega) (Nat.le_of_ble_eq_true rfl) (m_wordEndP (S := sI S 89 1592 (Int32.ofNat (e + 1))) (tp := tp) (sz := sz) hF (by omega) (mP_at hP (by omega)) (fun e19 w19 l19 z19 => ?_))
    show zEv d 124 173 [.ref 1592, .retAddr 0, .int (Int32.ofNat be), .int (Int32.ofNat e), .int (Int32.ofNat dd), .int (Int32.ofNat k), .retAddr 0] [.int (Int32.ofNat e19)] (sI S 89 1592 (Int32.ofNat (e + 1))) post
    refine zv_c1 ht rfl rfl ?_
    refine zv_c1 (st' := [.int (Int32.ofNat (e + 1)), .int (Int32.ofNat e19)]) (S' := sI S 89 1592 (Int32.ofNat (e + 1))) ht rfl rfl ?_
    refine zv_br ht rfl rfl rfl (fun b20 => ?_) (fun b20 => ?_)
    · replace b20 : ¬ (e19 = e + 1) := fun h => b20 ((zi_eqE (a := e19) (b := (e + 1)) rfl rfl (by omega) (by omega)).mpr h)
      refine zv_c1 ht rfl rfl (zv_c1 ht rfl rfl ?_)
      refine zv_cl ht rfl rfl rfl rfl (by omega) (Nat.le_of_ble_eq_true rfl) (m_named (S := sI S 89 1592 (Int32.ofNat (e + 1))) (tp := tp) (sz := sz) (B := B) (rec := rec) (deep := dd) (K := K) hF (by omega) (by omega) (mP_at hP (by omega)) (by omega) (by omega) (by omega) (by omega) (by omega) (fun hq q hq2 => hRR dd q (by omega) (by omega) hq2) (fun S22 q22 m22 => ?_))
      show zEv d 124 195 [.ref 1592, .retAddr 0, .int (Int32.ofNat be), .int (Int32.ofNat e), .int (Int32.ofNat dd), .int (Int32.ofNat k), .retAddr 0] [.int q22] S22 post
      refine zv_c2 (L' := [.ref 1592, .retAddr 0, .int (Int32.ofNat be), .int (Int32.ofNat e), .int (Int32.ofNat dd), .int q22, .retAddr 0]) ht rfl rfl ?_
      refine zv_c1 ht rfl rfl (zv_c1 ht rfl rfl ?_)
      refine zv_e1 (x := Int32.ofNat (e - 1)) ht rfl rfl (zi_subE (a := e) (b := 1) rfl rfl (by omega)) ?_
      refine zv_c2 (L' := [.ref 1592, .retAddr 0, .int (Int32.ofNat be), .int (Int32.ofNat e), .int (Int32.ofNat dd), .int q22, .int (Int32.ofNat (e - 1))]) ht rfl rfl ?_
      exact zEv.wk (L := [.ref 1592, .retAddr 0, .int (Int32.ofNat be), .retAddr 0, .retAddr 0, .int q22, .int (Int32.ofNat (e - 1))]) (L' := [.ref 1592, .retAddr 0, .int (Int32.ofNat be), .int (Int32.ofNat e), .int (Int32.ofNat dd), .int q22, .int (Int32.ofNat (e - 1))]) (And.intro (Or.inl rfl) (And.intro (Or.inl rfl) (And.intro (Or.inl rfl) (And.intro (Or.inr rfl) (And.intro (Or.inr rfl) (And.intro (Or.inl rfl) (And.intro (Or.inl rfl) trivial))))))) (h7 b1 e19 w19 l19 z19 b20 S22 q22 m22)
    · replace b20 : e19 = e + 1 := (zi_eqE (a := e19) (b := (e + 1)) rfl rfl (by omega) (by omega)).mp (Classical.not_not.mp b20)
      refine zv_c1 ht rfl rfl (zv_c1 ht rfl rfl (zv_c1 ht rfl rfl ?_))
      refine zv_c1 (st' := [.int (Int32.ofNat (e + 1)), .int 1, .ref 1592]) (S' := sI S 89 1592 (Int32.ofNat (e + 1))) ht rfl rfl ?_
      refine zv_cl ht rfl rfl rfl rfl (by omega) (Nat.le_of_ble_eq_true rfl) (m_fails (S := sI S 89 1592 (Int32.ofNat (e + 1))) (tp := tp) (sz := sz) (B := B) (f := 1) (p := e + 1) hF (mP_at hP (by omega)) (by omega) (by omega) (fun S21 hF21 k21 x21 w21 => ?_))
      show zEv d 124 189 [.ref 1592, .retAddr 0, .int (Int32.ofNat be), .int (Int32.ofNat e), .int (Int32.ofNat dd), .int (Int32.ofNat k), .retAddr 0] [] S21 post
      refine zv_c1 ht rfl rfl (zv_c1 ht rfl rfl ?_)
      refine zv_cl ht rfl rfl rfl rfl (by omega) (Nat.le_of_ble_eq_true rfl) (m_namedX (S := S21) hF21 (by omega) x21 ?_)
      show zEv d 124 195 [.ref 1592, .retAddr 0, .int (Int32.ofNat be), .int (Int32.ofNat e), .int (Int32.ofNat dd), .int (Int32.ofNat k), .retAddr 0] [.int (-1)] S21 post
      refine zv_c2 (L' := [.ref 1592, .retAddr 0, .int (Int32.ofNat be), .int (Int32.ofNat e), .int (Int32.ofNat dd), .int (-1), .retAddr 0]) ht rfl rfl ?_
      refine zv_c1 ht rfl rfl (zv_c1 ht rfl rfl ?_)
      refine zv_e1 (x := Int32.ofNat (e - 1)) ht rfl rfl (zi_subE (a := e) (b := 1) rfl rfl (by omega)) ?_
      refine zv_c2 (L' := [.ref 1592, .retAddr 0, .int (Int32.ofNat be), .int (Int32.ofNat e), .int (Int32.ofNat dd), .int (-1), .int (Int32.ofNat (e - 1))]) ht rfl rfl ?_
      exact zEv.wk (L := [.ref 1592, .retAddr 0, .int (Int32.ofNat be), .retAddr 0, .retAddr 0, .int (-1), .int (Int32.ofNat (e - 1))]) (L' := [.ref 1592, .retAddr 0, .int (Int32.ofNat be), .int (Int32.ofNat e), .int (Int32.ofNat dd), .int (-1), .int (Int32.ofNat (e - 1))]) (And.intro (Or.inl rfl) (And.intro (Or.inl rfl) (And.intro (Or.inl rfl) (And.intro (Or.inr rfl) (And.intro (Or.inr rfl) (And.intro (Or.inl rfl) (And.intro (Or.inl rfl) trivial))))))) (h8 b1 e19 w19 l19 z19 b20 S21 hF21 k21 x21 w21)
  · replace b1 : ¬ (e ≤ k) := fun h => b1 ((zi_leE (a := e) (b := k) rfl rfl (by omega) (by omega)).mpr h)
    refine zv_c1 ht rfl rfl ?_
    have C3 : ∀ (pst2 : Outcome × zS → Prop), (pst2 (.returned (some (.int 1)), S)) → zCall (d - 1) 125 [.ref 1592] S pst2 := by
      intro pst2 k5
      have ht4 : ztab 125 = ztb125 := rfl
      show zEv (d - 1) 125 0 [.ref 1592] [] S pst2
      refine zv_c1 ht4 rfl rfl ?_
      refine zv_e1 (x := 0) ht4 rfl rfl hP.1.2.2.1 ?_
      refine zv_br ht4 rfl rfl rfl (fun h => absurd h (by decide)) (fun _ => ?_)
      refine zv_c1 ht4 rfl rfl (zv_c1 ht4 rfl rfl ?_)
      exact zv_rc ht4 rfl rfl rfl rfl (by decide) k5
    refine zv_cl ht rfl rfl rfl rfl (by omega) (Nat.le_of_ble_eq_true rfl) (C3 _ ?_)
    show zEv d 124 115 [.ref 1592, .retAddr 0, .int (Int32.ofNat be), .int (Int32.ofNat e), .int (Int32.ofNat dd), .int (Int32.ofNat k), .retAddr 0] [.int 1] S post
    refine zv_br ht rfl rfl rfl (fun h => absurd h (by decide)) (fun _ => ?_)
    refine zv_c1 ht rfl rfl (zv_c1 ht rfl rfl (zv_c1 ht rfl rfl (zv_c1 ht rfl rfl ?_)))
    refine zv_gl (st' := [.ref 1593, .int (Int32.ofNat dd), .int (Int32.ofNat k), .ref 1592]) ht rfl hF rfl rfl rfl ?_
    refine zv_c1 ht rfl rfl ?_
    refine zv_iaE (j := k) (x := Int32.ofNat (tp k % 256)) ht rfl rfl rfl rfl (zi_natE (a := k) rfl (by omega)) ⟨(Or.inl rfl), zi_inE (a := k) (n := 300) rfl (by omega) (by omega)⟩ (mP.tpm hP (j := k) (by omega)) ?_
    refine zv_cl ht rfl rfl rfl rfl (by omega) (Nat.le_of_ble_eq_true rfl) (m_wrapOfP (S := S) (c := tp k % 256) hF (by omega) (fun w6 q6 b6 c6 => ?_) (fun q7 => ?_))
    · show zEv d 124 133 [.ref 1592, .retAddr 0, .int (Int32.ofNat be), .int (Int32.ofNat e), .int (Int32.ofNat dd), .int (Int32.ofNat k), .retAddr 0] [.int (Int32.ofNat w6), .int (Int32.ofNat dd), .int (Int32.ofNat k), .ref 1592] S post
      refine zv_c1 ht rfl rfl ?_
      refine zv_br ht rfl rfl rfl (fun b8 => ?_) (fun b8 => ?_)
      · replace b8 : w6 ≤ 100 := (zi_leE (a := w6) (b := 100) rfl rfl (by omega) (by omega)).mp b8
        refine zv_c1 ht rfl rfl ?_
        refine zv_cl ht rfl rfl rfl rfl (by omega) (Nat.le_of_ble_eq_true rfl) (m_reads (S := S) (tp := tp) (sz := sz) (B := B) (p := k) (deep := dd) (two := false) hF (by omega) hP (by omega) (by omega) (by omega) (fun S9 rd9 hF9 e9 g9 l9 k9 p9 => ?_) (fun S10 hF10 e10 k10 x10 => ?_))
        · show zEv d 124 146 [.ref 1592, .retAddr 0, .int (Int32.ofNat be), .int (Int32.ofNat e), .int (Int32.ofNat dd), .int (Int32.ofNat k), .retAddr 0] [] S9 post
          refine zv_iinc (L' := [.ref 1592, .retAddr 0, .int (Int32.ofNat be), .int (Int32.ofNat e), .int (Int32.ofNat (dd + 1)), .int (Int32.ofNat k), .retAddr 0]) (i := 4) (x := Int32.ofNat (dd + 1)) ht rfl rfl (zi_addE (a := dd) (b := 1) rfl rfl) rfl ?_
          refine zv_iinc (L' := [.ref 1592, .retAddr 0, .int (Int32.ofNat be), .int (Int32.ofNat e), .int (Int32.ofNat (dd + 1)), .int (Int32.ofNat (k + 1)), .retAddr 0]) (i := 5) (x := Int32.ofNat (k + 1)) ht rfl rfl (zi_addE (a := k) (b := 1) rfl rfl) rfl ?_
          refine zv_c1 ht rfl rfl ?_
          exact (h1 b1 w6 q6 b6 c6 b8 S9 rd9 hF9 e9 g9 l9 k9 p9)
        · show zEv d 124 146 [.ref 1592, .retAddr 0, .int (Int32.ofNat be), .int (Int32.ofNat e), .int (Int32.ofNat dd), .int (Int32.ofNat k), .retAddr 0] [] S10 post
          refine zv_iinc (L' := [.ref 1592, .retAddr 0, .int (Int32.ofNat be), .int (Int32.ofNat e), .int (Int32.ofNat (dd + 1)), .int (Int32.ofNat k), .retAddr 0]) (i := 4) (x := Int32.ofNat (dd + 1)) ht rfl rfl (zi_addE (a := dd) (b := 1) rfl rfl) rfl ?_
          refine zv_iinc (L' := [.ref 1592, .retAddr 0, .int (Int32.ofNat be), .int (Int32.ofNat e), .int (Int32.ofNat (dd + 1)), .int (Int32.ofNat (k + 1)), .retAddr 0]) (i := 5) (x := Int32.ofNat (k + 1)) ht rfl rfl (zi_addE (a := k) (b := 1) rfl rfl) rfl ?_
          refine zv_c1 ht rfl rfl ?_
          exact (h2 b1 w6 q6 b6 c6 b8 S10 hF10 e10 k10 x10)
      · replace b8 : ¬ (w6 ≤ 100) := fun h => b8 ((zi_leE (a := w6) (b := 100) rfl rfl (by omega) (by omega)).mpr h)
        refine zv_c1 ht rfl rfl (zv_c1 ht rfl rfl ?_)
        refine zv_cl ht rfl rfl rfl rfl (by omega) (Nat.le_of_ble_eq_true rfl) (m_reads (S := S) (tp := tp) (sz := sz) (B := B) (p := k) (deep := dd) (two := true) hF (by omega) hP (by omega) (by omega) (by omega) (fun S11 rd11 hF11 e11 g11 l11 k11 p11 => ?_) (fun S12 hF12 e12 k12 x12 => ?_))
        · show zEv d 124 146 [.ref 1592, .retAddr 0, .int (Int32.ofNat be), .int (Int32.ofNat e), .int (Int32.ofNat dd), .int (Int32.ofNat k), .retAddr 0] [] S11 post
          refine zv_iinc (L' := [.ref 1592, .retAddr 0, .int (Int32.ofNat be), .int (Int32.ofNat e), .int (Int32.ofNat (dd + 1)), .int (Int32.ofNat k), .retAddr 0]) (i := 4) (x := Int32.ofNat (dd + 1)) ht rfl rfl (zi_addE (a := dd) (b := 1) rfl rfl) rfl ?_
          refine zv_iinc (L' := [.ref 1592, .retAddr 0, .int (Int32.ofNat be), .int (Int32.ofNat e), .int (Int32.ofNat (dd + 1)), .int (Int32.ofNat (k + 1)), .retAddr 0]) (i := 5) (x := Int32.ofNat (k + 1)) ht rfl rfl (zi_addE (a := k) (b := 1) rfl rfl) rfl ?_
          refine zv_c1 ht rfl rfl ?_
          exact (h3 b1 w6 q6 b6 c6 b8 S11 rd11 hF11 e11 g11 l11 k11 p11)
        · show zEv d 124 146 [.ref 1592, .retAddr 0, .int (Int32.ofNat be), .int (Int32.ofNat e), .int (Int32.ofNat dd), .int (Int32.ofNat k), .retAddr 0] [] S12 post
          refine zv_iinc (L' := [.ref 1592, .retAddr 0, .int (Int32.ofNat be), .int (Int32.ofNat e), .int (Int32.ofNat (dd + 1)), .int (Int32.ofNat k), .retAddr 0]) (i := 4) (x := Int32.ofNat (dd + 1)) ht rfl rfl (zi_addE (a := dd) (b := 1) rfl rfl) rfl ?_
          refine zv_iinc (L' := [.ref 1592, .retAddr 0, .int (Int32.ofNat be), .int (Int32.ofNat e), .int (Int32.ofNat (dd + 1)), .int (Int32.ofNat (k + 1)), .retAddr 0]) (i := 5) (x := Int32.ofNat (k + 1)) ht rfl rfl (zi_addE (a := k) (b := 1) rfl rfl) rfl ?_
          refine zv_c1 ht rfl rfl ?_
          exact (h4 b1 w6 q6 b6 c6 b8 S12 hF12 e12 k12 x12)
    · show zEv d 124 133 [.ref 1592, .retAddr 0, .int (Int32.ofNat be), .int (Int32.ofNat e), .int (Int32.ofNat dd), .int (Int32.ofNat k), .retAddr 0] [.int (-1), .int (Int32.ofNat dd), .int (Int32.ofNat k), .ref 1592] S post
      refine zv_c1 ht rfl rfl ?_
      refine zv_br ht rfl rfl rfl (fun _ => ?_) (fun h => absurd (by decide) h)
      refine zv_c1 ht rfl rfl ?_
      refine zv_cl ht rfl rfl rfl rfl (by omega) (Nat.le_of_ble_eq_true rfl) (m_reads (S := S) (tp := tp) (sz := sz) (B := B) (p := k) (deep := dd) (two := false) hF (by omega) hP (by omega) (by omega) (by omega) (fun S13 rd13 hF13 e13 g13 l13 k13 p13 => ?_) (fun S14 hF14 e14 k14 x14 => ?_))
      · show zEv d 124 146 [.ref 1592, .retAddr 0, .int (Int32.ofNat be), .int (Int32.ofNat e), .int (Int32.ofNat dd), .int (Int32.ofNat k), .retAddr 0] [] S13 post
        refine zv_iinc (L' := [.ref 1592, .retAddr 0, .int (Int32.ofNat be), .int (Int32.ofNat e), .int (Int32.ofNat (dd + 1)), .int (Int32.ofNat k), .retAddr 0]) (i := 4) (x := Int32.ofNat (dd + 1)) ht rfl rfl (zi_addE (a := dd) (b := 1) rfl rfl) rfl ?_
        refine zv_iinc (L' := [.ref 1592, .retAddr 0, .int (Int32.ofNat be), .int (Int32.ofNat e), .int (Int32.ofNat (dd + 1)), .int (Int32.ofNat (k + 1)), .retAddr 0]) (i := 5) (x := Int32.ofNat (k + 1)) ht rfl rfl (zi_addE (a := k) (b := 1) rfl rfl) rfl ?_
        refine zv_c1 ht rfl rfl ?_
        exact (h5 b1 q7 S13 rd13 hF13 e13 g13 l13 k13 p13)
      · show zEv d 124 146 [.ref 1592, .retAddr 0, .int (Int32.ofNat be), .int (Int32.ofNat e), .int (Int32.ofNat dd), .int (Int32.ofNat k), .retAddr 0] [] S14 post
        refine zv_iinc (L' := [.ref 1592, .retAddr 0, .int (Int32.ofNat be), .int (Int32.ofNat e), .int (Int32.ofNat (dd + 1)), .int (Int32.ofNat k), .retAddr 0]) (i := 4) (x := Int32.ofNat (dd + 1)) ht rfl rfl (zi_addE (a := dd) (b := 1) rfl rfl) rfl ?_
        refine zv_iinc (L' := [.ref 1592, .retAddr 0, .int (Int32.ofNat be), .int (Int32.ofNat e), .int (Int32.ofNat (dd + 1)), .int (Int32.ofNat (k + 1)), .retAddr 0]) (i := 5) (x := Int32.ofNat (k + 1)) ht rfl rfl (zi_addE (a := k) (b := 1) rfl rfl) rfl ?_
        refine zv_c1 ht rfl rfl ?_
        exact (h6 b1 q7 S14 hF14 e14 k14 x14)

theorem rf66b {d : Nat} {S : zS} (hF : zFin true S) (hd : 3 ≤ d) {tp : Nat → Nat} {sz at0 kf pf : Nat} (deep be e k : Nat)  (h_fault : gI S 91 1592 = Int32.ofNat kf) (hV : mV tp sz S at0) (hX : mX S kf pf) (hk0 : 0 < kf) (hk4 : kf < 4) (hs0 : sz ≤ 300)(hbe : be ≤ e) (hes : e < sz) (hdp : deep < 1000) (hk : k ≤ e) {post : Outcome × zS → Prop} (h1 : (e ≤ k) → zEv d 124 105 [.ref 1592, .retAddr 0, .int (Int32.ofNat be), .int (Int32.ofNat e), .int (Int32.ofNat deep), .int (Int32.ofNat be), .retAddr 0] [] S post) (h2 : (¬ (e ≤ k)) → ∀ w2 : Nat, (pWr (tp k % 256) = some w2) → (pWv w2) → (w2 ≤ 105) → zEv d 124 66 [.ref 1592, .int (Int32.ofNat deep), .int (Int32.ofNat be), .int (Int32.ofNat e), .int (Int32.ofNat (k + 1)), .retAddr 0, .retAddr 0] [] S post) (h3 : (¬ (e ≤ k)) → (pWr (tp k % 256) = none) → zEv d 124 66 [.ref 1592, .int (Int32.ofNat deep), .int (Int32.ofNat be), .int (Int32.ofNat e), .int (Int32.ofNat (k + 1)), .retAddr 0, .retAddr 0] [] S post) : zEv d 124 66 [.ref 1592, .int (Int32.ofNat deep), .int (Int32.ofNat be), .int (Int32.ofNat e), .int (Int32.ofNat k), .retAddr 0, .retAddr 0] [] S post := by
  have ht : ztab 124 = ztb124 := rfl
  refine zv_c1 ht rfl rfl (zv_c1 ht rfl rfl ?_)
  refine zv_br ht rfl rfl rfl (fun b1 => ?_) (fun b1 => ?_)
  · replace b1 : e ≤ k := (zi_leE (a := e) (b := k) rfl rfl (by omega) (by omega)).mp b1
    refine zv_c1 ht rfl rfl ?_
    refine zv_c2 (L' := [.ref 1592, .int (Int32.ofNat deep), .int (Int32.ofNat be), .int (Int32.ofNat e), .int (Int32.ofNat deep), .retAddr 0, .retAddr 0]) ht rfl rfl ?_
    refine zv_c1 ht rfl rfl ?_
    refine zv_c2 (L' := [.ref 1592, .int (Int32.ofNat deep), .int (Int32.ofNat be), .int (Int32.ofNat e), .int (Int32.ofNat deep), .int (Int32.ofNat be), .retAddr 0]) ht rfl rfl ?_
    exact zEv.wk (L := [.ref 1592, .retAddr 0, .int (Int32.ofNat be), .int (Int32.ofNat e), .int (Int32.ofNat deep), .int (Int32.ofNat be), .retAddr 0]) (L' := [.ref 1592, .int (Int32.ofNat deep), .int (Int32.ofNat be), .int (Int32.ofNat e), .int (Int32.ofNat deep), .int (Int32.ofNat be), .retAddr 0]) (And.intro (Or.inl rfl) (And.intro (Or.inr rfl) (And.intro (Or.inl rfl) (And.intro (Or.inl rfl) (And.intro (Or.inl rfl) (And.intro (Or.inl rfl) (And.intro (Or.inl rfl) trivial))))))) (h1 b1)
  · replace b1 : ¬ (e ≤ k) := fun h => b1 ((zi_leE (a := e) (b := k) rfl rfl (by omega) (by omega)).mpr h)
    refine zv_c1 ht rfl rfl ?_
    refine zv_gl (st' := [.ref 1593]) ht rfl hF rfl rfl rfl ?_
    refine zv_c1 ht rfl rfl ?_
    refine zv_iaE (j := k) (x := Int32.ofNat (tp k % 256)) ht rfl rfl rfl rfl (zi_natE (a := k) rfl (by omega)) ⟨(Or.inl rfl), zi_inE (a := k) (n := 300) rfl (by omega) (by omega)⟩ (mV.tpm hV (j := k) (by omega)) ?_
    refine zv_cl ht rfl rfl rfl rfl (by omega) (Nat.le_of_ble_eq_true rfl) (m_wrapOfP (S := S) (c := tp k % 256) hF (by omega) (fun w2 q2 b2 c2 => ?_) (fun q3 => ?_))
    · show zEv d 124 82 [.ref 1592, .int (Int32.ofNat deep), .int (Int32.ofNat be), .int (Int32.ofNat e), .int (Int32.ofNat k), .retAddr 0, .retAddr 0] [.int (Int32.ofNat w2)] S post
      refine zv_c1 ht rfl rfl ?_
      refine zv_br ht rfl rfl rfl (fun b4 => ?_) (fun b4 => (b4 (zi_nneg rfl (by omega) (by decide))).elim)
      refine zv_iinc (L' := [.ref 1592, .int (Int32.ofNat deep), .int (Int32.ofNat be), .int (Int32.ofNat e), .int (Int32.ofNat (k + 1)), .retAddr 0, .retAddr 0]) (i := 4) (x := Int32.ofNat (k + 1)) ht rfl rfl (zi_addE (a := k) (b := 1) rfl rfl) rfl ?_
      refine zv_c1 ht rfl rfl ?_
      exact (h2 b1 w2 q2 b2 c2)
    · show zEv d 124 82 [.ref 1592, .int (Int32.ofNat deep), .int (Int32.ofNat be), .int (Int32.ofNat e), .int (Int32.ofNat k), .retAddr 0, .retAddr 0] [.int (-1)] S post
      refine zv_c1 ht rfl rfl ?_
      refine zv_br ht rfl rfl rfl (fun h => absurd h (by decide)) (fun _ => ?_)
      refine zv_c1 ht rfl rfl (zv_c1 ht rfl rfl (zv_c1 ht rfl rfl ?_))
      refine zv_cl ht rfl rfl rfl rfl (by omega) (Nat.le_of_ble_eq_true rfl) (m_failsX (S := S) (f := 1) (p := k) hF hX (by omega) (by omega) ?_)
      show zEv d 124 93 [.ref 1592, .int (Int32.ofNat deep), .int (Int32.ofNat be), .int (Int32.ofNat e), .int (Int32.ofNat k), .retAddr 0, .retAddr 0] [] S post
      refine zv_iinc (L' := [.ref 1592, .int (Int32.ofNat deep), .int (Int32.ofNat be), .int (Int32.ofNat e), .int (Int32.ofNat (k + 1)), .retAddr 0, .retAddr 0]) (i := 4) (x := Int32.ofNat (k + 1)) ht rfl rfl (zi_addE (a := k) (b := 1) rfl rfl) rfl ?_
      refine zv_c1 ht rfl rfl ?_
      exact (h3 b1 q3)

theorem rf105b {d : Nat} {S : zS} (hF : zFin true S) (hd : 3 ≤ d) {sz kf pf : Nat} (be e k : Nat) (y4 : Int32)  (h_fault : gI S 91 1592 = Int32.ofNat kf) (hX : mX S kf pf) (hk0 : 0 < kf) (hk4 : kf < 4) (hs0 : sz ≤ 300) (hbe : be ≤ e) (hes : e < sz) (h1e : 1 ≤ e) (hk : k ≤ e) {post : Outcome × zS → Prop} (h1 : zEv d 124 202 [.ref 1592, .retAddr 0, .int (Int32.ofNat be), .retAddr 0, .retAddr 0, .int (-1), .int (Int32.ofNat (e - 1))] [] (sI S 89 1592 (Int32.ofNat (e + 1))) post) : zEv d 124 105 [.ref 1592, .retAddr 0, .int (Int32.ofNat be), .int (Int32.ofNat e), .int y4, .int (Int32.ofNat k), .retAddr 0] [] S post := by
  have ht : ztab 124 = ztb124 := rfl
  refine zv_c1 ht rfl rfl (zv_c1 ht rfl rfl ?_)
  have J7 : zEv d 124 155 [.ref 1592, .retAddr 0, .int (Int32.ofNat be), .int (Int32.ofNat e), .int y4, .retAddr 0, .retAddr 0] [] S post := by
    refine zv_c1 ht rfl rfl (zv_c1 ht rfl rfl (zv_c1 ht rfl rfl ?_))
    refine zv_e1 (x := Int32.ofNat (e + 1)) ht rfl rfl (zi_addE (a := e) (b := 1) rfl rfl) ?_
    refine zv_c1 (S' := sI S 89 1592 (Int32.ofNat (e + 1))) ht rfl rfl ?_
    refine zv_c1 ht rfl rfl ?_
    have C10 : ∀ (pst9 : Outcome × zS → Prop), (pst9 (.returned (some (.int 0)), sI S 89 1592 (Int32.ofNat (e + 1)))) → zCall (d - 1) 125 [.ref 1592] (sI S 89 1592 (Int32.ofNat (e + 1))) pst9 := by
      intro pst9 k13
      have ht11 : ztab 125 = ztb125 := rfl
      show zEv (d - 1) 125 0 [.ref 1592] [] (sI S 89 1592 (Int32.ofNat (e + 1))) pst9
      refine zv_c1 ht11 rfl rfl ?_
      refine zv_e1 (x := Int32.ofNat kf) ht11 rfl rfl h_fault ?_
      refine zv_br ht11 rfl rfl rfl (fun b12 => ?_) (fun b12 => (show False from by have hq := b12; have hz : kf = 0 := (zi_eqE (a := kf) (b := 0) rfl rfl (by omega) (by omega)).mp (Classical.not_not.mp hq); omega).elim)
      refine zv_c1 ht11 rfl rfl ?_
      exact zv_rc ht11 rfl rfl rfl rfl (by decide) k13
    refine zv_cl ht rfl rfl rfl rfl (by omega) (Nat.le_of_ble_eq_true rfl) (C10 _ ?_)
    show zEv d 124 166 [.ref 1592, .retAddr 0, .int (Int32.ofNat be), .int (Int32.ofNat e), .int y4, .retAddr 0, .retAddr 0] [.int 0] (sI S 89 1592 (Int32.ofNat (e + 1))) post
    refine zv_br ht rfl rfl rfl (fun _ => ?_) (fun h => absurd (by decide) h)
    refine zv_c1 ht rfl rfl (zv_c1 ht rfl rfl ?_)
    refine zv_cl ht rfl rfl rfl rfl (by omega) (Nat.le_of_ble_eq_true rfl) (m_namedX (S := sI S 89 1592 (Int32.ofNat (e + 1))) hF (by omega) (mX_at hX) ?_)
    show zEv d 124 195 [.ref 1592, .retAddr 0, .int (Int32.ofNat be), .int (Int32.ofNat e), .int y4, .retAddr 0, .retAddr 0] [.int (-1)] (sI S 89 1592 (Int32.ofNat (e + 1))) post
    refine zv_c2 (L' := [.ref 1592, .retAddr 0, .int (Int32.ofNat be), .int (Int32.ofNat e), .int y4, .int (-1), .retAddr 0]) ht rfl rfl ?_
    refine zv_c1 ht rfl rfl (zv_c1 ht rfl rfl ?_)
    refine zv_e1 (x := Int32.ofNat (e - 1)) ht rfl rfl (zi_subE (a := e) (b := 1) rfl rfl (by omega)) ?_
    refine zv_c2 (L' := [.ref 1592, .retAddr 0, .int (Int32.ofNat be), .int (Int32.ofNat e), .int y4, .int (-1), .int (Int32.ofNat (e - 1))]) ht rfl rfl ?_
    exact zEv.wk (L := [.ref 1592, .retAddr 0, .int (Int32.ofNat be), .retAddr 0, .retAddr 0, .int (-1), .int (Int32.ofNat (e - 1))]) (L' := [.ref 1592, .retAddr 0, .int (Int32.ofNat be), .int (Int32.ofNat e), .int y4, .int (-1), .int (Int32.ofNat (e - 1))]) (And.intro (Or.inl rfl) (And.intro (Or.inl rfl) (And.intro (Or.inl rfl) (And.intro (Or.inr rfl) (And.intro (Or.inr rfl) (And.intro (Or.inl rfl) (And.intro (Or.inl rfl) trivial))))))) h1
  refine zv_br ht rfl rfl rfl (fun b1 => ?_) (fun b1 => ?_)
  · replace b1 : e ≤ k := (zi_leE (a := e) (b := k) rfl rfl (by omega) (by omega)).mp b1
    exact zEv.wk (L := [.ref 1592, .retAddr 0, .int (Int32.ofNat be), .int (Int32.ofNat e), .int y4, .retAddr 0, .retAddr 0]) (L' := [.ref 1592, .retAddr 0, .int (Int32.ofNat be), .int (Int32.ofNat e), .int y4, .int (Int32.ofNat k), .retAddr 0]) (And.intro (Or.inl rfl) (And.intro (Or.inl rfl) (And.intro (Or.inl rfl) (And.intro (Or.inl rfl) (And.intro (Or.inl rfl) (And.intro (Or.inr rfl) (And.intro (Or.inl rfl) trivial))))))) J7
  · replace b1 : ¬ (e ≤ k) := fun h => b1 ((zi_leE (a := e) (b := k) rfl rfl (by omega) (by omega)).mpr h)
    refine zv_c1 ht rfl rfl ?_
    have C3 : ∀ (pst2 : Outcome × zS → Prop), (pst2 (.returned (some (.int 0)), S)) → zCall (d - 1) 125 [.ref 1592] S pst2 := by
      intro pst2 k6
      have ht4 : ztab 125 = ztb125 := rfl
      show zEv (d - 1) 125 0 [.ref 1592] [] S pst2
      refine zv_c1 ht4 rfl rfl ?_
      refine zv_e1 (x := Int32.ofNat kf) ht4 rfl rfl h_fault ?_
      refine zv_br ht4 rfl rfl rfl (fun b5 => ?_) (fun b5 => (show False from by have hq := b5; have hz : kf = 0 := (zi_eqE (a := kf) (b := 0) rfl rfl (by omega) (by omega)).mp (Classical.not_not.mp hq); omega).elim)
      refine zv_c1 ht4 rfl rfl ?_
      exact zv_rc ht4 rfl rfl rfl rfl (by decide) k6
    refine zv_cl ht rfl rfl rfl rfl (by omega) (Nat.le_of_ble_eq_true rfl) (C3 _ ?_)
    show zEv d 124 115 [.ref 1592, .retAddr 0, .int (Int32.ofNat be), .int (Int32.ofNat e), .int y4, .int (Int32.ofNat k), .retAddr 0] [.int 0] S post
    refine zv_br ht rfl rfl rfl (fun _ => ?_) (fun h => absurd (by decide) h)
    exact zEv.wk (L := [.ref 1592, .retAddr 0, .int (Int32.ofNat be), .int (Int32.ofNat e), .int y4, .retAddr 0, .retAddr 0]) (L' := [.ref 1592, .retAddr 0, .int (Int32.ofNat be), .int (Int32.ofNat e), .int y4, .int (Int32.ofNat k), .retAddr 0]) (And.intro (Or.inl rfl) (And.intro (Or.inl rfl) (And.intro (Or.inl rfl) (And.intro (Or.inl rfl) (And.intro (Or.inl rfl) (And.intro (Or.inr rfl) (And.intro (Or.inl rfl) trivial))))))) J7

theorem rf202 {d : Nat} {S : zS} (hF : zFin true S) (hd : 1 ≤ d) {tp : Nat → Nat} {sz at0 rd nx wt B lo : Nat} {x : zNd} (be e i k w : Nat)  (hP : mP tp sz S at0 rd nx wt) (hx : mT true S lo nx x i) (hs0 : sz ≤ 300) (hes : e < sz) (hi : i < 3000) (hBx : nx + 2 ≤ B) (hB3 : B ≤ 3000) (hbk : be ≤ k) (hke : k < e) (hw : pWr (tp k % 256) = some w) (hwv : pWv w) (hw5 : w ≤ 105) {post : Outcome × zS → Prop} (h1 : (¬ (k < be)) → zCall (d - 1) 153 [.ref 1592, .int (Int32.ofNat w), .int (Int32.ofNat i), .int (Int32.ofNat k)] S (zAf d 124 230 [.ref 1592, .retAddr 0, .int (Int32.ofNat be), .retAddr 0, .retAddr 0, .int (Int32.ofNat i), .int (Int32.ofNat k)] [] post)) (h2 : (k < be) → post (.returned (some (.int (Int32.ofNat i))), S)) : zEv d 124 202 [.ref 1592, .retAddr 0, .int (Int32.ofNat be), .retAddr 0, .retAddr 0, .int (Int32.ofNat i), .int (Int32.ofNat k)] [] S post := by
  have ht : ztab 124 = ztb124 := rfl
  refine zv_c1 ht rfl rfl (zv_c1 ht rfl rfl ?_)
  refine zv_br ht rfl rfl rfl (fun b1 => ?_) (fun b1 => ?_)
  · replace b1 : k < be := (zi_ltE (a := k) (b := be) rfl rfl (by omega) (by omega)).mp b1
    refine zv_c1 ht rfl rfl ?_
    exact zv_rt ht rfl rfl rfl rfl (h2 b1)
  · replace b1 : ¬ (k < be) := fun h => b1 ((zi_ltE (a := k) (b := be) rfl rfl (by omega) (by omega)).mpr h)
    refine zv_c1 ht rfl rfl ?_
    have C3 : ∀ (pst2 : Outcome × zS → Prop), (pst2 (.returned (some (.int 1)), S)) → zCall (d - 1) 125 [.ref 1592] S pst2 := by
      intro pst2 k5
      have ht4 : ztab 125 = ztb125 := rfl
      show zEv (d - 1) 125 0 [.ref 1592] [] S pst2
      refine zv_c1 ht4 rfl rfl ?_
      refine zv_e1 (x := 0) ht4 rfl rfl hP.1.2.2.1 ?_
      refine zv_br ht4 rfl rfl rfl (fun h => absurd h (by decide)) (fun _ => ?_)
      refine zv_c1 ht4 rfl rfl (zv_c1 ht4 rfl rfl ?_)
      exact zv_rc ht4 rfl rfl rfl rfl (by decide) k5
    refine zv_cl ht rfl rfl rfl rfl (by omega) (Nat.le_of_ble_eq_true rfl) (C3 _ ?_)
    show zEv d 124 212 [.ref 1592, .retAddr 0, .int (Int32.ofNat be), .retAddr 0, .retAddr 0, .int (Int32.ofNat i), .int (Int32.ofNat k)] [.int 1] S post
    refine zv_br ht rfl rfl rfl (fun h => absurd h (by decide)) (fun _ => ?_)
    refine zv_c1 ht rfl rfl (zv_c1 ht rfl rfl ?_)
    refine zv_gl (st' := [.ref 1593, .ref 1592]) ht rfl hF rfl rfl rfl ?_
    refine zv_c1 ht rfl rfl ?_
    refine zv_iaE (j := k) (x := Int32.ofNat (tp k % 256)) ht rfl rfl rfl rfl (zi_natE (a := k) rfl (by omega)) ⟨(Or.inl rfl), zi_inE (a := k) (n := 300) rfl (by omega) (by omega)⟩ (mP.tpm hP (j := k) (by omega)) ?_
    refine zv_cl ht rfl rfl rfl rfl (by omega) (Nat.le_of_ble_eq_true rfl) (m_wrapOfS (S := S) hF (by omega) hw ?_)
    show zEv d 124 226 [.ref 1592, .retAddr 0, .int (Int32.ofNat be), .retAddr 0, .retAddr 0, .int (Int32.ofNat i), .int (Int32.ofNat k)] [.int (Int32.ofNat w), .ref 1592] S post
    refine zv_c1 ht rfl rfl (zv_c1 ht rfl rfl ?_)
    refine zv_cl ht rfl rfl rfl rfl (by omega) (Nat.le_of_ble_eq_true rfl) (h1 b1)

theorem rf233 {d : Nat} {S : zS} (hF : zFin true S) (be k : Nat) (y : Int32) (hbk : be < k) (hk : k < 300) {post : Outcome × zS → Prop} (h1 : zEv d 124 202 [.ref 1592, .retAddr 0, .int (Int32.ofNat be), .retAddr 0, .retAddr 0, .int y, .int (Int32.ofNat (k - 1))] [] S post) : zEv d 124 233 [.ref 1592, .retAddr 0, .int (Int32.ofNat be), .retAddr 0, .retAddr 0, .retAddr 0, .int (Int32.ofNat k)] [.int y] S post := by
  have ht : ztab 124 = ztb124 := rfl
  refine zv_c2 (L' := [.ref 1592, .retAddr 0, .int (Int32.ofNat be), .retAddr 0, .retAddr 0, .int y, .int (Int32.ofNat k)]) ht rfl rfl ?_
  refine zv_iinc (L' := [.ref 1592, .retAddr 0, .int (Int32.ofNat be), .retAddr 0, .retAddr 0, .int y, .int (Int32.ofNat (k - 1))]) (i := 6) (x := Int32.ofNat (k - 1)) ht rfl rfl (zi_decE (n := k) (c := 1) rfl (by omega) (by decide)) rfl ?_
  refine zv_c1 ht rfl rfl ?_
  exact h1

theorem rf233e {d : Nat} {S : zS} (hF : zFin true S) (be : Nat) (z y : Int32) {post : Outcome × zS → Prop} (h1 : ((z + (-1)) < (Int32.ofNat be)) → post (.returned (some (.int y)), S)) (h2 : (¬ ((z + (-1)) < (Int32.ofNat be))) → zEv d 124 209 [.ref 1592, .retAddr 0, .int (Int32.ofNat be), .retAddr 0, .retAddr 0, .int y, .int (z + (-1))] [.ref 1592] S post) : zEv d 124 233 [.ref 1592, .retAddr 0, .int (Int32.ofNat be), .retAddr 0, .retAddr 0, .retAddr 0, .int z] [.int y] S post := by
  have ht : ztab 124 = ztb124 := rfl
  refine zv_c2 (L' := [.ref 1592, .retAddr 0, .int (Int32.ofNat be), .retAddr 0, .retAddr 0, .int y, .int z]) ht rfl rfl ?_
  refine zv_c2 (L' := [.ref 1592, .retAddr 0, .int (Int32.ofNat be), .retAddr 0, .retAddr 0, .int y, .int (z + (-1))]) ht rfl rfl ?_
  refine zv_c1 ht rfl rfl (zv_c1 ht rfl rfl (zv_c1 ht rfl rfl ?_))
  refine zv_br ht rfl rfl rfl (fun b1 => ?_) (fun b1 => ?_)
  · refine zv_c1 ht rfl rfl ?_
    exact zv_rt ht rfl rfl rfl rfl (h1 b1)
  · refine zv_c1 ht rfl rfl ?_
    exact (h2 b1)

theorem rf202b {d : Nat} {S : zS} (hF : zFin true S) (hd : 1 ≤ d) (be k kf : Nat) (y : Int32)  (h_fault : gI S 91 1592 = Int32.ofNat kf) (hk0 : 0 < kf) (hk4 : kf < 4) (hbe : be ≤ 300) (hk : k ≤ 300) {post : Outcome × zS → Prop} (h1 : post (.returned (some (.int y)), S)) : zEv d 124 202 [.ref 1592, .retAddr 0, .int (Int32.ofNat be), .retAddr 0, .retAddr 0, .int y, .int (Int32.ofNat k)] [] S post := by
  have ht : ztab 124 = ztb124 := rfl
  refine zv_c1 ht rfl rfl (zv_c1 ht rfl rfl ?_)
  have J7 : zEv d 124 241 [.retAddr 0, .retAddr 0, .retAddr 0, .retAddr 0, .retAddr 0, .int y, .retAddr 0] [] S post := by
    refine zv_c1 ht rfl rfl ?_
    exact zv_rt ht rfl rfl rfl rfl h1
  refine zv_br ht rfl rfl rfl (fun b1 => ?_) (fun b1 => ?_)
  · replace b1 : k < be := (zi_ltE (a := k) (b := be) rfl rfl (by omega) (by omega)).mp b1
    exact zEv.wk (L := [.retAddr 0, .retAddr 0, .retAddr 0, .retAddr 0, .retAddr 0, .int y, .retAddr 0]) (L' := [.ref 1592, .retAddr 0, .int (Int32.ofNat be), .retAddr 0, .retAddr 0, .int y, .int (Int32.ofNat k)]) (And.intro (Or.inr rfl) (And.intro (Or.inl rfl) (And.intro (Or.inr rfl) (And.intro (Or.inl rfl) (And.intro (Or.inl rfl) (And.intro (Or.inl rfl) (And.intro (Or.inr rfl) trivial))))))) J7
  · replace b1 : ¬ (k < be) := fun h => b1 ((zi_ltE (a := k) (b := be) rfl rfl (by omega) (by omega)).mpr h)
    refine zv_c1 ht rfl rfl ?_
    have C3 : ∀ (pst2 : Outcome × zS → Prop), (pst2 (.returned (some (.int 0)), S)) → zCall (d - 1) 125 [.ref 1592] S pst2 := by
      intro pst2 k6
      have ht4 : ztab 125 = ztb125 := rfl
      show zEv (d - 1) 125 0 [.ref 1592] [] S pst2
      refine zv_c1 ht4 rfl rfl ?_
      refine zv_e1 (x := Int32.ofNat kf) ht4 rfl rfl h_fault ?_
      refine zv_br ht4 rfl rfl rfl (fun b5 => ?_) (fun b5 => (show False from by have hq := b5; have hz : kf = 0 := (zi_eqE (a := kf) (b := 0) rfl rfl (by omega) (by omega)).mp (Classical.not_not.mp hq); omega).elim)
      refine zv_c1 ht4 rfl rfl ?_
      exact zv_rc ht4 rfl rfl rfl rfl (by decide) k6
    refine zv_cl ht rfl rfl rfl rfl (by omega) (Nat.le_of_ble_eq_true rfl) (C3 _ ?_)
    show zEv d 124 212 [.ref 1592, .retAddr 0, .int (Int32.ofNat be), .retAddr 0, .retAddr 0, .int y, .int (Int32.ofNat k)] [.int 0] S post
    refine zv_br ht rfl rfl rfl (fun _ => ?_) (fun h => absurd (by decide) h)
    exact zEv.wk (L := [.retAddr 0, .retAddr 0, .retAddr 0, .retAddr 0, .retAddr 0, .int y, .retAddr 0]) (L' := [.ref 1592, .retAddr 0, .int (Int32.ofNat be), .retAddr 0, .retAddr 0, .int y, .int (Int32.ofNat k)]) (And.intro (Or.inr rfl) (And.intro (Or.inl rfl) (And.intro (Or.inr rfl) (And.intro (Or.inl rfl) (And.intro (Or.inl rfl) (And.intro (Or.inl rfl) (And.intro (Or.inr rfl) trivial))))))) J7


