set_option maxRecDepth 100000
/-! ===== texts that are built ===== -/
def zSb (S : zS) (b v cap : Nat) (cs : List Nat) : Prop := ztyp S b = 23 ∧ gP S 203 b = some v ∧ gI S 204 b = 0 ∧ gI S 206 b = Int32.ofNat cs.length ∧ ztyp S v = 101 ∧ zlen S v = cap ∧ cs.length ≤ cap ∧ (∀ j, j < cs.length → gA S v j = Int32.ofNat (cs.getD j 0)) ∧ (∀ c ∈ cs, c < 128) ∧ b < gN S ∧ v < gN S ∧ 1639 ≤ b ∧ 1639 ≤ v ∧ b ≠ v
theorem ec0 {d : Nat} {S : zS} (hF : zFin true S) (hd : 2 ≤ d) {b v cap N : Nat} {cs : List Nat} (m : Nat) (hs : zSb S b v cap cs) (hb1 : b < gN S) (hv1 : v < gN S) (hb2 : 1639 ≤ b) (hv2 : 1639 ≤ v) (hbv : b ≠ v) (hlc : cs.length ≤ cap) (hcap : cap < 40000) (hN : 1639 ≤ gN S) (hN2 : gN S < 1900000) (hNv : N ≤ v) (hm : m < 40000) {post : Outcome × zS → Prop} (h1 : (m ≤ cap) → post (.returned none, S)) (h2 : (¬ (m ≤ cap)) → post (.returned none, sP (zcopy (sNew S 101 (cap + (max (m - cap) (cap + 2))) (cap + (max (m - cap) (cap + 2)))) v (gN S) 0 0 (min cap (cap + (max (m - cap) (cap + 2))))) 203 b (some (gN S)))) : zCall d 412 [.ref b, .int (Int32.ofNat m)] S post := by
  have ht : ztab 412 = ztb412 := rfl
  show zEv d 412 0 [.ref b, .int (Int32.ofNat m), .retAddr 0] [] S post
  refine zv_c1 ht rfl rfl ?_
  refine zv_g3 (q := v) ht rfl hF rfl rfl (zhas_of (hs.1) rfl) hs.2.1 ?_
  refine zv_ei (x := Int32.ofNat cap) ht rfl rfl (zv_le (hs.2.2.2.2.1) rfl) (congrArg Int32.ofNat (hs.2.2.2.2.2.1)) ?_
  refine zv_c1 ht rfl rfl ?_
  refine zv_ei (x := 0) ht rfl rfl (zhas_of (hs.1) rfl) hs.2.2.1 ?_
  refine zv_e1 (x := Int32.ofNat cap) ht rfl rfl (zi_shr0 rfl) ?_
  refine zv_c2 (L' := [.ref b, .int (Int32.ofNat m), .int (Int32.ofNat cap)]) ht rfl rfl ?_
  refine zv_c1 ht rfl rfl (zv_c1 ht rfl rfl ?_)
  refine zv_c1 (st' := [.int ((Int32.ofNat m) - (Int32.ofNat cap))]) (S' := S) ht rfl rfl ?_
  refine zv_br ht rfl rfl rfl (fun b1 => ?_) (fun b1 => ?_)
  · replace b1 : m ≤ cap := (zi_s0le (a := m) (b := cap) rfl rfl (by omega) (by omega)).mp b1
    exact zv_rt ht rfl rfl rfl rfl (h1 b1)
  · replace b1 : ¬ (m ≤ cap) := fun h => b1 ((zi_s0le (a := m) (b := cap) rfl rfl (by omega) (by omega)).mpr h)
    refine zv_c1 ht rfl rfl (zv_c1 ht rfl rfl ?_)
    refine zv_g3 (q := v) ht rfl hF rfl rfl (zhas_of (hs.1) rfl) hs.2.1 ?_
    refine zv_c1 ht rfl rfl (zv_c1 ht rfl rfl ?_)
    have C3 : ∀ (pst2 : Outcome × zS → Prop), (pst2 (.returned (some (.int (Int32.ofNat (cap + (max (m - cap) (cap + 2)))))), S)) → zCall (d - 1) 413 [.ref b, .int (Int32.ofNat m)] S pst2 := by
      intro pst2 k12
      have ht4 : ztab 413 = ztb413 := rfl
      show zEv (d - 1) 413 0 [.ref b, .int (Int32.ofNat m), .retAddr 0, .retAddr 0, .retAddr 0, .retAddr 0] [] S pst2
      refine zv_c1 ht4 rfl rfl ?_
      refine zv_g3 (q := v) ht4 rfl hF rfl rfl (zhas_of (hs.1) rfl) hs.2.1 ?_
      refine zv_ei (x := Int32.ofNat cap) ht4 rfl rfl (zv_le (hs.2.2.2.2.1) rfl) (congrArg Int32.ofNat (hs.2.2.2.2.2.1)) ?_
      refine zv_c2 (L' := [.ref b, .int (Int32.ofNat m), .int (Int32.ofNat cap), .retAddr 0, .retAddr 0, .retAddr 0]) ht4 rfl rfl ?_
      refine zv_c1 ht4 rfl rfl (zv_c1 ht4 rfl rfl ?_)
      refine zv_ei (x := 0) ht4 rfl rfl (zhas_of (hs.1) rfl) hs.2.2.1 ?_
      refine zv_e1 (x := Int32.ofNat m) ht4 rfl rfl (zi_shl0 rfl) ?_
      refine zv_c2 (L' := [.ref b, .int (Int32.ofNat m), .int (Int32.ofNat cap), .int (Int32.ofNat m), .retAddr 0, .retAddr 0]) ht4 rfl rfl ?_
      refine zv_c1 ht4 rfl rfl (zv_c1 ht4 rfl rfl ?_)
      refine zv_e1 (x := Int32.ofNat (m - cap)) ht4 rfl rfl (zi_subE (a := m) (b := cap) rfl rfl (by omega)) ?_
      refine zv_c2 (L' := [.ref b, .int (Int32.ofNat m), .int (Int32.ofNat cap), .int (Int32.ofNat m), .int (Int32.ofNat (m - cap)), .retAddr 0]) ht4 rfl rfl ?_
      refine zv_c1 ht4 rfl rfl (zv_c1 ht4 rfl rfl (zv_c1 ht4 rfl rfl (zv_c1 ht4 rfl rfl (zv_c1 ht4 rfl rfl ?_))))
      refine zv_ei (x := 0) ht4 rfl rfl (zhas_of (hs.1) rfl) hs.2.2.1 ?_
      refine zv_c1 (st' := [.int 2, .int (Int32.ofNat cap), .int (Int32.ofNat (m - cap)), .int (Int32.ofNat cap)]) (S' := S) ht4 rfl rfl ?_
      refine zv_e1 (x := Int32.ofNat (cap + 2)) ht4 rfl rfl (zi_addE (a := cap) (b := 2) rfl rfl) ?_
      have C6 : ∀ (pst5 : Outcome × zS → Prop), (pst5 (.returned (some (.int (Int32.ofNat (cap + (max (m - cap) (cap + 2)))))), S)) → zCall ((d - 1) - 1) 429 [.int (Int32.ofNat cap), .int (Int32.ofNat (m - cap)), .int (Int32.ofNat (cap + 2))] S pst5 := by
        intro pst5 k10
        have ht7 : ztab 429 = ztb429 := rfl
        show zEv ((d - 1) - 1) 429 0 [.int (Int32.ofNat cap), .int (Int32.ofNat (m - cap)), .int (Int32.ofNat (cap + 2)), .retAddr 0] [] S pst5
        refine zv_c1 ht7 rfl rfl (zv_c1 ht7 rfl rfl (zv_c1 ht7 rfl rfl ?_))
        refine zv_e1 (x := Int32.ofNat (max (m - cap) (cap + 2))) ht7 rfl rfl (zi_maxE rfl rfl (by omega) (by omega)) ?_
        refine zv_e1 (x := Int32.ofNat (cap + (max (m - cap) (cap + 2)))) ht7 rfl rfl (zi_addE (a := cap) (b := max (m - cap) (cap + 2)) rfl rfl) ?_
        refine zv_c2 (L' := [.int (Int32.ofNat cap), .int (Int32.ofNat (m - cap)), .int (Int32.ofNat (cap + 2)), .int (Int32.ofNat (cap + (max (m - cap) (cap + 2))))]) ht7 rfl rfl ?_
        refine zv_c1 ht7 rfl rfl (zv_c1 ht7 rfl rfl ?_)
        refine zv_br ht7 rfl rfl rfl (fun b8 => (show False from by have hq := b8; have hz : cap + (max (m - cap) (cap + 2)) ≤ 0 := (zi_leE (a := (cap + (max (m - cap) (cap + 2)))) (b := 0) rfl rfl (by omega) (by omega)).mp hq; omega).elim) (fun b8 => ?_)
        refine zv_c1 ht7 rfl rfl (zv_c1 ht7 rfl rfl ?_)
        refine zv_br ht7 rfl rfl rfl (fun b9 => (show False from by have hq := b9; have hz : 2147483639 < cap + (max (m - cap) (cap + 2)) := (zi_ltE (a := 2147483639) (b := (cap + (max (m - cap) (cap + 2)))) rfl rfl (by omega) (by omega)).mp hq; omega).elim) (fun b9 => ?_)
        refine zv_c1 ht7 rfl rfl ?_
        exact zv_rt ht7 rfl rfl rfl rfl k10
      refine zv_cl ht4 rfl rfl rfl rfl (by omega) (Nat.le_of_ble_eq_true rfl) (C6 _ ?_)
      show zEv (d - 1) 413 32 [.ref b, .int (Int32.ofNat m), .int (Int32.ofNat cap), .int (Int32.ofNat m), .int (Int32.ofNat (m - cap)), .retAddr 0] [.int (Int32.ofNat (cap + (max (m - cap) (cap + 2))))] S pst2
      refine zv_c2 (L' := [.ref b, .int (Int32.ofNat m), .int (Int32.ofNat cap), .int (Int32.ofNat m), .int (Int32.ofNat (m - cap)), .int (Int32.ofNat (cap + (max (m - cap) (cap + 2))))]) ht4 rfl rfl ?_
      refine zv_c1 ht4 rfl rfl (zv_c1 ht4 rfl rfl ?_)
      refine zv_br ht4 rfl rfl rfl (fun b11 => ?_) (fun b11 => (show False from by have hq := b11; have hz : cap + (max (m - cap) (cap + 2)) = 2147483647 := (zi_eqE (a := (cap + (max (m - cap) (cap + 2)))) (b := 2147483647) rfl rfl (by omega) (by omega)).mp (Classical.not_not.mp hq); omega).elim)
      refine zv_c1 ht4 rfl rfl (zv_c1 ht4 rfl rfl ?_)
      refine zv_ei (x := 0) ht4 rfl rfl (zhas_of (hs.1) rfl) hs.2.2.1 ?_
      refine zv_e1 (x := Int32.ofNat (cap + (max (m - cap) (cap + 2)))) ht4 rfl rfl (zi_shr0 rfl) ?_
      exact zv_rt ht4 rfl rfl rfl rfl k12
    refine zv_cl ht rfl rfl rfl (zv_tgv (hs.1) rfl) (by omega) (Nat.le_of_ble_eq_true rfl) (C3 _ ?_)
    show zEv d 412 27 [.ref b, .int (Int32.ofNat m), .int (Int32.ofNat cap)] [.int (Int32.ofNat (cap + (max (m - cap) (cap + 2)))), .ref v, .ref b] S post
    refine zv_c1 ht rfl rfl ?_
    refine zv_ei (x := 0) ht rfl rfl (zhas_of (hs.1) rfl) hs.2.2.1 ?_
    refine zv_e1 (x := Int32.ofNat (cap + (max (m - cap) (cap + 2)))) ht rfl rfl (zi_shl0 rfl) ?_
    have C14 : ∀ (pst13 : Outcome × zS → Prop), (pst13 (.returned (some (.ref (gN S))), zcopy (sNew S 101 (cap + (max (m - cap) (cap + 2))) (cap + (max (m - cap) (cap + 2)))) v (gN S) 0 0 (min cap (cap + (max (m - cap) (cap + 2)))))) → zCall (d - 1) 438 [.ref v, .int (Int32.ofNat (cap + (max (m - cap) (cap + 2))))] S pst13 := by
      intro pst13 k17
      have ht15 : ztab 438 = ztb438 := rfl
      show zEv (d - 1) 438 0 [.ref v, .int (Int32.ofNat (cap + (max (m - cap) (cap + 2)))), .retAddr 0] [] S pst13
      refine zv_c1 ht15 rfl rfl (zv_c1 ht15 rfl rfl ?_)
      refine zv_ei (x := Int32.ofNat cap) ht15 rfl rfl (zv_le (hs.2.2.2.2.1) rfl) (congrArg Int32.ofNat (hs.2.2.2.2.2.1)) ?_
      refine zv_br ht15 rfl rfl rfl (fun b16 => ?_) (fun b16 => (show False from by have hq := b16; have hz : cap + (max (m - cap) (cap + 2)) = cap := (zi_eqE (a := (cap + (max (m - cap) (cap + 2)))) (b := cap) rfl rfl (by omega) (by omega)).mp (Classical.not_not.mp hq); omega).elim)
      refine zv_c1 ht15 rfl rfl ?_
      refine zv_na (ty := 101) (j := cap + (max (m - cap) (cap + 2))) (r := []) ht15 rfl rfl rfl rfl (zi_natE (a := cap + (max (m - cap) (cap + 2))) rfl (by omega)) ⟨zi_len (a := cap + (max (m - cap) (cap + 2))) rfl (by omega), znew_okE (a := cap + (max (m - cap) (cap + 2))) rfl (by omega) (show 1639 ≤ gN S from by omega) (show gN S < 2000000 from by omega)⟩ ?_
      show zEv (d - 1) 438 17 [.ref v, .int (Int32.ofNat (cap + (max (m - cap) (cap + 2)))), .retAddr 0] [.ref (gN S)] (sNew S 101 (cap + (max (m - cap) (cap + 2))) (cap + (max (m - cap) (cap + 2)))) pst13
      refine zv_c2 (L' := [.ref v, .int (Int32.ofNat (cap + (max (m - cap) (cap + 2)))), .ref (gN S)]) ht15 rfl rfl ?_
      refine zv_c1 ht15 rfl rfl (zv_c1 ht15 rfl rfl (zv_c1 ht15 rfl rfl (zv_c1 ht15 rfl rfl (zv_c1 ht15 rfl rfl ?_))))
      refine zv_ei (x := Int32.ofNat cap) ht15 rfl rfl (zv_le (Eq.trans (ztyp_new (S := S) (t := 101) (n := cap + (max (m - cap) (cap + 2))) (s := cap + (max (m - cap) (cap + 2))) (show v ≠ gN S from by omega)) hs.2.2.2.2.1) rfl) (congrArg Int32.ofNat (Eq.trans (zlen_new (S := S) (t := 101) (n := cap + (max (m - cap) (cap + 2))) (s := cap + (max (m - cap) (cap + 2))) (show v ≠ gN S from by omega)) hs.2.2.2.2.2.1)) ?_
      refine zv_c1 ht15 rfl rfl ?_
      refine zv_e1 (x := Int32.ofNat (min cap (cap + (max (m - cap) (cap + 2))))) ht15 rfl rfl (zi_minE rfl rfl (by omega) (by omega)) ?_
      refine zv_cp (a := 0) (b := 0) (k := min cap (cap + (max (m - cap) (cap + 2)))) ht15 rfl rfl rfl rfl rfl rfl (by omega) (by omega) (by omega) (Or.inl (Eq.trans (ztyp_new (S := S) (t := 101) (n := cap + (max (m - cap) (cap + 2))) (s := cap + (max (m - cap) (cap + 2))) (show v ≠ gN S from by omega)) hs.2.2.2.2.1)) (ztyp_new_at (S := S) (t := 101) (n := cap + (max (m - cap) (cap + 2))) (s := cap + (max (m - cap) (cap + 2))) (show 1639 ≤ gN S from by omega)) (by omega) (show 0 + (min cap (cap + (max (m - cap) (cap + 2)))) ≤ _ from Nat.le_trans (show 0 + (min cap (cap + (max (m - cap) (cap + 2)))) ≤ cap from by omega) (Nat.le_of_eq (Eq.symm (Eq.trans (zlen_new (S := S) (t := 101) (n := cap + (max (m - cap) (cap + 2))) (s := cap + (max (m - cap) (cap + 2))) (show v ≠ gN S from by omega)) hs.2.2.2.2.2.1)))) (show 0 + (min cap (cap + (max (m - cap) (cap + 2)))) ≤ _ from Nat.le_trans (show 0 + (min cap (cap + (max (m - cap) (cap + 2)))) ≤ cap + (max (m - cap) (cap + 2)) from by omega) (Nat.le_of_eq (Eq.symm (zlen_new_at (S := S) (t := 101) (n := cap + (max (m - cap) (cap + 2))) (s := cap + (max (m - cap) (cap + 2))) (show 1639 ≤ gN S from by omega))))) ?_
      refine zv_c1 ht15 rfl rfl ?_
      exact zv_rt ht15 rfl rfl rfl rfl k17
    refine zv_cl ht rfl rfl rfl rfl (by omega) (Nat.le_of_ble_eq_true rfl) (C14 _ ?_)
    show zEv d 412 35 [.ref b, .int (Int32.ofNat m), .int (Int32.ofNat cap)] [.ref (gN S), .ref b] (zcopy (sNew S 101 (cap + (max (m - cap) (cap + 2))) (cap + (max (m - cap) (cap + 2)))) v (gN S) 0 0 (min cap (cap + (max (m - cap) (cap + 2))))) post
    refine zv_ci (S' := sP (zcopy (sNew S 101 (cap + (max (m - cap) (cap + 2))) (cap + (max (m - cap) (cap + 2)))) v (gN S) 0 0 (min cap (cap + (max (m - cap) (cap + 2))))) 203 b (some (gN S))) ht rfl rfl ⟨(zhas_of (Eq.trans (ztyp_new (S := S) (t := 101) (n := cap + (max (m - cap) (cap + 2))) (s := cap + (max (m - cap) (cap + 2))) (show b ≠ gN S from by omega)) hs.1) rfl), (show b < gN S + 1 from by omega)⟩ ?_
    exact zv_rt ht rfl rfl rfl rfl (h2 b1)

section S2
variable {d : Nat} {post : Outcome × zS → Prop}
theorem zSb.n {S : zS} {b v cap : Nat} {cs : List Nat} (h : zSb S b v cap cs) : b < gN S ∧ v < gN S ∧ 1639 ≤ b ∧ 1639 ≤ v ∧ b ≠ v ∧ cs.length ≤ cap := ⟨h.2.2.2.2.2.2.2.2.2.1, h.2.2.2.2.2.2.2.2.2.2.1, h.2.2.2.2.2.2.2.2.2.2.2.1, h.2.2.2.2.2.2.2.2.2.2.2.2.1, h.2.2.2.2.2.2.2.2.2.2.2.2.2, h.2.2.2.2.2.2.1⟩
theorem j_ensure {S : zS} {N : Nat} (hF : zFin true S) (hd : 2 ≤ d) {b v cap : Nat} {cs : List Nat} (hs : zSb S b v cap cs) (hcap : cap < 40000) (hN2 : gN S < 1900000) (hNv : N ≤ v) (m : Nat) (hm : m < 40000) (hm2 : cs.length ≤ m)
    (h : ∀ S1 v1 cap1, zFin true S1 → zSb S1 b v1 cap1 cs → zKE N [] [203] S S1 → m ≤ cap1 → (gN S ≤ gN S1 ∧ gN S1 + cap ≤ gN S + cap1 ∧ gZ S1 + 2 * cap ≤ gZ S + 2 * cap1) ∧ (v < gN S1 ∧ v1 < gN S1 ∧ N ≤ v1 ∧ 1639 ≤ v1 ∧ cap ≤ cap1 ∧ cap1 ≤ max cap (2 * m + 2)) → post (.returned none, S1)) : zCall d 412 [.ref b, .int (Int32.ofNat m)] S post := by
  obtain ⟨n1, n2, n3, n4, n5, n6⟩ := hs.n
  have hLB : zLB = 4294967296 := rfl
  refine ec0 hF hd m hs n1 n2 n3 n4 n5 n6 hcap (by omega) hN2 hNv hm (fun b1 => ?_) (fun b1 => ?_)
  · exact h S v cap hF hs zKE.rf b1 ⟨⟨Nat.le_refl _, Nat.le_refl _, Nat.le_refl _⟩, n2, n2, hNv, n4, Nat.le_refl _, Nat.le_max_left _ _⟩
  · have e1 : cap + max (m - cap) (cap + 2) = max m (2 * cap + 2) := by omega
    rw [e1] at *
    have hk : zKE N [] [203] S (sP (zcopy (sNew S 101 (max m (2 * cap + 2)) (max m (2 * cap + 2))) v (gN S) 0 0 (min cap (max m (2 * cap + 2)))) 203 b (some (gN S))) :=
      (zKE_new ⟨by omega, by omega⟩).tr ((zKE_cp (Or.inr ⟨by omega, by omega⟩)).tr (zKE_sP (Or.inl (by decide))))
    obtain ⟨h1, h2, h3, h4, h5, h6, h7, h8, h9, -⟩ := hs
    refine h _ (gN S) (max m (2 * cap + 2)) (zFin_sP (zFin_new hF) rfl) ⟨?_, gP_sP_at, ?_, ?_, ?_, ?_, by omega, ?_, h9, ?_, ?_, n3, by omega, by omega⟩ hk (by omega) ⟨⟨?_, ?_, ?_⟩, ?_, ?_, by omega, by omega, by omega, by omega⟩
    · show ztyp (sNew S 101 (max m (2 * cap + 2)) (max m (2 * cap + 2))) b = 23
      rw [ztyp_new (by omega)]; exact h1
    · show gI (sNew S 101 (max m (2 * cap + 2)) (max m (2 * cap + 2))) 204 b = 0
      rw [gI_new (by omega)]; exact h3
    · show gI (sNew S 101 (max m (2 * cap + 2)) (max m (2 * cap + 2))) 206 b = _
      rw [gI_new (by omega)]; exact h4
    · exact ztyp_new_at (by omega)
    · exact zlen_new_at (by omega)
    · intro j hj
      have e2 := @gA_zcopy_in (sNew S 101 (max m (2 * cap + 2)) (max m (2 * cap + 2))) v (gN S) 0 0 (min cap (max m (2 * cap + 2))) j (by omega)
      rw [Nat.zero_add] at e2
      exact e2.trans ((gA_new (by omega)).trans (h8 j hj))
    · show b < gN S + 1; omega
    · show gN S < gN S + 1; omega
    · show gN S ≤ gN S + 1; omega
    · show gN S + 1 + cap ≤ _; omega
    · show gZ S + max m (2 * cap + 2) + 2 * cap ≤ _; omega
    · show v < gN S + 1; omega
    · show gN S < gN S + 1; omega
end S2
theorem ac0 {d : Nat} {S : zS} (hF : zFin true S) (hd : 4 ≤ d) {b v cap N : Nat} {cs : List Nat} (c : Nat) (hs : zSb S b v cap cs) (hb1 : b < gN S) (hv1 : v < gN S) (hb2 : 1639 ≤ b) (hv2 : 1639 ≤ v) (hbv : b ≠ v) (hlc : cs.length ≤ cap) (hcap : cap < 40000) (hN : 1639 ≤ gN S) (hN2 : gN S < 1900000) (hNv : N ≤ v) (hc : c < 128) (hl : cs.length < 15000) {post : Outcome × zS → Prop} (h1 : ∀ S4 : zS, ∀ v4 : Nat, ∀ cap4 : Nat, (zFin true S4) → (zSb S4 b v4 cap4 cs) → (zKE N [] [203] S S4) → (cs.length + 1 ≤ cap4) → ((gN S ≤ gN S4 ∧ gN S4 + cap ≤ gN S + cap4 ∧ gZ S4 + 2 * cap ≤ gZ S + 2 * cap4) ∧ (v < gN S4 ∧ v4 < gN S4 ∧ N ≤ v4 ∧ 1639 ≤ v4 ∧ cap ≤ cap4 ∧ cap4 ≤ max cap (2 * (cs.length + 1) + 2))) → post (.returned (some (.ref b)), sA (sI S4 206 b (Int32.ofNat (cs.length + 1))) v4 cs.length ((Int32.ofNat c : Int32).toInt8.toInt32))) : zCall d 424 [.ref b, .int (Int32.ofNat c)] S post := by
  have ht : ztab 424 = ztb424 := rfl
  show zEv d 424 0 [.ref b, .int (Int32.ofNat c)] [] S post
  refine zv_c1 ht rfl rfl (zv_c1 ht rfl rfl ?_)
  have C2 : ∀ (pst1 : Outcome × zS → Prop), (∀ S4 : zS, ∀ v4 : Nat, ∀ cap4 : Nat, (zFin true S4) → (zSb S4 b v4 cap4 cs) → (zKE N [] [203] S S4) → (cs.length + 1 ≤ cap4) → ((gN S ≤ gN S4 ∧ gN S4 + cap ≤ gN S + cap4 ∧ gZ S4 + 2 * cap ≤ gZ S + 2 * cap4) ∧ (v < gN S4 ∧ v4 < gN S4 ∧ N ≤ v4 ∧ 1639 ≤ v4 ∧ cap ≤ cap4 ∧ cap4 ≤ max cap (2 * (cs.length + 1) + 2))) → pst1 (.returned (some (.ref b)), sA (sI S4 206 b (Int32.ofNat (cs.length + 1))) v4 cs.length ((Int32.ofNat c : Int32).toInt8.toInt32))) → zCall (d - 1) 411 [.ref b, .int (Int32.ofNat c)] S pst1 := by
    intro pst1 k14
    have ht3 : ztab 411 = ztb411 := rfl
    show zEv (d - 1) 411 0 [.ref b, .int (Int32.ofNat c)] [] S pst1
    refine zv_c1 ht3 rfl rfl (zv_c1 ht3 rfl rfl ?_)
    refine zv_ei (x := Int32.ofNat cs.length) ht3 rfl rfl (zhas_of (hs.1) rfl) hs.2.2.2.1 ?_
    refine zv_c1 ht3 rfl rfl ?_
    refine zv_e1 (x := Int32.ofNat (cs.length + 1)) ht3 rfl rfl (zi_addE (a := cs.length) (b := 1) rfl rfl) ?_
    refine zv_cl ht3 rfl rfl rfl (zv_tgv (hs.1) rfl) (by omega) (Nat.le_of_ble_eq_true rfl) (j_ensure (S := S) (N := N) hF (by omega) hs hcap hN2 hNv (cs.length + 1) (by omega) (by omega) (fun S4 v4 cap4 hF4 hs4 k4 m4 g4 => ?_))
    show zEv (d - 1) 411 10 [.ref b, .int (Int32.ofNat c)] [] S4 pst1
    refine zv_c1 ht3 rfl rfl ?_
    have C6 : ∀ (pst5 : Outcome × zS → Prop), (pst5 (.returned (some (.int 1)), S4)) → zCall ((d - 1) - 1) 414 [.ref b] S4 pst5 := by
      intro pst5 k8
      have ht7 : ztab 414 = ztb414 := rfl
      show zEv ((d - 1) - 1) 414 0 [.ref b] [] S4 pst5
      refine zv_c1 ht7 rfl rfl ?_
      refine zv_br ht7 rfl rfl rfl (fun h => absurd h (by decide)) (fun _ => ?_)
      refine zv_c1 ht7 rfl rfl ?_
      refine zv_ei (x := 0) ht7 rfl rfl (zhas_of (hs4.1) rfl) hs4.2.2.1 ?_
      refine zv_br ht7 rfl rfl rfl (fun h => absurd h (by decide)) (fun _ => ?_)
      refine zv_c1 ht7 rfl rfl (zv_c1 ht7 rfl rfl ?_)
      exact zv_rc ht7 rfl rfl rfl rfl (by decide) k8
    refine zv_cl ht3 rfl rfl rfl (zv_tgv (hs4.1) rfl) (by omega) (Nat.le_of_ble_eq_true rfl) (C6 _ ?_)
    show zEv (d - 1) 411 14 [.ref b, .int (Int32.ofNat c)] [.int 1] S4 pst1
    refine zv_br ht3 rfl rfl rfl (fun h => absurd h (by decide)) (fun _ => ?_)
    refine zv_c1 ht3 rfl rfl ?_
    have C10 : ∀ (pst9 : Outcome × zS → Prop), (pst9 (.returned (some (.int 1)), S4)) → zCall ((d - 1) - 1) 400 [.int (Int32.ofNat c)] S4 pst9 := by
      intro pst9 k13
      have ht11 : ztab 400 = ztb400 := rfl
      show zEv ((d - 1) - 1) 400 0 [.int (Int32.ofNat c)] [] S4 pst9
      refine zv_c1 ht11 rfl rfl (zv_c1 ht11 rfl rfl ?_)
      refine zv_br ht11 rfl rfl rfl (fun b12 => (show False from by have hq := b12; have hz : 255 < c := (zi_ltE (a := 255) (b := c) rfl rfl (by omega) (by omega)).mp hq; omega).elim) (fun b12 => ?_)
      refine zv_c1 ht11 rfl rfl (zv_c1 ht11 rfl rfl ?_)
      exact zv_rc ht11 rfl rfl rfl rfl (by decide) k13
    refine zv_cl ht3 rfl rfl rfl rfl (by omega) (Nat.le_of_ble_eq_true rfl) (C10 _ ?_)
    show zEv (d - 1) 411 21 [.ref b, .int (Int32.ofNat c)] [.int 1] S4 pst1
    refine zv_br ht3 rfl rfl rfl (fun h => absurd h (by decide)) (fun _ => ?_)
    refine zv_c1 ht3 rfl rfl ?_
    refine zv_g3 (q := v4) ht3 rfl hF4 rfl rfl (zhas_of (hs4.1) rfl) hs4.2.1 ?_
    refine zv_c1 ht3 rfl rfl (zv_c1 ht3 rfl rfl ?_)
    refine zv_ei (x := Int32.ofNat cs.length) ht3 rfl rfl (zhas_of (hs4.1) rfl) hs4.2.2.2.1 ?_
    refine zv_c1 ht3 rfl rfl (zv_c1 ht3 rfl rfl ?_)
    refine zv_e1 (x := Int32.ofNat (cs.length + 1)) ht3 rfl rfl (zi_addE (a := cs.length) (b := 1) rfl rfl) ?_
    refine zv_ci (S' := sI S4 206 b (Int32.ofNat (cs.length + 1))) ht3 rfl rfl ⟨(zhas_of (hs4.1) rfl), (show b < gN S4 from by omega)⟩ ?_
    refine zv_c1 ht3 rfl rfl ?_
    refine zv_c1 (st' := [.int ((Int32.ofNat c : Int32).toInt8.toInt32), .int (Int32.ofNat cs.length), .ref v4]) (S' := sI S4 206 b (Int32.ofNat (cs.length + 1))) ht3 rfl rfl ?_
    refine zv_bs (j := cs.length) (x := (Int32.ofNat c : Int32).toInt8.toInt32) ht3 rfl rfl rfl rfl (zi_natE (a := cs.length) rfl (by omega)) ⟨(Or.inl ⟨hs4.2.2.2.2.1, (zi_i2b _)⟩), zi_inL (a := cs.length) (m := cap4) hs4.2.2.2.2.2.1 rfl (by omega) (by omega)⟩ ?_
    refine zv_c1 ht3 rfl rfl (zv_c1 ht3 rfl rfl ?_)
    exact zv_rt ht3 rfl rfl rfl rfl (k14 S4 v4 cap4 hF4 hs4 k4 m4 g4)
  refine zv_cl ht rfl rfl rfl (zv_tgs (hs.1)) (by omega) (Nat.le_of_ble_eq_true rfl) (C2 _ (fun S4 v4 cap4 hF4 hs4 k4 m4 g4 => ?_))
  show zEv d 424 5 [.ref b, .int (Int32.ofNat c)] [.ref b] (sA (sI S4 206 b (Int32.ofNat (cs.length + 1))) v4 cs.length ((Int32.ofNat c : Int32).toInt8.toInt32)) post
  refine zv_c1 ht rfl rfl (zv_c1 ht rfl rfl ?_)
  exact zv_rt ht rfl rfl rfl rfl (h1 S4 v4 cap4 hF4 hs4 k4 m4 g4)

theorem as0 {d : Nat} {S : zS} (hF : zFin true S) (hd : 4 ≤ d) {b v cap N s w : Nat} {cs ds : List Nat} (hs : zSb S b v cap cs) (hb1 : b < gN S) (hv1 : v < gN S) (hb2 : 1639 ≤ b) (hv2 : 1639 ≤ v) (hbv : b ≠ v) (hlc : cs.length ≤ cap) (hcap : cap < 40000) (hN : 1639 ≤ gN S) (hN2 : gN S < 1900000) (hNv : N ≤ v) (hl : cs.length + ds.length < 15000) (h22 : ztyp S s = 22) (hw : gP S 199 s = some w) (hc : gI S 200 s = 0) (hwl : zlen S w = ds.length) (hwt : ztyp S w = 101 ∨ ztyp S w = 121) (hsN : s < N ∨ zLB ≤ s) (hwN : w < N ∨ zLB ≤ w) (hLB : zLB = 4294967296) {post : Outcome × zS → Prop} (h1 : ∀ S12 : zS, ∀ v12 : Nat, ∀ cap12 : Nat, (zFin true S12) → (zSb S12 b v12 cap12 cs) → (zKE N [] [203] S S12) → (cs.length + ds.length ≤ cap12) → ((gN S ≤ gN S12 ∧ gN S12 + cap ≤ gN S + cap12 ∧ gZ S12 + 2 * cap ≤ gZ S + 2 * cap12) ∧ (v < gN S12 ∧ v12 < gN S12 ∧ N ≤ v12 ∧ 1639 ≤ v12 ∧ cap ≤ cap12 ∧ cap12 ≤ max cap (2 * (cs.length + ds.length) + 2))) → post (.returned (some (.ref b)), sI (zcopy S12 w v12 0 cs.length ds.length) 206 b (Int32.ofNat (cs.length + ds.length)))) : zCall d 427 [.ref b, .ref s] S post := by
  have ht : ztab 427 = ztb427 := rfl
  show zEv d 427 0 [.ref b, .ref s] [] S post
  refine zv_c1 ht rfl rfl (zv_c1 ht rfl rfl ?_)
  have C2 : ∀ (pst1 : Outcome × zS → Prop), (∀ S12 : zS, ∀ v12 : Nat, ∀ cap12 : Nat, (zFin true S12) → (zSb S12 b v12 cap12 cs) → (zKE N [] [203] S S12) → (cs.length + ds.length ≤ cap12) → ((gN S ≤ gN S12 ∧ gN S12 + cap ≤ gN S + cap12 ∧ gZ S12 + 2 * cap ≤ gZ S + 2 * cap12) ∧ (v < gN S12 ∧ v12 < gN S12 ∧ N ≤ v12 ∧ 1639 ≤ v12 ∧ cap ≤ cap12 ∧ cap12 ≤ max cap (2 * (cs.length + ds.length) + 2))) → pst1 (.returned (some (.ref b)), sI (zcopy S12 w v12 0 cs.length ds.length) 206 b (Int32.ofNat (cs.length + ds.length)))) → zCall (d - 1) 418 [.ref b, .ref s] S pst1 := by
    intro pst1 k33
    have ht3 : ztab 418 = ztb418 := rfl
    show zEv (d - 1) 418 0 [.ref b, .ref s, .retAddr 0] [] S pst1
    refine zv_c1 ht3 rfl rfl ?_
    refine zv_nt ht3 rfl rfl rfl rfl ?_
    refine zv_c1 ht3 rfl rfl ?_
    have C5 : ∀ (pst4 : Outcome × zS → Prop), (pst4 (.returned (some (.int (Int32.ofNat ds.length))), S)) → zCall ((d - 1) - 1) 392 [.ref s] S pst4 := by
      intro pst4 k11
      have ht6 : ztab 392 = ztb392 := rfl
      show zEv ((d - 1) - 1) 392 0 [.ref s] [] S pst4
      refine zv_c1 ht6 rfl rfl ?_
      refine zv_g3 (q := w) ht6 rfl hF rfl rfl (zhas_of (h22) rfl) hw ?_
      refine zv_ei (x := Int32.ofNat ds.length) ht6 rfl rfl (zv_l2 (hwt)) (congrArg Int32.ofNat (hwl)) ?_
      refine zv_c1 ht6 rfl rfl ?_
      have C8 : ∀ (pst7 : Outcome × zS → Prop), (pst7 (.returned (some (.int 0)), S)) → zCall (((d - 1) - 1) - 1) 393 [.ref s] S pst7 := by
        intro pst7 k10
        have ht9 : ztab 393 = ztb393 := rfl
        show zEv (((d - 1) - 1) - 1) 393 0 [.ref s] [] S pst7
        refine zv_c1 ht9 rfl rfl ?_
        refine zv_br ht9 rfl rfl rfl (fun h => absurd h (by decide)) (fun _ => ?_)
        refine zv_c1 ht9 rfl rfl ?_
        refine zv_ei (x := 0) ht9 rfl rfl (zhas_of (h22) rfl) hc ?_
        refine zv_c1 ht9 rfl rfl ?_
        exact zv_rc ht9 rfl rfl rfl rfl (by decide) k10
      refine zv_cl ht6 rfl rfl rfl (zv_tgv (h22) rfl) (by omega) (Nat.le_of_ble_eq_true rfl) (C8 _ ?_)
      show zEv ((d - 1) - 1) 392 9 [.ref s] [.int 0, .int (Int32.ofNat ds.length)] S pst4
      refine zv_e1 (x := Int32.ofNat ds.length) ht6 rfl rfl (zi_shr0 rfl) ?_
      exact zv_rt ht6 rfl rfl rfl rfl k11
    refine zv_cl ht3 rfl rfl rfl (zv_tgv (h22) rfl) (by omega) (Nat.le_of_ble_eq_true rfl) (C5 _ ?_)
    show zEv (d - 1) 418 13 [.ref b, .ref s, .retAddr 0] [.int (Int32.ofNat ds.length)] S pst1
    refine zv_c2 (L' := [.ref b, .ref s, .int (Int32.ofNat ds.length)]) ht3 rfl rfl ?_
    refine zv_c1 ht3 rfl rfl (zv_c1 ht3 rfl rfl ?_)
    refine zv_ei (x := Int32.ofNat cs.length) ht3 rfl rfl (zhas_of (hs.1) rfl) hs.2.2.2.1 ?_
    refine zv_c1 ht3 rfl rfl ?_
    refine zv_e1 (x := Int32.ofNat (cs.length + ds.length)) ht3 rfl rfl (zi_addE (a := cs.length) (b := ds.length) rfl rfl) ?_
    refine zv_cl ht3 rfl rfl rfl (zv_tgv (hs.1) rfl) (by omega) (Nat.le_of_ble_eq_true rfl) (j_ensure (S := S) (N := N) hF (by omega) hs hcap hN2 hNv (cs.length + ds.length) (by omega) (by omega) (fun S12 v12 cap12 hF12 hs12 k12 m12 g12 => ?_))
    show zEv (d - 1) 418 24 [.ref b, .ref s, .int (Int32.ofNat ds.length)] [] S12 pst1
    refine zv_c1 ht3 rfl rfl (zv_c1 ht3 rfl rfl ?_)
    refine zv_ei (x := Int32.ofNat cs.length) ht3 rfl rfl (zhas_of (hs12.1) rfl) hs12.2.2.2.1 ?_
    refine zv_c1 ht3 rfl rfl ?_
    have C14 : ∀ (pst13 : Outcome × zS → Prop), (pst13 (.returned none, zcopy S12 w v12 0 cs.length ds.length)) → zCall ((d - 1) - 1) 420 [.ref b, .int (Int32.ofNat cs.length), .ref s] S12 pst13 := by
      intro pst13 k32
      have ht15 : ztab 420 = ztb420 := rfl
      show zEv ((d - 1) - 1) 420 0 [.ref b, .int (Int32.ofNat cs.length), .ref s] [] S12 pst13
      refine zv_c1 ht15 rfl rfl (zv_c1 ht15 rfl rfl ?_)
      have C17 : ∀ (pst16 : Outcome × zS → Prop), (pst16 (.returned none, S12)) → zCall (((d - 1) - 1) - 1) 421 [.ref b, .ref s] S12 pst16 := by
        intro pst16 k23
        have ht18 : ztab 421 = ztb421 := rfl
        show zEv (((d - 1) - 1) - 1) 421 0 [.ref b, .ref s] [] S12 pst16
        refine zv_c1 ht18 rfl rfl ?_
        refine zv_br ht18 rfl rfl rfl (fun h => absurd h (by decide)) (fun _ => ?_)
        refine zv_c1 ht18 rfl rfl ?_
        refine zv_ei (x := 0) ht18 rfl rfl (zhas_of (hs12.1) rfl) hs12.2.2.1 ?_
        refine zv_c1 ht18 rfl rfl ?_
        have C20 : ∀ (pst19 : Outcome × zS → Prop), (pst19 (.returned (some (.int 0)), S12)) → zCall ((((d - 1) - 1) - 1) - 1) 393 [.ref s] S12 pst19 := by
          intro pst19 k22
          have ht21 : ztab 393 = ztb393 := rfl
          show zEv ((((d - 1) - 1) - 1) - 1) 393 0 [.ref s] [] S12 pst19
          refine zv_c1 ht21 rfl rfl ?_
          refine zv_br ht21 rfl rfl rfl (fun h => absurd h (by decide)) (fun _ => ?_)
          refine zv_c1 ht21 rfl rfl ?_
          refine zv_ei (x := 0) ht21 rfl rfl (zhas_of (Eq.trans (k12.T hsN) h22) rfl) (Eq.trans (k12.I hsN (by simp) (by decide)) hc) ?_
          refine zv_c1 ht21 rfl rfl ?_
          exact zv_rc ht21 rfl rfl rfl rfl (by decide) k22
        refine zv_cl ht18 rfl rfl rfl (zv_tgv (Eq.trans (k12.T hsN) h22) rfl) (by omega) (Nat.le_of_ble_eq_true rfl) (C20 _ ?_)
        show zEv (((d - 1) - 1) - 1) 421 14 [.ref b, .ref s] [.int 0, .int 0] S12 pst16
        refine zv_br ht18 rfl rfl rfl (fun _ => ?_) (fun h => absurd (by decide) h)
        exact zv_rt ht18 rfl rfl rfl rfl k23
      refine zv_cl ht15 rfl rfl rfl (zv_tgv (hs12.1) rfl) (by omega) (Nat.le_of_ble_eq_true rfl) (C17 _ ?_)
      show zEv ((d - 1) - 1) 420 5 [.ref b, .int (Int32.ofNat cs.length), .ref s] [] S12 pst13
      refine zv_c1 ht15 rfl rfl (zv_c1 ht15 rfl rfl ?_)
      refine zv_g3 (q := v12) ht15 rfl hF12 rfl rfl (zhas_of (hs12.1) rfl) hs12.2.1 ?_
      refine zv_c1 ht15 rfl rfl (zv_c1 ht15 rfl rfl ?_)
      refine zv_ei (x := 0) ht15 rfl rfl (zhas_of (hs12.1) rfl) hs12.2.2.1 ?_
      have C25 : ∀ (pst24 : Outcome × zS → Prop), (pst24 (.returned none, zcopy S12 w v12 0 cs.length ds.length)) → zCall (((d - 1) - 1) - 1) 398 [.ref s, .ref v12, .int (Int32.ofNat cs.length), .int 0] S12 pst24 := by
        intro pst24 k31
        have ht26 : ztab 398 = ztb398 := rfl
        show zEv (((d - 1) - 1) - 1) 398 0 [.ref s, .ref v12, .int (Int32.ofNat cs.length), .int 0] [] S12 pst24
        refine zv_c1 ht26 rfl rfl ?_
        have C28 : ∀ (pst27 : Outcome × zS → Prop), (pst27 (.returned (some (.int 0)), S12)) → zCall ((((d - 1) - 1) - 1) - 1) 393 [.ref s] S12 pst27 := by
          intro pst27 k30
          have ht29 : ztab 393 = ztb393 := rfl
          show zEv ((((d - 1) - 1) - 1) - 1) 393 0 [.ref s] [] S12 pst27
          refine zv_c1 ht29 rfl rfl ?_
          refine zv_br ht29 rfl rfl rfl (fun h => absurd h (by decide)) (fun _ => ?_)
          refine zv_c1 ht29 rfl rfl ?_
          refine zv_ei (x := 0) ht29 rfl rfl (zhas_of (Eq.trans (k12.T hsN) h22) rfl) (Eq.trans (k12.I hsN (by simp) (by decide)) hc) ?_
          refine zv_c1 ht29 rfl rfl ?_
          exact zv_rc ht29 rfl rfl rfl rfl (by decide) k30
        refine zv_cl ht26 rfl rfl rfl (zv_tgv (Eq.trans (k12.T hsN) h22) rfl) (by omega) (Nat.le_of_ble_eq_true rfl) (C28 _ ?_)
        show zEv (((d - 1) - 1) - 1) 398 4 [.ref s, .ref v12, .int (Int32.ofNat cs.length), .int 0] [.int 0] S12 pst24
        refine zv_c1 ht26 rfl rfl ?_
        refine zv_br ht26 rfl rfl rfl (fun h => absurd h (by decide)) (fun _ => ?_)
        refine zv_c1 ht26 rfl rfl ?_
        refine zv_g3 (q := w) ht26 rfl hF12 rfl rfl (zhas_of (Eq.trans (k12.T hsN) h22) rfl) (Eq.trans (k12.P hsN (by simp) (by decide)) hw) ?_
        refine zv_c1 ht26 rfl rfl (zv_c1 ht26 rfl rfl (zv_c1 ht26 rfl rfl (zv_c1 ht26 rfl rfl ?_)))
        refine zv_e1 (x := Int32.ofNat cs.length) ht26 rfl rfl (zi_shl0 rfl) ?_
        refine zv_c1 ht26 rfl rfl ?_
        refine zv_g3 (q := w) ht26 rfl hF12 rfl rfl (zhas_of (Eq.trans (k12.T hsN) h22) rfl) (Eq.trans (k12.P hsN (by simp) (by decide)) hw) ?_
        refine zv_ei (x := Int32.ofNat ds.length) ht26 rfl rfl (zv_l2 ((by rw [(k12.T hwN)]; exact hwt))) (congrArg Int32.ofNat (Eq.trans (k12.Len hwN) hwl)) ?_
        refine zv_cp (a := 0) (b := cs.length) (k := ds.length) ht26 rfl rfl rfl rfl rfl rfl (by omega) (by omega) (by omega) (by rw [(k12.T hwN)]; exact hwt) hs12.2.2.2.2.1 (by omega) (show 0 + ds.length ≤ _ from Nat.le_trans (show 0 + ds.length ≤ ds.length from by omega) (Nat.le_of_eq (Eq.symm (Eq.trans (k12.Len hwN) hwl)))) (show cs.length + ds.length ≤ _ from Nat.le_trans (show cs.length + ds.length ≤ cap12 from by omega) (Nat.le_of_eq (Eq.symm hs12.2.2.2.2.2.1))) ?_
        refine zv_c1 ht26 rfl rfl ?_
        exact zv_rt ht26 rfl rfl rfl rfl k31
      refine zv_cl ht15 rfl rfl rfl (zv_tgv (Eq.trans (k12.T hsN) h22) rfl) (by omega) (Nat.le_of_ble_eq_true rfl) (C25 _ ?_)
      show zEv ((d - 1) - 1) 420 18 [.ref b, .int (Int32.ofNat cs.length), .ref s] [] (zcopy S12 w v12 0 cs.length ds.length) pst13
      exact zv_rt ht15 rfl rfl rfl rfl k32
    refine zv_cl ht3 rfl rfl rfl (zv_tgv (hs12.1) rfl) (by omega) (Nat.le_of_ble_eq_true rfl) (C14 _ ?_)
    show zEv (d - 1) 418 33 [.ref b, .ref s, .int (Int32.ofNat ds.length)] [] (zcopy S12 w v12 0 cs.length ds.length) pst1
    refine zv_c1 ht3 rfl rfl (zv_c1 ht3 rfl rfl ?_)
    refine zv_ei (x := Int32.ofNat cs.length) ht3 rfl rfl (zhas_of (hs12.1) rfl) hs12.2.2.2.1 ?_
    refine zv_c1 ht3 rfl rfl ?_
    refine zv_e1 (x := Int32.ofNat (cs.length + ds.length)) ht3 rfl rfl (zi_addE (a := cs.length) (b := ds.length) rfl rfl) ?_
    refine zv_ci (S' := sI (zcopy S12 w v12 0 cs.length ds.length) 206 b (Int32.ofNat (cs.length + ds.length))) ht3 rfl rfl ⟨(zhas_of (hs12.1) rfl), (show b < gN S12 from by omega)⟩ ?_
    refine zv_c1 ht3 rfl rfl ?_
    exact zv_rt ht3 rfl rfl rfl rfl (k33 S12 v12 cap12 hF12 hs12 k12 m12 g12)
  refine zv_cl ht rfl rfl rfl (zv_tgs (hs.1)) (by omega) (Nat.le_of_ble_eq_true rfl) (C2 _ (fun S12 v12 cap12 hF12 hs12 k12 m12 g12 => ?_))
  show zEv d 427 5 [.ref b, .ref s] [.ref b] (sI (zcopy S12 w v12 0 cs.length ds.length) 206 b (Int32.ofNat (cs.length + ds.length))) post
  refine zv_c1 ht rfl rfl (zv_c1 ht rfl rfl ?_)
  exact zv_rt ht rfl rfl rfl rfl (h1 S12 v12 cap12 hF12 hs12 k12 m12 g12)

theorem ts0 {d : Nat} {S : zS} (hF : zFin true S) (hd : 5 ≤ d) {b v cap N : Nat} {cs : List Nat} (hs : zSb S b v cap cs) (hb1 : b < gN S) (hv1 : v < gN S) (hb2 : 1639 ≤ b) (hv2 : 1639 ≤ v) (hbv : b ≠ v) (hlc : cs.length ≤ cap) (hcap : cap < 40000) (hN : 1639 ≤ gN S) (hN2 : gN S < 1900000) (hNv : N ≤ v) {post : Outcome × zS → Prop} (h1 : (cs.length = cap) → post (.returned (some (.ref (gN S))), sP (zcopy (sNew (sI (sNew S 22 0 (zslots 22)) 200 (gN S) 0) 101 cap cap) v (gN S + 1) 0 0 cap) 199 (gN S) (some (gN S + 1)))) (h2 : (¬ (cs.length = cap)) → post (.returned (some (.ref (gN S))), sP (zcopy (sNew (sI (sNew S 22 0 (zslots 22)) 200 (gN S) 0) 101 cs.length cs.length) v (gN S + 1) 0 0 (min cap cs.length)) 199 (gN S) (some (gN S + 1)))) : zCall d 425 [.ref b] S post := by
  have ht : ztab 425 = ztb425 := rfl
  show zEv d 425 0 [.ref b] [] S post
  refine zv_ci (st' := [.ref (gN S)]) (S' := sNew S 22 0 (zslots 22)) ht rfl rfl (znew_ok (show 1639 ≤ gN S from by omega) (show gN S < 2000000 from by omega)) ?_
  refine zv_c1 ht rfl rfl (zv_c1 ht rfl rfl ?_)
  have C2 : ∀ (pst1 : Outcome × zS → Prop), ((cs.length = cap) → pst1 (.returned none, sP (zcopy (sNew (sI (sNew S 22 0 (zslots 22)) 200 (gN S) 0) 101 cap cap) v (gN S + 1) 0 0 cap) 199 (gN S) (some (gN S + 1)))) → ((¬ (cs.length = cap)) → pst1 (.returned none, sP (zcopy (sNew (sI (sNew S 22 0 (zslots 22)) 200 (gN S) 0) 101 cs.length cs.length) v (gN S + 1) 0 0 (min cap cs.length)) 199 (gN S) (some (gN S + 1)))) → zCall (d - 1) 389 [.ref (gN S), .ref b] (sNew S 22 0 (zslots 22)) pst1 := by
    intro pst1 k40 k41
    have ht3 : ztab 389 = ztb389 := rfl
    show zEv (d - 1) 389 0 [.ref (gN S), .ref b] [] (sNew S 22 0 (zslots 22)) pst1
    refine zv_c1 ht3 rfl rfl (zv_c1 ht3 rfl rfl (zv_c1 ht3 rfl rfl ?_))
    have C5 : ∀ (pst4 : Outcome × zS → Prop), ((cs.length = cap) → pst4 (.returned none, sP (zcopy (sNew (sI (sNew S 22 0 (zslots 22)) 200 (gN S) 0) 101 cap cap) v (gN S + 1) 0 0 cap) 199 (gN S) (some (gN S + 1)))) → ((¬ (cs.length = cap)) → pst4 (.returned none, sP (zcopy (sNew (sI (sNew S 22 0 (zslots 22)) 200 (gN S) 0) 101 cs.length cs.length) v (gN S + 1) 0 0 (min cap cs.length)) 199 (gN S) (some (gN S + 1)))) → zCall ((d - 1) - 1) 390 [.ref (gN S), .ref b, .null] (sNew S 22 0 (zslots 22)) pst4 := by
      intro pst4 k38 k39
      have ht6 : ztab 390 = ztb390 := rfl
      show zEv ((d - 1) - 1) 390 0 [.ref (gN S), .ref b, .null, .retAddr 0, .retAddr 0] [] (sNew S 22 0 (zslots 22)) pst4
      refine zv_c1 ht6 rfl rfl (zv_c1 ht6 rfl rfl (zv_c1 ht6 rfl rfl ?_))
      have C8 : ∀ (pst7 : Outcome × zS → Prop), (pst7 (.returned (some (.ref v)), sNew S 22 0 (zslots 22))) → zCall (((d - 1) - 1) - 1) 416 [.ref b] (sNew S 22 0 (zslots 22)) pst7 := by
        intro pst7 k10
        have ht9 : ztab 416 = ztb416 := rfl
        show zEv (((d - 1) - 1) - 1) 416 0 [.ref b] [] (sNew S 22 0 (zslots 22)) pst7
        refine zv_c1 ht9 rfl rfl ?_
        refine zv_g3 (q := v) ht9 rfl (zFin_new hF) rfl rfl (zhas_of (Eq.trans (ztyp_new (S := S) (t := 22) (n := 0) (s := zslots 22) (show b ≠ gN S from by omega)) hs.1) rfl) (Eq.trans (gP_new (S := S) (t := 22) (n := 0) (s := zslots 22) (show b ≠ gN S from by omega)) hs.2.1) ?_
        exact zv_rt ht9 rfl rfl rfl rfl k10
      refine zv_cl ht6 rfl rfl rfl (zv_tgv (Eq.trans (ztyp_new (S := S) (t := 22) (n := 0) (s := zslots 22) (show b ≠ gN S from by omega)) hs.1) rfl) (by omega) (Nat.le_of_ble_eq_true rfl) (C8 _ ?_)
      show zEv ((d - 1) - 1) 390 8 [.ref (gN S), .ref b, .null, .retAddr 0, .retAddr 0] [.ref v] (sNew S 22 0 (zslots 22)) pst4
      refine zv_c2 (L' := [.ref (gN S), .ref b, .null, .ref v, .retAddr 0]) ht6 rfl rfl ?_
      refine zv_c1 ht6 rfl rfl ?_
      have C12 : ∀ (pst11 : Outcome × zS → Prop), (pst11 (.returned (some (.int (Int32.ofNat cs.length))), sNew S 22 0 (zslots 22))) → zCall (((d - 1) - 1) - 1) 426 [.ref b] (sNew S 22 0 (zslots 22)) pst11 := by
        intro pst11 k18
        have ht13 : ztab 426 = ztb426 := rfl
        show zEv (((d - 1) - 1) - 1) 426 0 [.ref b] [] (sNew S 22 0 (zslots 22)) pst11
        refine zv_c1 ht13 rfl rfl ?_
        have C15 : ∀ (pst14 : Outcome × zS → Prop), (pst14 (.returned (some (.int (Int32.ofNat cs.length))), sNew S 22 0 (zslots 22))) → zCall ((((d - 1) - 1) - 1) - 1) 417 [.ref b] (sNew S 22 0 (zslots 22)) pst14 := by
          intro pst14 k17
          have ht16 : ztab 417 = ztb417 := rfl
          show zEv ((((d - 1) - 1) - 1) - 1) 417 0 [.ref b] [] (sNew S 22 0 (zslots 22)) pst14
          refine zv_c1 ht16 rfl rfl ?_
          refine zv_ei (x := Int32.ofNat cs.length) ht16 rfl rfl (zhas_of (Eq.trans (ztyp_new (S := S) (t := 22) (n := 0) (s := zslots 22) (show b ≠ gN S from by omega)) hs.1) rfl) (Eq.trans (gI_new (S := S) (t := 22) (n := 0) (s := zslots 22) (show b ≠ gN S from by omega)) hs.2.2.2.1) ?_
          exact zv_rt ht16 rfl rfl rfl rfl k17
        refine zv_cl ht13 rfl rfl rfl (zv_tgs (Eq.trans (ztyp_new (S := S) (t := 22) (n := 0) (s := zslots 22) (show b ≠ gN S from by omega)) hs.1)) (by omega) (Nat.le_of_ble_eq_true rfl) (C15 _ ?_)
        show zEv (((d - 1) - 1) - 1) 426 4 [.ref b] [.int (Int32.ofNat cs.length)] (sNew S 22 0 (zslots 22)) pst11
        exact zv_rt ht13 rfl rfl rfl rfl k18
      refine zv_cl ht6 rfl rfl rfl (zv_tgv (Eq.trans (ztyp_new (S := S) (t := 22) (n := 0) (s := zslots 22) (show b ≠ gN S from by omega)) hs.1) rfl) (by omega) (Nat.le_of_ble_eq_true rfl) (C12 _ ?_)
      show zEv ((d - 1) - 1) 390 13 [.ref (gN S), .ref b, .null, .ref v, .retAddr 0] [.int (Int32.ofNat cs.length)] (sNew S 22 0 (zslots 22)) pst4
      refine zv_c2 (L' := [.ref (gN S), .ref b, .null, .ref v, .int (Int32.ofNat cs.length)]) ht6 rfl rfl ?_
      refine zv_c1 ht6 rfl rfl ?_
      have C20 : ∀ (pst19 : Outcome × zS → Prop), (pst19 (.returned (some (.int 1)), sNew S 22 0 (zslots 22))) → zCall (((d - 1) - 1) - 1) 414 [.ref b] (sNew S 22 0 (zslots 22)) pst19 := by
        intro pst19 k22
        have ht21 : ztab 414 = ztb414 := rfl
        show zEv (((d - 1) - 1) - 1) 414 0 [.ref b] [] (sNew S 22 0 (zslots 22)) pst19
        refine zv_c1 ht21 rfl rfl ?_
        refine zv_br ht21 rfl rfl rfl (fun h => absurd h (by decide)) (fun _ => ?_)
        refine zv_c1 ht21 rfl rfl ?_
        refine zv_ei (x := 0) ht21 rfl rfl (zhas_of (Eq.trans (ztyp_new (S := S) (t := 22) (n := 0) (s := zslots 22) (show b ≠ gN S from by omega)) hs.1) rfl) (Eq.trans (gI_new (S := S) (t := 22) (n := 0) (s := zslots 22) (show b ≠ gN S from by omega)) hs.2.2.1) ?_
        refine zv_br ht21 rfl rfl rfl (fun h => absurd h (by decide)) (fun _ => ?_)
        refine zv_c1 ht21 rfl rfl (zv_c1 ht21 rfl rfl ?_)
        exact zv_rc ht21 rfl rfl rfl rfl (by decide) k22
      refine zv_cl ht6 rfl rfl rfl (zv_tgv (Eq.trans (ztyp_new (S := S) (t := 22) (n := 0) (s := zslots 22) (show b ≠ gN S from by omega)) hs.1) rfl) (by omega) (Nat.le_of_ble_eq_true rfl) (C20 _ ?_)
      show zEv ((d - 1) - 1) 390 19 [.ref (gN S), .ref b, .null, .ref v, .int (Int32.ofNat cs.length)] [.int 1] (sNew S 22 0 (zslots 22)) pst4
      refine zv_br ht6 rfl rfl rfl (fun h => absurd h (by decide)) (fun _ => ?_)
      refine zv_c1 ht6 rfl rfl (zv_c1 ht6 rfl rfl ?_)
      refine zv_ci (S' := sI (sNew S 22 0 (zslots 22)) 200 (gN S) 0) ht6 rfl rfl ⟨⟨(zhas_of (ztyp_new_at (S := S) (t := 22) (n := 0) (s := zslots 22) (show 1639 ≤ gN S from by omega)) rfl), (show gN S < gN S + 1 from by omega)⟩, (by decide)⟩ ?_
      refine zv_c1 ht6 rfl rfl (zv_c1 ht6 rfl rfl (zv_c1 ht6 rfl rfl (zv_c1 ht6 rfl rfl ?_)))
      have C24 : ∀ (pst23 : Outcome × zS → Prop), ((cs.length = cap) → pst23 (.returned (some (.ref (gN S + 1))), zcopy (sNew (sI (sNew S 22 0 (zslots 22)) 200 (gN S) 0) 101 cap cap) v (gN S + 1) 0 0 cap)) → ((¬ (cs.length = cap)) → pst23 (.returned (some (.ref (gN S + 1))), zcopy (sNew (sI (sNew S 22 0 (zslots 22)) 200 (gN S) 0) 101 cs.length cs.length) v (gN S + 1) 0 0 (min cap cs.length))) → zCall (((d - 1) - 1) - 1) 439 [.ref v, .int 0, .int (Int32.ofNat cs.length)] (sI (sNew S 22 0 (zslots 22)) 200 (gN S) 0) pst23 := by
        intro pst23 k36 k37
        have ht25 : ztab 439 = ztb439 := rfl
        show zEv (((d - 1) - 1) - 1) 439 0 [.ref v, .int 0, .int (Int32.ofNat cs.length)] [] (sI (sNew S 22 0 (zslots 22)) 200 (gN S) 0) pst23
        refine zv_c1 ht25 rfl rfl ?_
        refine zv_br ht25 rfl rfl rfl (fun h => absurd h (by decide)) (fun _ => ?_)
        refine zv_c1 ht25 rfl rfl (zv_c1 ht25 rfl rfl ?_)
        refine zv_ei (x := Int32.ofNat cap) ht25 rfl rfl (zv_le (Eq.trans (ztyp_new (S := S) (t := 22) (n := 0) (s := zslots 22) (show v ≠ gN S from by omega)) hs.2.2.2.2.1) rfl) (congrArg Int32.ofNat (Eq.trans (zlen_new (S := S) (t := 22) (n := 0) (s := zslots 22) (show v ≠ gN S from by omega)) hs.2.2.2.2.2.1)) ?_
        refine zv_br ht25 rfl rfl rfl (fun b26 => ?_) (fun b26 => ?_)
        · replace b26 : cs.length = cap := (zi_eqE (a := cs.length) (b := cap) rfl rfl (by omega) (by omega)).mp b26
          refine zv_c1 ht25 rfl rfl ?_
          refine zv_cln (k := cap) ht25 rfl rfl rfl ⟨Eq.trans (ztyp_new (S := S) (t := 22) (n := 0) (s := zslots 22) (show v ≠ gN S from by omega)) hs.2.2.2.2.1, znew_ok (show 1639 ≤ gN S + 1 from by omega) (show gN S + 1 < 2000000 from by omega)⟩ (Eq.trans (zlen_new (S := S) (t := 22) (n := 0) (s := zslots 22) (show v ≠ gN S from by omega)) hs.2.2.2.2.2.1) ?_
          show zEv (((d - 1) - 1) - 1) 439 21 [.ref v, .int 0, .int (Int32.ofNat cs.length)] [.ref (gN S + 1)] (zcopy (sNew (sI (sNew S 22 0 (zslots 22)) 200 (gN S) 0) 101 cap cap) v (gN S + 1) 0 0 cap) pst23
          refine zv_ci ht25 rfl rfl (ztyp_new_at (S := sI (sNew S 22 0 (zslots 22)) 200 (gN S) 0) (t := 101) (n := cap) (s := cap) (show 1639 ≤ gN S + 1 from by omega)) ?_
          exact zv_rt ht25 rfl rfl rfl rfl (k36 b26)
        · replace b26 : ¬ (cs.length = cap) := fun h => b26 ((zi_eqE (a := cs.length) (b := cap) rfl rfl (by omega) (by omega)).mpr h)
          refine zv_c1 ht25 rfl rfl (zv_c1 ht25 rfl rfl (zv_c1 ht25 rfl rfl ?_))
          have C28 : ∀ (pst27 : Outcome × zS → Prop), (pst27 (.returned (some (.ref (gN S + 1))), zcopy (sNew (sI (sNew S 22 0 (zslots 22)) 200 (gN S) 0) 101 cs.length cs.length) v (gN S + 1) 0 0 (min cap cs.length))) → zCall ((((d - 1) - 1) - 1) - 1) 440 [.ref v, .int 0, .int (Int32.ofNat cs.length)] (sI (sNew S 22 0 (zslots 22)) 200 (gN S) 0) pst27 := by
            intro pst27 k35
            have ht29 : ztab 440 = ztb440 := rfl
            show zEv ((((d - 1) - 1) - 1) - 1) 440 0 [.ref v, .int 0, .int (Int32.ofNat cs.length), .retAddr 0, .retAddr 0] [] (sI (sNew S 22 0 (zslots 22)) 200 (gN S) 0) pst27
            refine zv_c1 ht29 rfl rfl (zv_c1 ht29 rfl rfl ?_)
            have C31 : ∀ (pst30 : Outcome × zS → Prop), (pst30 (.returned none, sI (sNew S 22 0 (zslots 22)) 200 (gN S) 0)) → zCall (((((d - 1) - 1) - 1) - 1) - 1) 441 [.int 0, .int (Int32.ofNat cs.length)] (sI (sNew S 22 0 (zslots 22)) 200 (gN S) 0) pst30 := by
              intro pst30 k34
              have ht32 : ztab 441 = ztb441 := rfl
              show zEv (((((d - 1) - 1) - 1) - 1) - 1) 441 0 [.int 0, .int (Int32.ofNat cs.length)] [] (sI (sNew S 22 0 (zslots 22)) 200 (gN S) 0) pst30
              refine zv_c1 ht32 rfl rfl (zv_c1 ht32 rfl rfl ?_)
              refine zv_br ht32 rfl rfl rfl (fun b33 => ?_) (fun b33 => (show False from by have hq := b33; have hz : ¬ (0 ≤ cs.length) := fun h => hq ((zi_leE (a := 0) (b := cs.length) rfl rfl (by omega) (by omega)).mpr h); omega).elim)
              exact zv_rt ht32 rfl rfl rfl rfl k34
            refine zv_cl ht29 rfl rfl rfl rfl (by omega) (Nat.le_of_ble_eq_true rfl) (C31 _ ?_)
            show zEv ((((d - 1) - 1) - 1) - 1) 440 5 [.ref v, .int 0, .int (Int32.ofNat cs.length), .retAddr 0, .retAddr 0] [] (sI (sNew S 22 0 (zslots 22)) 200 (gN S) 0) pst27
            refine zv_c1 ht29 rfl rfl (zv_c1 ht29 rfl rfl ?_)
            refine zv_e1 (x := Int32.ofNat cs.length) ht29 rfl rfl (zi_subE (a := cs.length) (b := 0) rfl rfl (by omega)) ?_
            refine zv_c2 (L' := [.ref v, .int 0, .int (Int32.ofNat cs.length), .int (Int32.ofNat cs.length), .retAddr 0]) ht29 rfl rfl ?_
            refine zv_c1 ht29 rfl rfl ?_
            refine zv_na (ty := 101) (j := cs.length) (r := []) ht29 rfl rfl rfl rfl (zi_natE (a := cs.length) rfl (by omega)) ⟨zi_len (a := cs.length) rfl (by omega), znew_okE (a := cs.length) rfl (by omega) (show 1639 ≤ gN S + 1 from by omega) (show gN S + 1 < 2000000 from by omega)⟩ ?_
            show zEv ((((d - 1) - 1) - 1) - 1) 440 12 [.ref v, .int 0, .int (Int32.ofNat cs.length), .int (Int32.ofNat cs.length), .retAddr 0] [.ref (gN S + 1)] (sNew (sI (sNew S 22 0 (zslots 22)) 200 (gN S) 0) 101 cs.length cs.length) pst27
            refine zv_c2 (L' := [.ref v, .int 0, .int (Int32.ofNat cs.length), .int (Int32.ofNat cs.length), .ref (gN S + 1)]) ht29 rfl rfl ?_
            refine zv_c1 ht29 rfl rfl (zv_c1 ht29 rfl rfl (zv_c1 ht29 rfl rfl (zv_c1 ht29 rfl rfl (zv_c1 ht29 rfl rfl ?_))))
            refine zv_ei (x := Int32.ofNat cap) ht29 rfl rfl (zv_le (Eq.trans (ztyp_new (S := sI (sNew S 22 0 (zslots 22)) 200 (gN S) 0) (t := 101) (n := cs.length) (s := cs.length) (show v ≠ gN S + 1 from by omega)) (Eq.trans (ztyp_new (S := S) (t := 22) (n := 0) (s := zslots 22) (show v ≠ gN S from by omega)) hs.2.2.2.2.1)) rfl) (congrArg Int32.ofNat (Eq.trans (zlen_new (S := sI (sNew S 22 0 (zslots 22)) 200 (gN S) 0) (t := 101) (n := cs.length) (s := cs.length) (show v ≠ gN S + 1 from by omega)) (Eq.trans (zlen_new (S := S) (t := 22) (n := 0) (s := zslots 22) (show v ≠ gN S from by omega)) hs.2.2.2.2.2.1))) ?_
            refine zv_c1 ht29 rfl rfl ?_
            refine zv_e1 (x := Int32.ofNat cap) ht29 rfl rfl (zi_subE (a := cap) (b := 0) rfl rfl (by omega)) ?_
            refine zv_c1 ht29 rfl rfl ?_
            refine zv_e1 (x := Int32.ofNat (min cap cs.length)) ht29 rfl rfl (zi_minE rfl rfl (by omega) (by omega)) ?_
            refine zv_cp (a := 0) (b := 0) (k := min cap cs.length) ht29 rfl rfl rfl rfl rfl rfl (by omega) (by omega) (by omega) (Or.inl (Eq.trans (ztyp_new (S := sI (sNew S 22 0 (zslots 22)) 200 (gN S) 0) (t := 101) (n := cs.length) (s := cs.length) (show v ≠ gN S + 1 from by omega)) (Eq.trans (ztyp_new (S := S) (t := 22) (n := 0) (s := zslots 22) (show v ≠ gN S from by omega)) hs.2.2.2.2.1))) (ztyp_new_at (S := sI (sNew S 22 0 (zslots 22)) 200 (gN S) 0) (t := 101) (n := cs.length) (s := cs.length) (show 1639 ≤ gN S + 1 from by omega)) (by omega) (show 0 + (min cap cs.length) ≤ _ from Nat.le_trans (show 0 + (min cap cs.length) ≤ cap from by omega) (Nat.le_of_eq (Eq.symm (Eq.trans (zlen_new (S := sI (sNew S 22 0 (zslots 22)) 200 (gN S) 0) (t := 101) (n := cs.length) (s := cs.length) (show v ≠ gN S + 1 from by omega)) (Eq.trans (zlen_new (S := S) (t := 22) (n := 0) (s := zslots 22) (show v ≠ gN S from by omega)) hs.2.2.2.2.2.1))))) (show 0 + (min cap cs.length) ≤ _ from Nat.le_trans (show 0 + (min cap cs.length) ≤ cs.length from by omega) (Nat.le_of_eq (Eq.symm (zlen_new_at (S := sI (sNew S 22 0 (zslots 22)) 200 (gN S) 0) (t := 101) (n := cs.length) (s := cs.length) (show 1639 ≤ gN S + 1 from by omega))))) ?_
            refine zv_c1 ht29 rfl rfl ?_
            exact zv_rt ht29 rfl rfl rfl rfl k35
          refine zv_cl ht25 rfl rfl rfl rfl (by omega) (Nat.le_of_ble_eq_true rfl) (C28 _ ?_)
          show zEv (((d - 1) - 1) - 1) 439 16 [.ref v, .int 0, .int (Int32.ofNat cs.length)] [.ref (gN S + 1)] (zcopy (sNew (sI (sNew S 22 0 (zslots 22)) 200 (gN S) 0) 101 cs.length cs.length) v (gN S + 1) 0 0 (min cap cs.length)) pst23
          exact zv_rt ht25 rfl rfl rfl rfl (k37 b26)
      refine zv_cl ht6 rfl rfl rfl rfl (by omega) (Nat.le_of_ble_eq_true rfl) (C24 _ (fun b26 => ?_) (fun b26 => ?_))
      · show zEv ((d - 1) - 1) 390 35 [.ref (gN S), .ref b, .null, .ref v, .int (Int32.ofNat cs.length)] [.ref (gN S + 1), .ref (gN S)] (zcopy (sNew (sI (sNew S 22 0 (zslots 22)) 200 (gN S) 0) 101 cap cap) v (gN S + 1) 0 0 cap) pst4
        refine zv_ci (S' := sP (zcopy (sNew (sI (sNew S 22 0 (zslots 22)) 200 (gN S) 0) 101 cap cap) v (gN S + 1) 0 0 cap) 199 (gN S) (some (gN S + 1))) ht6 rfl rfl ⟨(zhas_of (Eq.trans (ztyp_new (S := sI (sNew S 22 0 (zslots 22)) 200 (gN S) 0) (t := 101) (n := cap) (s := cap) (show gN S ≠ gN S + 1 from by omega)) (ztyp_new_at (S := S) (t := 22) (n := 0) (s := zslots 22) (show 1639 ≤ gN S from by omega))) rfl), (show gN S < gN S + 2 from by omega)⟩ ?_
        refine zv_c1 ht6 rfl rfl ?_
        exact zv_rt ht6 rfl rfl rfl rfl (k38 b26)
      · show zEv ((d - 1) - 1) 390 35 [.ref (gN S), .ref b, .null, .ref v, .int (Int32.ofNat cs.length)] [.ref (gN S + 1), .ref (gN S)] (zcopy (sNew (sI (sNew S 22 0 (zslots 22)) 200 (gN S) 0) 101 cs.length cs.length) v (gN S + 1) 0 0 (min cap cs.length)) pst4
        refine zv_ci (S' := sP (zcopy (sNew (sI (sNew S 22 0 (zslots 22)) 200 (gN S) 0) 101 cs.length cs.length) v (gN S + 1) 0 0 (min cap cs.length)) 199 (gN S) (some (gN S + 1))) ht6 rfl rfl ⟨(zhas_of (Eq.trans (ztyp_new (S := sI (sNew S 22 0 (zslots 22)) 200 (gN S) 0) (t := 101) (n := cs.length) (s := cs.length) (show gN S ≠ gN S + 1 from by omega)) (ztyp_new_at (S := S) (t := 22) (n := 0) (s := zslots 22) (show 1639 ≤ gN S from by omega))) rfl), (show gN S < gN S + 2 from by omega)⟩ ?_
        refine zv_c1 ht6 rfl rfl ?_
        exact zv_rt ht6 rfl rfl rfl rfl (k39 b26)
    refine zv_cl ht3 rfl rfl rfl rfl (by omega) (Nat.le_of_ble_eq_true rfl) (C5 _ (fun b26 => ?_) (fun b26 => ?_))
    · show zEv (d - 1) 389 6 [.ref (gN S), .ref b] [] (sP (zcopy (sNew (sI (sNew S 22 0 (zslots 22)) 200 (gN S) 0) 101 cap cap) v (gN S + 1) 0 0 cap) 199 (gN S) (some (gN S + 1))) pst1
      exact zv_rt ht3 rfl rfl rfl rfl (k40 b26)
    · show zEv (d - 1) 389 6 [.ref (gN S), .ref b] [] (sP (zcopy (sNew (sI (sNew S 22 0 (zslots 22)) 200 (gN S) 0) 101 cs.length cs.length) v (gN S + 1) 0 0 (min cap cs.length)) 199 (gN S) (some (gN S + 1))) pst1
      exact zv_rt ht3 rfl rfl rfl rfl (k41 b26)
  refine zv_cl ht rfl rfl rfl rfl (by omega) (Nat.le_of_ble_eq_true rfl) (C2 _ (fun b26 => ?_) (fun b26 => ?_))
  · show zEv d 425 8 [.ref b] [.ref (gN S)] (sP (zcopy (sNew (sI (sNew S 22 0 (zslots 22)) 200 (gN S) 0) 101 cap cap) v (gN S + 1) 0 0 cap) 199 (gN S) (some (gN S + 1))) post
    exact zv_rt ht rfl rfl rfl rfl (h1 b26)
  · show zEv d 425 8 [.ref b] [.ref (gN S)] (sP (zcopy (sNew (sI (sNew S 22 0 (zslots 22)) 200 (gN S) 0) 101 cs.length cs.length) v (gN S + 1) 0 0 (min cap cs.length)) 199 (gN S) (some (gN S + 1))) post
    exact zv_rt ht rfl rfl rfl rfl (h2 b26)

theorem sb0 {d : Nat} {S : zS} (hF : zFin true S) (hd : 1 ≤ d) {b : Nat} (hN : 1639 ≤ gN S) (hN2 : gN S < 1900000) (hb1 : b < gN S) (hb : ztyp S b = 23) {post : Outcome × zS → Prop} (h1 : post (.returned none, sI (sP (sNew S 101 16 16) 203 b (some (gN S))) 204 b 0)) : zCall d 423 [.ref b] S post := by
  have ht : ztab 423 = ztb423 := rfl
  show zEv d 423 0 [.ref b] [] S post
  refine zv_c1 ht rfl rfl (zv_c1 ht rfl rfl ?_)
  have C2 : ∀ (pst1 : Outcome × zS → Prop), (pst1 (.returned none, sI (sP (sNew S 101 16 16) 203 b (some (gN S))) 204 b 0)) → zCall (d - 1) 410 [.ref b, .int 16] S pst1 := by
    intro pst1 k4
    have ht3 : ztab 410 = ztb410 := rfl
    show zEv (d - 1) 410 0 [.ref b, .int 16] [] S pst1
    refine zv_c1 ht3 rfl rfl (zv_c1 ht3 rfl rfl (zv_c1 ht3 rfl rfl ?_))
    refine zv_br ht3 rfl rfl rfl (fun h => absurd h (by decide)) (fun _ => ?_)
    refine zv_c1 ht3 rfl rfl (zv_c1 ht3 rfl rfl ?_)
    refine zv_na (ty := 101) (j := 16) (r := [.ref b]) ht3 rfl rfl rfl rfl (zi_natE (a := 16) rfl (by omega)) ⟨zi_len (a := 16) rfl (by omega), znew_okE (a := 16) rfl (by omega) (show 1639 ≤ gN S from by omega) (show gN S < 2000000 from by omega)⟩ ?_
    show zEv (d - 1) 410 14 [.ref b, .int 16] [.ref (gN S), .ref b] (sNew S 101 16 16) pst1
    refine zv_ci (S' := sP (sNew S 101 16 16) 203 b (some (gN S))) ht3 rfl rfl ⟨(zhas_of (Eq.trans (ztyp_new (S := S) (t := 101) (n := 16) (s := 16) (show b ≠ gN S from by omega)) hb) rfl), (show b < gN S + 1 from by omega)⟩ ?_
    refine zv_c1 ht3 rfl rfl (zv_c1 ht3 rfl rfl ?_)
    refine zv_ci (S' := sI (sP (sNew S 101 16 16) 203 b (some (gN S))) 204 b 0) ht3 rfl rfl ⟨⟨(zhas_of (Eq.trans (ztyp_new (S := S) (t := 101) (n := 16) (s := 16) (show b ≠ gN S from by omega)) hb) rfl), (show b < gN S + 1 from by omega)⟩, (by decide)⟩ ?_
    refine zv_c1 ht3 rfl rfl ?_
    exact zv_rt ht3 rfl rfl rfl rfl k4
  refine zv_cl ht rfl rfl rfl rfl (by omega) (Nat.le_of_ble_eq_true rfl) (C2 _ ?_)
  show zEv d 423 6 [.ref b] [] (sI (sP (sNew S 101 16 16) 203 b (some (gN S))) 204 b 0) post
  exact zv_rt ht rfl rfl rfl rfl h1

section S2b
variable {d : Nat} {post : Outcome × zS → Prop}
theorem getD_app {cs ds : List Nat} {j : Nat} (h : j < (cs ++ ds).length) : (cs ++ ds).getD j 0 = if j < cs.length then cs.getD j 0 else ds.getD (j - cs.length) 0 := by
  by_cases e : j < cs.length
  · rw [if_pos e]; simp [List.getD_eq_getElem?_getD, List.getElem?_append_left e]
  · rw [if_neg e]; simp [List.getD_eq_getElem?_getD, List.getElem?_append_right (by omega : cs.length ≤ j)]
theorem j_appC {S : zS} {N : Nat} (hF : zFin true S) (hd : 4 ≤ d) {b v cap : Nat} {cs : List Nat} (hs : zSb S b v cap cs) (hcap : cap < 40000) (hN2 : gN S < 1900000) (hNv : N ≤ v) (hl : cs.length < 15000) (c : Nat) (hc : c < 128)
    (h : ∀ S1 v1 cap1, zFin true S1 → zSb S1 b v1 cap1 (cs ++ [c]) → zKE N [] [203, 206] S S1 → (gN S ≤ gN S1 ∧ gN S1 + cap ≤ gN S + cap1 ∧ gZ S1 + 2 * cap ≤ gZ S + 2 * cap1) ∧ (v1 < gN S1 ∧ N ≤ v1 ∧ cap ≤ cap1 ∧ cap1 ≤ max cap (2 * (cs.length + 1) + 2)) → post (.returned (some (.ref b)), S1)) : zCall d 424 [.ref b, .int (Int32.ofNat c)] S post := by
  obtain ⟨n1, n2, n3, n4, n5, n6⟩ := hs.n
  have hLB : zLB = 4294967296 := rfl
  refine ac0 hF hd c hs n1 n2 n3 n4 n5 n6 hcap (by omega) hN2 hNv hc hl (fun S1 v1 cap1 hF1 hs1 k1 m1 g1 => ?_)
  obtain ⟨q1, q2, q3, q4, q5, q6⟩ := hs1.n
  rw [zi_i2b7 hc]
  obtain ⟨h1, h2, h3, h4, h5, h6, h7, h8, h9, -⟩ := hs1
  refine h _ v1 cap1 hF1 ⟨h1, h2, h3, ?_, h5, h6, ?_, ?_, ?_, q1, q2, q3, q4, q5⟩ ((k1.w (Nat.le_refl _) (by decide) (by decide)).tr ((zKE_sI (Or.inl (by decide))).tr (zKE_sA (Or.inr ⟨by omega, by omega⟩)))) ⟨g1.1, q2, by omega, by omega, by omega⟩
  · refine (gI_sI_at (S := S1) (f := 206)).trans ?_
    simp
  · simp; omega
  · intro j hj
    rw [getD_app hj]
    by_cases e : j < cs.length
    · rw [if_pos e]
      exact (gA_sA_nj (by omega)).trans (h8 j e)
    · have e2 : j = cs.length := by simp at hj; omega
      subst e2
      rw [if_neg e, Nat.sub_self]
      exact gA_sA_at
  · intro x hx
    rcases List.mem_append.mp hx with hx | hx
    · exact h9 x hx
    · rw [List.mem_singleton.mp hx]; exact hc
theorem j_appS {S : zS} {N : Nat} (hF : zFin true S) (hd : 4 ≤ d) {b v cap s : Nat} {cs ds : List Nat} (hs : zSb S b v cap cs) (hcap : cap < 40000) (hN2 : gN S < 1900000) (hNv : N ≤ v) (hl : cs.length + ds.length < 15000) (hds : zStr S s ds) (hsN : s < N ∨ zLB ≤ s) (hwN : ∀ w, gP S 199 s = some w → w < N ∨ zLB ≤ w)
    (h : ∀ S1 v1 cap1, zFin true S1 → zSb S1 b v1 cap1 (cs ++ ds) → zKE N [] [203, 206] S S1 → (gN S ≤ gN S1 ∧ gN S1 + cap ≤ gN S + cap1 ∧ gZ S1 + 2 * cap ≤ gZ S + 2 * cap1) ∧ (v1 < gN S1 ∧ N ≤ v1 ∧ cap ≤ cap1 ∧ cap1 ≤ max cap (2 * (cs.length + ds.length) + 2)) → post (.returned (some (.ref b)), S1)) : zCall d 427 [.ref b, .ref s] S post := by
  obtain ⟨n1, n2, n3, n4, n5, n6⟩ := hs.n
  have hLB : zLB = 4294967296 := rfl
  obtain ⟨w, d1, d2, d3, d4, d5, d6, d7, d8⟩ := hds
  have hwN := hwN w d2
  refine as0 hF hd hs n1 n2 n3 n4 n5 n6 hcap (by omega) hN2 hNv hl d1 d2 d3 d5 d4 hsN hwN hLB (fun S1 v1 cap1 hF1 hs1 k1 m1 g1 => ?_)
  obtain ⟨q1, q2, q3, q4, q5, q6⟩ := hs1.n
  obtain ⟨h1, h2, h3, h4, h5, h6, h7, h8, h9, -⟩ := hs1
  refine h _ v1 cap1 hF1 ⟨h1, h2, h3, ?_, h5, h6, ?_, ?_, ?_, q1, q2, q3, q4, q5⟩ ((k1.w (Nat.le_refl _) (by decide) (by decide)).tr ((zKE_cp (Or.inr ⟨by omega, by omega⟩)).tr (zKE_sI (Or.inl (by decide))))) ⟨g1.1, q2, by omega, by omega, by omega⟩
  · refine (gI_sI_at (S := zcopy S1 w v1 0 cs.length ds.length) (f := 206)).trans ?_
    simp
  · simp; omega
  · intro j hj
    rw [getD_app hj]
    by_cases e : j < cs.length
    · rw [if_pos e]
      exact (gA_zcopy_out (Or.inl e)).trans (h8 j e)
    · rw [if_neg e]
      have e2 := @gA_zcopy_in S1 w v1 0 cs.length ds.length (j - cs.length) (by simp at hj; omega)
      rw [show cs.length + (j - cs.length) = j from by omega, Nat.zero_add] at e2
      refine e2.trans ?_
      rw [k1.A hwN (by simp)]
      exact d6 _ (by simp at hj; omega)
  · intro x hx
    rcases List.mem_append.mp hx with hx | hx
    · exact h9 x hx
    · exact d7 x hx
/-- a builder's text -/
theorem j_toString {S : zS} {N : Nat} (hF : zFin true S) (hd : 5 ≤ d) {b v cap : Nat} {cs : List Nat} (hs : zSb S b v cap cs) (hcap : cap < 40000) (hN2 : gN S < 1900000) (hNv : N ≤ v)
    (h : ∀ S1, zFin true S1 → zDs S1 (gN S) cs → gP S1 199 (gN S) = some (gN S + 1) → zKE (gN S) [] [] S S1 → gN S1 = gN S + 2 → gZ S1 = gZ S + (zslots 22 + cs.length) → post (.returned (some (.ref (gN S))), S1)) : zCall d 425 [.ref b] S post := by
  obtain ⟨n1, n2, n3, n4, n5, n6⟩ := hs.n
  have hLB : zLB = 4294967296 := rfl
  have key : ∀ k, k = cs.length → zKE (gN S) [] [] S (sP (zcopy (sNew (sI (sNew S 22 0 (zslots 22)) 200 (gN S) 0) 101 k k) v (gN S + 1) 0 0 k) 199 (gN S) (some (gN S + 1))) ∧ zDs (sP (zcopy (sNew (sI (sNew S 22 0 (zslots 22)) 200 (gN S) 0) 101 k k) v (gN S + 1) 0 0 k) 199 (gN S) (some (gN S + 1))) (gN S) cs := by
    rintro k rfl
    obtain ⟨h1, h2, h3, h4, h5, h6, h7, h8, h9, -⟩ := hs
    have g1 : gN (sI (sNew S 22 0 (zslots 22)) 200 (gN S) 0) = gN S + 1 := rfl
    refine ⟨(zKE_new ⟨Nat.le_refl _, by omega⟩).tr ((zKE_sI (Or.inr (Or.inr ⟨Nat.le_refl _, by omega⟩))).tr ((zKE_new ⟨by rw [g1]; omega, by rw [g1]; omega⟩).tr ((zKE_cp (Or.inr ⟨by omega, by omega⟩)).tr (zKE_sP (Or.inr (Or.inr ⟨Nat.le_refl _, by omega⟩)))))), gN S + 1, ?_, gP_sP_at, ?_, ?_, ?_, ?_, h9, by omega, ⟨?_, ?_⟩, ⟨by omega, by omega⟩, ?_, ?_⟩
    · exact (ztyp_new (S := sI (sNew S 22 0 (zslots 22)) 200 (gN S) 0) (t := 101) (n := cs.length) (s := cs.length) (by rw [g1]; omega)).trans (ztyp_new_at (S := S) (t := 22) (n := 0) (s := zslots 22) (by omega))
    · exact (gI_new (S := sI (sNew S 22 0 (zslots 22)) 200 (gN S) 0) (t := 101) (n := cs.length) (s := cs.length) (by rw [g1]; omega)).trans gI_sI_at
    · exact ztyp_new_at (S := sI (sNew S 22 0 (zslots 22)) 200 (gN S) 0) (by rw [g1]; omega)
    · exact zlen_new_at (S := sI (sNew S 22 0 (zslots 22)) 200 (gN S) 0) (by rw [g1]; omega)
    · intro j hj
      have e2 := @gA_zcopy_in (sNew (sI (sNew S 22 0 (zslots 22)) 200 (gN S) 0) 101 cs.length cs.length) v (gN S + 1) 0 0 cs.length j hj
      rw [Nat.zero_add] at e2
      refine e2.trans ((gA_new (S := sI (sNew S 22 0 (zslots 22)) 200 (gN S) 0) (t := 101) (n := cs.length) (s := cs.length) (by rw [g1]; omega)).trans ?_)
      exact (gA_new (S := S) (t := 22) (n := 0) (s := zslots 22) (by omega)).trans (h8 j hj)
    · show gN S < gN S + 1 + 1; omega
    · show gN S + 1 < gN S + 1 + 1; omega
    · exact (gI_new (S := sI (sNew S 22 0 (zslots 22)) 200 (gN S) 0) (t := 101) (n := cs.length) (s := cs.length) (by rw [g1]; omega)).trans (gI_new_at (S := S) (t := 22) (n := 0) (s := zslots 22))
    · exact (gI_new (S := sI (sNew S 22 0 (zslots 22)) 200 (gN S) 0) (t := 101) (n := cs.length) (s := cs.length) (by rw [g1]; omega)).trans (gI_new_at (S := S) (t := 22) (n := 0) (s := zslots 22))
  refine ts0 hF hd hs n1 n2 n3 n4 n5 n6 hcap (by omega) hN2 hNv (fun e => ?_) (fun e => ?_)
  · have k1 := key cap e.symm
    exact h _ (zFin_sP (zFin_new (zFin_new hF)) rfl) k1.2 gP_sP_at k1.1 rfl (by show gZ S + zslots 22 + cap = _; omega)
  · rw [show min cap cs.length = cs.length from by omega]
    have k1 := key cs.length rfl
    exact h _ (zFin_sP (zFin_new (zFin_new hF)) rfl) k1.2 gP_sP_at k1.1 rfl (by show gZ S + zslots 22 + cs.length = _; omega)
/-- a new builder -/
theorem j_newSb {S : zS} (hF : zFin true S) (hd : 1 ≤ d) {b : Nat} (hb : ztyp S b = 23) (hb1 : b < gN S) (hb2 : 1639 ≤ b) (h0 : gI S 206 b = 0) (hN2 : gN S < 1900000)
    (h : ∀ S1, zFin true S1 → zSb S1 b (gN S) 16 [] → zKE (gN S) [] [203, 204] S S1 → gN S1 = gN S + 1 → gZ S1 = gZ S + 16 → post (.returned none, S1)) : zCall d 423 [.ref b] S post := by
  have hLB : zLB = 4294967296 := rfl
  refine sb0 hF hd (by omega) hN2 hb1 hb ?_
  refine h _ (zFin_sP (zFin_new hF) rfl) ⟨(ztyp_new (t := 101) (n := 16) (s := 16) (by omega)).trans hb, gP_sP_at, gI_sI_at, (gI_new (t := 101) (n := 16) (s := 16) (by omega)).trans h0, ztyp_new_at (by omega), zlen_new_at (by omega), by decide, fun j hj => absurd hj (by simp), fun c hc => absurd hc (by simp), ?_, ?_, hb2, by omega, by omega⟩ ((zKE_new ⟨Nat.le_refl _, by omega⟩).tr ((zKE_sP (Or.inl (by decide))).tr (zKE_sI (Or.inl (by decide))))) rfl rfl
  · show b < gN S + 1; omega
  · show gN S < gN S + 1; omega
end S2b

