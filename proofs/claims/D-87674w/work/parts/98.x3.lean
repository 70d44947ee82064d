set_option maxRecDepth 100000
/-! ===== the house reads: small things ===== -/
/-- a byte of the tape as it lies there -/
def xb (tp : Nat → Nat) (j : Nat) : Int32 := sg (Int32.ofNat (tp j))
/-- a reader that is at this place, and has read so many nodes -/
def xR (tp : Nat → Nat) (sz : Nat) (S : zS) (r at0 nd : Nat) : Prop := (gI S 133 r = Int32.ofNat at0 ∧ gI S 134 r = Int32.ofNat nd ∧ gI S 8 0 = Int32.ofNat sz ∧ ztyp S r = 7 ∧ gP S 135 r = some 0) ∧ (∀ j, j < sz → gA S 40 j = xb tp j) ∧ (∀ j, tp j < 256) ∧ (sz ≤ 300 ∧ at0 ≤ sz) ∧ (1639 ≤ r ∧ r < gN S) ∧ zLits S
/-- what reading keeps -/
def xFs : List Nat := [133, 134, 201, 202, 203, 204, 206]
def xFr (S S' : zS) : Prop := zKE (gN S) [] xFs S S'
/-- a fault that was thrown -/
def xFl (S : zS) (q k p : Nat) : Prop := ztyp S q = 8 ∧ gI S 136 q = Int32.ofNat k ∧ gI S 137 q = Int32.ofNat p ∧ q < gN S ∧ 1639 ≤ q
section X3
variable {d : Nat} {post : Outcome × zS → Prop} {tp : Nat → Nat} {sz : Nat}
theorem xR.tape {S : zS} {r at0 nd j : Nat} (h : xR tp sz S r at0 nd) (hj : j < sz) : gA S 40 j = xb tp j := h.2.1 j hj
theorem zi_and255 (n : Nat) : Int32.ofNat n &&& 255 = Int32.ofNat (n % 256) := by
  apply Int32.toBitVec_inj.mp
  rw [Int32.toBitVec_and]
  apply BitVec.eq_of_toNat_eq
  rw [BitVec.toNat_and]
  show (n % 4294967296) &&& 255 = n % 256 % 4294967296
  rw [show (255 : Nat) = 2 ^ 8 - 1 from rfl, Nat.and_two_pow_sub_one_eq_mod]
  omega
theorem xb_tpm {j : Nat} : xb tp j &&& 255 = Int32.ofNat (tp j % 256) := by
  unfold xb
  rw [sg_255, zi_and255]
theorem xb_tpm2 {j : Nat} : (255 : Int32) &&& xb tp j = Int32.ofNat (tp j % 256) := by rw [Int32.and_comm]; exact xb_tpm
theorem xb_255 (ht : ∀ j, tp j < 256) (j : Nat) : xb tp j &&& 255 = Int32.ofNat (tp j) := xb_tpm.trans (by rw [Nat.mod_eq_of_lt (ht j)])
theorem xb_7 {j : Nat} (h : tp j < 128) : xb tp j = Int32.ofNat (tp j) := by
  unfold xb sg
  exact zi_i2b7 h
theorem xFr.rf {S : zS} : xFr S S := zKE.rf
theorem xFr.tr {S S' S'' : zS} (h : xFr S S') (k : xFr S' S'') : xFr S S'' := zKE.tr h (zKE.w k h.1.1 (fun _ h => h) (fun _ h => h))
end X3
theorem he0 {d : Nat} {S : zS} (hF : zFin true S) {tp : Nat → Nat} {sz at0 nd r : Nat}  (hR : xR tp sz S r at0 nd) (hs0 : sz ≤ 300) (ha0 : at0 ≤ sz) (hr1 : 1639 ≤ r) (hr2 : r < gN S)  {post : Outcome × zS → Prop} (h1 : post (.returned (some (.int (Int32.ofNat (znt (sz ≤ at0) 0 (tp at0 % 256))))), S)) : zCall d 251 [.ref r] S post := by
  have ht : ztab 251 = ztb251 := rfl
  show zEv d 251 0 [.ref r] [] S post
  refine zv_c1 ht rfl rfl ?_
  refine zv_ei (x := Int32.ofNat at0) ht rfl rfl (zhas_of (hR.1.2.2.2.1) rfl) hR.1.1 ?_
  refine zv_c1 ht rfl rfl ?_
  refine zv_g3 (q := 0) ht rfl hF rfl rfl (zhas_of (hR.1.2.2.2.1) rfl) hR.1.2.2.2.2 ?_
  refine zv_e1 (x := Int32.ofNat sz) ht rfl rfl hR.1.2.2.1 ?_
  have J2 : zEv d 251 34 [.retAddr 0] [.int (Int32.ofNat (znt (sz ≤ at0) 0 (tp at0 % 256)))] S post := by
    exact zv_rt ht rfl rfl rfl rfl h1
  refine zv_br ht rfl rfl rfl (fun b1 => ?_) (fun b1 => ?_)
  · replace b1 : sz ≤ at0 := (zi_leE (a := sz) (b := at0) rfl rfl (by omega) (by omega)).mp b1
    refine zv_c1 ht rfl rfl ?_
    exact zEv.wk (L := [.retAddr 0]) (L' := [.ref r]) (And.intro (Or.inr rfl) trivial) (zv_sub (zz := Int32.ofNat (znt (sz ≤ at0) 0 (tp at0 % 256))) (zy := 0) (p := fun zz => zEv d 251 34 [.retAddr 0] [.int zz] S post) (congrArg Int32.ofNat (znt_pos b1)) J2)
  · replace b1 : ¬ (sz ≤ at0) := fun h => b1 ((zi_leE (a := sz) (b := at0) rfl rfl (by omega) (by omega)).mpr h)
    refine zv_c1 ht rfl rfl ?_
    refine zv_g3 (q := 0) ht rfl hF rfl rfl (zhas_of (hR.1.2.2.2.1) rfl) hR.1.2.2.2.2 ?_
    refine zv_gl (st' := [.ref 40]) ht rfl hF rfl rfl rfl ?_
    refine zv_c1 ht rfl rfl ?_
    refine zv_ei (x := Int32.ofNat at0) ht rfl rfl (zhas_of (hR.1.2.2.2.1) rfl) hR.1.1 ?_
    refine zv_baE (j := at0) (x := xb tp at0) ht rfl rfl rfl rfl (zi_natE (a := at0) rfl (by omega)) ⟨(Or.inl rfl), zi_inE (a := at0) (n := 300) rfl (by omega) (by omega)⟩ (xR.tape hR (j := at0) (by omega)) ?_
    refine zv_c1 ht rfl rfl ?_
    refine zv_e1 (x := Int32.ofNat (tp at0 % 256)) ht rfl rfl xb_tpm ?_
    refine zv_c1 ht rfl rfl ?_
    exact zEv.wk (L := [.retAddr 0]) (L' := [.ref r]) (And.intro (Or.inr rfl) trivial) (zv_sub (zz := Int32.ofNat (znt (sz ≤ at0) 0 (tp at0 % 256))) (zy := Int32.ofNat (tp at0 % 256)) (p := fun zz => zEv d 251 34 [.retAddr 0] [.int zz] S post) (congrArg Int32.ofNat (znt_neg b1)) J2)

theorem fo0 {d : Nat} {S : zS} (hF : zFin true S) (hd : 1 ≤ d) {tp : Nat → Nat} {sz at0 nd r : Nat}  (hR : xR tp sz S r at0 nd) (hs0 : sz ≤ 300) (ha0 : at0 ≤ sz) (hr1 : 1639 ≤ r) (hr2 : r < gN S) (hN2 : gN S < 1900000) {post : Outcome × zS → Prop} (h1 : post (.returned (some (.ref (gN S))), sI (sI (sT (sNew S 8 0 (zslots 8)) (gN S) 8 1) 136 (gN S) 1) 137 (gN S) (Int32.ofNat at0))) : zCall d 247 [.ref r] S post := by
  have ht : ztab 247 = ztb247 := rfl
  show zEv d 247 0 [.ref r] [] S post
  refine zv_ci (st' := [.ref (gN S)]) (S' := sNew S 8 0 (zslots 8)) ht rfl rfl (znew_ok (show 1639 ≤ gN S from by omega) (show gN S < 2000000 from by omega)) ?_
  refine zv_c1 ht rfl rfl (zv_c1 ht rfl rfl (zv_c1 ht rfl rfl ?_))
  refine zv_ei (x := Int32.ofNat at0) ht rfl rfl (zhas_of (Eq.trans (ztyp_new (S := S) (t := 8) (n := 0) (s := zslots 8) (show r ≠ gN S from by omega)) hR.1.2.2.2.1) rfl) (Eq.trans (gI_new (S := S) (t := 8) (n := 0) (s := zslots 8) (show r ≠ gN S from by omega)) hR.1.1) ?_
  have C2 : ∀ (pst1 : Outcome × zS → Prop), (pst1 (.returned none, sI (sI (sT (sNew S 8 0 (zslots 8)) (gN S) 8 1) 136 (gN S) 1) 137 (gN S) (Int32.ofNat at0))) → zCall (d - 1) 269 [.ref (gN S), .int 1, .int (Int32.ofNat at0)] (sNew S 8 0 (zslots 8)) pst1 := by
    intro pst1 k4
    have ht3 : ztab 269 = ztb269 := rfl
    show zEv (d - 1) 269 0 [.ref (gN S), .int 1, .int (Int32.ofNat at0)] [] (sNew S 8 0 (zslots 8)) pst1
    refine zv_c1 ht3 rfl rfl ?_
    refine zv_ci (S' := sT (sNew S 8 0 (zslots 8)) (gN S) 8 1) ht3 rfl rfl ⟨ztyp_new_at (S := S) (t := 8) (n := 0) (s := zslots 8) (show 1639 ≤ gN S from by omega), (show gN S < gN S + 1 from by omega), zlen_new_at (S := S) (t := 8) (n := 0) (s := zslots 8) (show 1639 ≤ gN S from by omega)⟩ ?_
    refine zv_c1 ht3 rfl rfl (zv_c1 ht3 rfl rfl ?_)
    refine zv_ci (S' := sI (sT (sNew S 8 0 (zslots 8)) (gN S) 8 1) 136 (gN S) 1) ht3 rfl rfl ⟨⟨(zhas_of (ztyp_sT1 (show 1639 ≤ gN S from by omega)) rfl), (show gN S < gN S + 1 from by omega)⟩, zlen_sT1 (show 1639 ≤ gN S from by omega)⟩ ?_
    refine zv_c1 ht3 rfl rfl (zv_c1 ht3 rfl rfl ?_)
    refine zv_ci (S' := sI (sI (sT (sNew S 8 0 (zslots 8)) (gN S) 8 1) 136 (gN S) 1) 137 (gN S) (Int32.ofNat at0)) ht3 rfl rfl ⟨⟨(zhas_of (ztyp_sT1 (show 1639 ≤ gN S from by omega)) rfl), (show gN S < gN S + 1 from by omega)⟩, zlen_sT1 (show 1639 ≤ gN S from by omega)⟩ ?_
    exact zv_rt ht3 rfl rfl rfl rfl k4
  refine zv_cl ht rfl rfl rfl rfl (by omega) (Nat.le_of_ble_eq_true rfl) (C2 _ ?_)
  show zEv d 247 12 [.ref r] [.ref (gN S)] (sI (sI (sT (sNew S 8 0 (zslots 8)) (gN S) 8 1) 136 (gN S) 1) 137 (gN S) (Int32.ofNat at0)) post
  exact zv_rt ht rfl rfl rfl rfl h1

section X3b
variable {d : Nat} {post : Outcome × zS → Prop} {tp : Nat → Nat} {sz : Nat}
theorem xR_at {S : zS} {r at0 at1 nd : Nat} (h : xR tp sz S r at0 nd) (h1 : at1 ≤ sz) : xR tp sz (sI S 133 r (Int32.ofNat at1)) r at1 nd := by
  obtain ⟨⟨g1, g2, g3, g4, g5⟩, g6, g7, g8, g9, g10⟩ := h
  exact ⟨⟨gI_sI_at, g2, g3, g4, g5⟩, g6, g7, ⟨g8.1, h1⟩, g9, fun k hk => ⟨(g10 k hk).1.sI (by decide), (g10 k hk).2⟩⟩
theorem xR_nd {S : zS} {r at0 nd nd1 : Nat} (h : xR tp sz S r at0 nd) : xR tp sz (sI S 134 r (Int32.ofNat nd1)) r at0 nd1 := by
  obtain ⟨⟨g1, g2, g3, g4, g5⟩, g6, g7, g8, g9, g10⟩ := h
  exact ⟨⟨g1, gI_sI_at, g3, g4, g5⟩, g6, g7, g8, g9, fun k hk => ⟨(g10 k hk).1.sI (by decide), (g10 k hk).2⟩⟩
theorem x_here {S : zS} (hF : zFin true S) {r at0 nd : Nat} (hR : xR tp sz S r at0 nd) (h : ∀ c, pSee tp sz at0 = c → c < 256 → post (.returned (some (.int (Int32.ofNat c))), S)) : zCall d 251 [.ref r] S post := by
  have h8 := hR.2.2.2.1
  refine he0 hF hR h8.1 h8.2 hR.2.2.2.2.1.1 hR.2.2.2.2.1.2 ?_
  have := h (pSee tp sz at0) rfl (pSee_lt hR.2.2.1)
  unfold pSee at this
  by_cases hl : at0 < sz
  · rw [if_pos hl] at this
    rw [zit_neg (by omega), xb_255 hR.2.2.1]
    exact this
  · rw [if_neg hl] at this
    rw [zit_pos (by omega)]
    exact this
theorem x_form {S : zS} (hF : zFin true S) (hd : 1 ≤ d) {r at0 nd : Nat} (hR : xR tp sz S r at0 nd) (hN2 : gN S < 1900000)
    (h : ∀ S', zFin true S' → xFr S S' → xFl S' (gN S) 1 at0 → gN S + 1 = gN S' ∧ gZ S' ≤ gZ S + 3 → post (.returned (some (.ref (gN S))), S')) : zCall d 247 [.ref r] S post := by
  have h8 := hR.2.2.2.1
  have h9 := hR.2.2.2.2.1
  refine fo0 hF (by omega) hR h8.1 h8.2 h9.1 h9.2 hN2 ?_
  refine h _ (by first | exact zFin_new hF | exact hF) ?_ ?_ ⟨rfl, Nat.le_refl _⟩
  · exact ((zKE_new ⟨Nat.le_refl _, by have : zLB = 4294967296 := rfl; omega⟩).tr (zKE_sT ⟨Nat.le_refl _, by have : zLB = 4294967296 := rfl; omega⟩)).tr ((zKE_sI (Or.inr (Or.inr ⟨Nat.le_refl _, by have : zLB = 4294967296 := rfl; omega⟩))).tr (zKE_sI (Or.inr (Or.inr ⟨Nat.le_refl _, by have : zLB = 4294967296 := rfl; omega⟩))))
  · refine ⟨ztyp_sT1 (by omega), ?_, gI_sI_at, Nat.lt_succ_self _, by omega⟩
    show gI (sI (sT (sNew S 8 0 (zslots 8)) (gN S) 8 1) 136 (gN S) 1) 136 (gN S) = _
    exact gI_sI_at
end X3b

