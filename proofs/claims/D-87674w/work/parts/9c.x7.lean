set_option maxRecDepth 100000
/-! ===== the house judges: so many of a row ===== -/
theorem hj0 {d : Nat} {S : zS} (hF : zFin true S) (hd : 2 ≤ d) (n R x m v k on ot un rl : Nat) (PZ PE PM PX : Prop) (tm p a tx : Int32) (hn0 : 1639 ≤ n) (hn : n < gN S) (htn : ztyp S n = 18) (hN2 : gN S < 1900000) (hmany : gI S 180 n = Int32.ofNat m) (hneed : gI S 179 n = Int32.ofNat v) (hv0 : 1 ≤ v) (hv : v < 2147483648) (hm : m ≤ 12) (hk : k ≤ m) (hon : on ≤ k) (hot : ot ≤ k) (hun : un ≤ k) (hrow : gP S 181 n = some R) (htr : ztyp S R = 113) (hlr : zlen S R = rl) (hrl : m ≤ rl) (hrl2 : rl ≤ 100) (hmx : gI S 156 n = zbo PX) (htm : gI S 146 n = tm) (hx : x < gN S) (hxn : x ≠ n) (hcx : zNc (ztyp S x) = true) (hq : gQ S R k = some x) (hbx : gI S 145 x = p + 1) (hzx : gI S 147 x = zbo (bt 0 a)) (hox : gI S 148 x = zbo (bt 1 a)) (hnx : gI S 149 x = zbo (bt 2 a)) (hdx : gI S 150 x = zbo (bt 3 a)) (hux : gI S 151 x = zbo (bt 4 a)) (hsx : gI S 152 x = zbo (bt 5 a)) (hfx : gI S 153 x = zbo (bt 6 a)) (hex : gI S 154 x = zbo (bt 7 a)) (hmx : gI S 155 x = zbo (bt 8 a)) (hmixedx : gI S 156 x = zbo (bt 9 a)) (htx : gI S 146 x = tx) (hk2 : k < m) (hk0 : k = 0) {post : Outcome × zS → Prop} (h1 : (((p + 1) = 1) ∧ (bt 3 a) ∧ (bt 4 a)) → (¬ (¬ (v ≤ 1))) → zEv d 348 18 [.ref n, .int (zbo (PZ ∧ (bt 0 a))), .int (zbo (PE ∧ (bt 7 a))), .int (zbo (PM ∧ (bt 8 a))), .int (Int32.ofNat (znt (bt 0 a) on (on + (zbn (bt 1 a))))), .int (Int32.ofNat (ot + (zbn (¬ (bt 0 a))))), .int (Int32.ofNat (un + (zbn (¬ (bt 5 a))))), .int (Int32.ofNat (k + 1)), .retAddr 0] [] (sI (sI S 156 n (zbo (PX ∨ (bt 9 a)))) 146 n (tm ||| tx)) post) (h2 : (((p + 1) = 1) ∧ (bt 3 a) ∧ (bt 4 a)) → (¬ (v ≤ 1)) → zEv d 348 18 [.ref n, .int (zbo (PZ ∧ (bt 0 a))), .int (zbo (PE ∧ (bt 7 a))), .int (zbo (PM ∧ (bt 8 a))), .int (Int32.ofNat (znt (bt 0 a) on (on + (zbn (bt 1 a))))), .int (Int32.ofNat (ot + (zbn (¬ (bt 0 a))))), .int (Int32.ofNat (un + (zbn (¬ (bt 5 a))))), .int (Int32.ofNat (k + 1)), .retAddr 0] [] (sI (sI (sI S 156 n (zbo (PX ∨ (((¬ ((tm &&& (1 : Int32)) = 0)) ∧ (¬ ((tx &&& (2 : Int32)) = 0))) ∨ ((¬ ((tm &&& (2 : Int32)) = 0)) ∧ (¬ ((tx &&& (1 : Int32)) = 0)))) ∨ ((¬ ((tm &&& (4 : Int32)) = 0)) ∧ (¬ ((tx &&& (8 : Int32)) = 0))) ∨ ((¬ ((tm &&& (8 : Int32)) = 0)) ∧ (¬ ((tx &&& (4 : Int32)) = 0)))))) 156 n (zbo ((PX ∨ (((¬ ((tm &&& (1 : Int32)) = 0)) ∧ (¬ ((tx &&& (2 : Int32)) = 0))) ∨ ((¬ ((tm &&& (2 : Int32)) = 0)) ∧ (¬ ((tx &&& (1 : Int32)) = 0)))) ∨ ((¬ ((tm &&& (4 : Int32)) = 0)) ∧ (¬ ((tx &&& (8 : Int32)) = 0))) ∨ ((¬ ((tm &&& (8 : Int32)) = 0)) ∧ (¬ ((tx &&& (4 : Int32)) = 0)))) ∨ (bt 9 a)))) 146 n (tm ||| tx)) post) (h3 : (¬ (((p + 1) = 1) ∧ (bt 3 a) ∧ (bt 4 a))) → post (.threw (gN S), sI (sI (sT (sNew S 8 0 (zslots 8)) (gN S) 8 1) 136 (gN S) 3) 137 (gN S) (gI S 144 n))) : zEv d 348 18 [.ref n, .int (zbo PZ), .int (zbo PE), .int (zbo PM), .int (Int32.ofNat on), .int (Int32.ofNat ot), .int (Int32.ofNat un), .int (Int32.ofNat k), .retAddr 0] [] S post := by
  have ht : ztab 348 = ztb348 := rfl
  refine zv_c1 ht rfl rfl (zv_c1 ht rfl rfl ?_)
  refine zv_ei (x := Int32.ofNat m) ht rfl rfl (zhas_of (htn) rfl) hmany ?_
  refine zv_br ht rfl rfl rfl (fun b1 => (show False from by have hq := b1; have hz : m ≤ k := (zi_leE (a := m) (b := k) rfl rfl (by omega) (by omega)).mp hq; omega).elim) (fun b1 => ?_)
  refine zv_c1 ht rfl rfl ?_
  refine zv_g3 (q := R) ht rfl hF rfl rfl (zhas_of (htn) rfl) hrow ?_
  refine zv_c1 ht rfl rfl ?_
  refine zv_aa (j := k) (q := x) ht rfl rfl rfl rfl (zi_natE (a := k) rfl (by omega)) ⟨(zv_aty htr rfl rfl), zi_inL (a := k) (m := rl) hlr rfl (by omega) (by omega)⟩ hq ?_
  refine zv_c2 (L' := [.ref n, .int (zbo PZ), .int (zbo PE), .int (zbo PM), .int (Int32.ofNat on), .int (Int32.ofNat ot), .int (Int32.ofNat un), .int (Int32.ofNat k), .ref x]) ht rfl rfl ?_
  refine zv_c1 ht rfl rfl ?_
  refine zv_br ht rfl rfl rfl (fun b2 => (show False from by have hq := b2; have hz : ¬ (k = 0) := fun h => hq ((zi_eqE (a := k) (b := 0) rfl rfl (by omega) (by omega)).mpr h); omega).elim) (fun b2 => ?_)
  refine zv_c1 ht rfl rfl ?_
  have C4 : ∀ (pst3 : Outcome × zS → Prop), (pst3 (.returned (some (.int (zbo (((p + 1) = 1) ∧ (bt 3 a) ∧ (bt 4 a))))), S)) → zCall (d - 1) 281 [.ref x] S pst3 := by
    intro pst3 k13
    have ht5 : ztab 281 = ztb281 := rfl
    show zEv (d - 1) 281 0 [.ref x] [] S pst3
    refine zv_c1 ht5 rfl rfl ?_
    refine zv_ei (x := p + 1) ht5 rfl rfl (zhas_nc hcx (by decide)) hbx ?_
    refine zv_c1 ht5 rfl rfl ?_
    have J11 : zEv (d - 1) 281 27 [.retAddr 0] [.int (zbo (((p + 1) = 1) ∧ (bt 3 a) ∧ (bt 4 a)))] S pst3 := by
      exact zv_rc ht5 rfl rfl rfl rfl zbo_rng k13
    have J9 : ((¬ ((p + 1) = 1)) ∨ (¬ (bt 3 a)) ∨ (¬ (bt 4 a))) → zEv (d - 1) 281 26 [.retAddr 0] [] S pst3 := by
      intro b10
      refine zv_c1 ht5 rfl rfl ?_
      exact (zv_sub (zz := zbo (((p + 1) = 1) ∧ (bt 3 a) ∧ (bt 4 a))) (zy := 0) (p := fun zz => zEv (d - 1) 281 27 [.retAddr 0] [.int zz] S pst3) (zbo_neg (b10.elim (fun y1 => (fun h => y1 h.1)) (fun y1 => (y1.elim (fun y2 => (fun h => (fun h => y2 h.1) h.2)) (fun y2 => (fun h => (fun h => y2 h.2) h.2)))))) J11)
    refine zv_br ht5 rfl rfl rfl (fun b6 => ?_) (fun b6 => ?_)
    · exact zEv.wk (L := [.retAddr 0]) (L' := [.ref x]) (And.intro (Or.inr rfl) trivial) (J9 (Or.inl b6))
    · replace b6 : (p + 1) = 1 := Classical.not_not.mp b6
      refine zv_c1 ht5 rfl rfl ?_
      refine zv_ei (x := zbo (bt 3 a)) ht5 rfl rfl (zhas_nc hcx (by decide)) hdx ?_
      refine zv_br ht5 rfl rfl rfl (fun b7 => ?_) (fun b7 => ?_)
      · replace b7 : ¬ (bt 3 a) := (zbo_eq0 : (zbo (bt 3 a)) = 0 ↔ ¬ (bt 3 a)).mp b7
        exact zEv.wk (L := [.retAddr 0]) (L' := [.ref x]) (And.intro (Or.inr rfl) trivial) (J9 (Or.inr (Or.inl b7)))
      · replace b7 : bt 3 a := Classical.byContradiction (fun h => b7 ((zbo_eq0 : (zbo (bt 3 a)) = 0 ↔ ¬ (bt 3 a)).mpr h))
        refine zv_c1 ht5 rfl rfl ?_
        refine zv_ei (x := zbo (bt 4 a)) ht5 rfl rfl (zhas_nc hcx (by decide)) hux ?_
        refine zv_br ht5 rfl rfl rfl (fun b8 => ?_) (fun b8 => ?_)
        · replace b8 : ¬ (bt 4 a) := (zbo_eq0 : (zbo (bt 4 a)) = 0 ↔ ¬ (bt 4 a)).mp b8
          exact zEv.wk (L := [.retAddr 0]) (L' := [.ref x]) (And.intro (Or.inr rfl) trivial) (J9 (Or.inr (Or.inr b8)))
        · replace b8 : bt 4 a := Classical.byContradiction (fun h => b8 ((zbo_eq0 : (zbo (bt 4 a)) = 0 ↔ ¬ (bt 4 a)).mpr h))
          refine zv_c1 ht5 rfl rfl (zv_c1 ht5 rfl rfl ?_)
          exact zEv.wk (L := [.retAddr 0]) (L' := [.ref x]) (And.intro (Or.inr rfl) trivial) (zv_sub (zz := zbo (((p + 1) = 1) ∧ (bt 3 a) ∧ (bt 4 a))) (zy := 1) (p := fun zz => zEv (d - 1) 281 27 [.retAddr 0] [.int zz] S pst3) (zbo_pos ⟨b6, ⟨b7, b8⟩⟩) J11)
  refine zv_cl ht rfl rfl rfl (zv_tgA hcx (by decide)) (by omega) (Nat.le_of_ble_eq_true rfl) (C4 _ ?_)
  show zEv d 348 46 [.ref n, .int (zbo PZ), .int (zbo PE), .int (zbo PM), .int (Int32.ofNat on), .int (Int32.ofNat ot), .int (Int32.ofNat un), .int (Int32.ofNat k), .ref x] [.int (zbo (((p + 1) = 1) ∧ (bt 3 a) ∧ (bt 4 a)))] S post
  refine zv_br ht rfl rfl rfl (fun b14 => ?_) (fun b14 => ?_)
  · replace b14 : ((p + 1) = 1) ∧ (bt 3 a) ∧ (bt 4 a) := Classical.byContradiction (fun h => b14 ((zbo_eq0 : (zbo (((p + 1) = 1) ∧ (bt 3 a) ∧ (bt 4 a))) = 0 ↔ ¬ (((p + 1) = 1) ∧ (bt 3 a) ∧ (bt 4 a))).mpr h))
    refine zv_c1 ht rfl rfl ?_
    have J19 : zEv d 348 82 [.ref n, .retAddr 0, .int (zbo PE), .int (zbo PM), .int (Int32.ofNat on), .int (Int32.ofNat ot), .int (Int32.ofNat un), .int (Int32.ofNat k), .ref x] [.int (zbo (PZ ∧ (bt 0 a)))] S post := by
      refine zv_c2 (L' := [.ref n, .int (zbo (PZ ∧ (bt 0 a))), .int (zbo PE), .int (zbo PM), .int (Int32.ofNat on), .int (Int32.ofNat ot), .int (Int32.ofNat un), .int (Int32.ofNat k), .ref x]) ht rfl rfl ?_
      refine zv_c1 ht rfl rfl ?_
      refine zv_ei (x := zbo (bt 0 a)) ht rfl rfl (zhas_nc hcx (by decide)) hzx ?_
      have J25 : zEv d 348 109 [.ref n, .int (zbo (PZ ∧ (bt 0 a))), .int (zbo PE), .int (zbo PM), .int (Int32.ofNat (znt (bt 0 a) on (on + (zbn (bt 1 a))))), .int (Int32.ofNat ot), .int (Int32.ofNat un), .int (Int32.ofNat k), .ref x] [] S post := by
        refine zv_c1 ht rfl rfl (zv_c1 ht rfl rfl ?_)
        refine zv_ei (x := zbo (bt 0 a)) ht rfl rfl (zhas_nc hcx (by decide)) hzx ?_
        have J28 : zEv d 348 124 [.ref n, .int (zbo (PZ ∧ (bt 0 a))), .int (zbo PE), .int (zbo PM), .int (Int32.ofNat (znt (bt 0 a) on (on + (zbn (bt 1 a))))), .retAddr 0, .int (Int32.ofNat un), .int (Int32.ofNat k), .ref x] [.int (zbo (¬ (bt 0 a))), .int (Int32.ofNat ot)] S post := by
          refine zv_e1 (x := Int32.ofNat (ot + (zbn (¬ (bt 0 a))))) ht rfl rfl (zi_addE (a := ot) (b := zbn (¬ (bt 0 a))) rfl zbo_nat) ?_
          refine zv_c2 (L' := [.ref n, .int (zbo (PZ ∧ (bt 0 a))), .int (zbo PE), .int (zbo PM), .int (Int32.ofNat (znt (bt 0 a) on (on + (zbn (bt 1 a))))), .int (Int32.ofNat (ot + (zbn (¬ (bt 0 a))))), .int (Int32.ofNat un), .int (Int32.ofNat k), .ref x]) ht rfl rfl ?_
          refine zv_c1 ht rfl rfl (zv_c1 ht rfl rfl ?_)
          refine zv_ei (x := zbo (bt 5 a)) ht rfl rfl (zhas_nc hcx (by decide)) hsx ?_
          have J31 : zEv d 348 142 [.ref n, .int (zbo (PZ ∧ (bt 0 a))), .int (zbo PE), .int (zbo PM), .int (Int32.ofNat (znt (bt 0 a) on (on + (zbn (bt 1 a))))), .int (Int32.ofNat (ot + (zbn (¬ (bt 0 a))))), .retAddr 0, .int (Int32.ofNat k), .ref x] [.int (zbo (¬ (bt 5 a))), .int (Int32.ofNat un)] S post := by
            refine zv_e1 (x := Int32.ofNat (un + (zbn (¬ (bt 5 a))))) ht rfl rfl (zi_addE (a := un) (b := zbn (¬ (bt 5 a))) rfl zbo_nat) ?_
            refine zv_c2 (L' := [.ref n, .int (zbo (PZ ∧ (bt 0 a))), .int (zbo PE), .int (zbo PM), .int (Int32.ofNat (znt (bt 0 a) on (on + (zbn (bt 1 a))))), .int (Int32.ofNat (ot + (zbn (¬ (bt 0 a))))), .int (Int32.ofNat (un + (zbn (¬ (bt 5 a))))), .int (Int32.ofNat k), .ref x]) ht rfl rfl ?_
            refine zv_c1 ht rfl rfl ?_
            have J37 : zEv d 348 162 [.ref n, .int (zbo (PZ ∧ (bt 0 a))), .retAddr 0, .int (zbo PM), .int (Int32.ofNat (znt (bt 0 a) on (on + (zbn (bt 1 a))))), .int (Int32.ofNat (ot + (zbn (¬ (bt 0 a))))), .int (Int32.ofNat (un + (zbn (¬ (bt 5 a))))), .int (Int32.ofNat k), .ref x] [.int (zbo (PE ∧ (bt 7 a)))] S post := by
              refine zv_c2 (L' := [.ref n, .int (zbo (PZ ∧ (bt 0 a))), .int (zbo (PE ∧ (bt 7 a))), .int (zbo PM), .int (Int32.ofNat (znt (bt 0 a) on (on + (zbn (bt 1 a))))), .int (Int32.ofNat (ot + (zbn (¬ (bt 0 a))))), .int (Int32.ofNat (un + (zbn (¬ (bt 5 a))))), .int (Int32.ofNat k), .ref x]) ht rfl rfl ?_
              refine zv_c1 ht rfl rfl ?_
              have J43 : zEv d 348 180 [.ref n, .int (zbo (PZ ∧ (bt 0 a))), .int (zbo (PE ∧ (bt 7 a))), .retAddr 0, .int (Int32.ofNat (znt (bt 0 a) on (on + (zbn (bt 1 a))))), .int (Int32.ofNat (ot + (zbn (¬ (bt 0 a))))), .int (Int32.ofNat (un + (zbn (¬ (bt 5 a))))), .int (Int32.ofNat k), .ref x] [.int (zbo (PM ∧ (bt 8 a)))] S post := by
                refine zv_c2 (L' := [.ref n, .int (zbo (PZ ∧ (bt 0 a))), .int (zbo (PE ∧ (bt 7 a))), .int (zbo (PM ∧ (bt 8 a))), .int (Int32.ofNat (znt (bt 0 a) on (on + (zbn (bt 1 a))))), .int (Int32.ofNat (ot + (zbn (¬ (bt 0 a))))), .int (Int32.ofNat (un + (zbn (¬ (bt 5 a))))), .int (Int32.ofNat k), .ref x]) ht rfl rfl ?_
                refine zv_c1 ht rfl rfl (zv_c1 ht rfl rfl (zv_c1 ht rfl rfl ?_))
                refine zv_ei (x := Int32.ofNat v) ht rfl rfl (zhas_of (htn) rfl) hneed ?_
                refine zv_c1 ht rfl rfl ?_
                have J46 : zEv d 348 197 [.ref n, .int (zbo (PZ ∧ (bt 0 a))), .int (zbo (PE ∧ (bt 7 a))), .int (zbo (PM ∧ (bt 8 a))), .int (Int32.ofNat (znt (bt 0 a) on (on + (zbn (bt 1 a))))), .int (Int32.ofNat (ot + (zbn (¬ (bt 0 a))))), .int (Int32.ofNat (un + (zbn (¬ (bt 5 a))))), .int (Int32.ofNat k), .retAddr 0] [.int (zbo (¬ (v ≤ 1))), .ref x, .ref n] S post := by
                  have C49 : ∀ (pst48 : Outcome × zS → Prop), ((¬ (¬ (v ≤ 1))) → pst48 (.returned none, sI (sI S 156 n (zbo (PX ∨ (bt 9 a)))) 146 n (tm ||| tx))) → ((¬ (v ≤ 1)) → pst48 (.returned none, sI (sI (sI S 156 n (zbo (PX ∨ (((¬ ((tm &&& (1 : Int32)) = 0)) ∧ (¬ ((tx &&& (2 : Int32)) = 0))) ∨ ((¬ ((tm &&& (2 : Int32)) = 0)) ∧ (¬ ((tx &&& (1 : Int32)) = 0)))) ∨ ((¬ ((tm &&& (4 : Int32)) = 0)) ∧ (¬ ((tx &&& (8 : Int32)) = 0))) ∨ ((¬ ((tm &&& (8 : Int32)) = 0)) ∧ (¬ ((tx &&& (4 : Int32)) = 0)))))) 156 n (zbo ((PX ∨ (((¬ ((tm &&& (1 : Int32)) = 0)) ∧ (¬ ((tx &&& (2 : Int32)) = 0))) ∨ ((¬ ((tm &&& (2 : Int32)) = 0)) ∧ (¬ ((tx &&& (1 : Int32)) = 0)))) ∨ ((¬ ((tm &&& (4 : Int32)) = 0)) ∧ (¬ ((tx &&& (8 : Int32)) = 0))) ∨ ((¬ ((tm &&& (8 : Int32)) = 0)) ∧ (¬ ((tx &&& (4 : Int32)) = 0)))) ∨ (bt 9 a)))) 146 n (tm ||| tx))) → zCall (d - 1) 286 [.ref n, .ref x, .int (zbo (¬ (v ≤ 1)))] S pst48 := by
                    intro pst48 k103 k104
                    have ht50 : ztab 286 = ztb286 := rfl
                    show zEv (d - 1) 286 0 [.ref n, .ref x, .int (zbo (¬ (v ≤ 1)))] [] S pst48
                    refine zv_c1 ht50 rfl rfl ?_
                    refine zv_br ht50 rfl rfl rfl (fun b51 => ?_) (fun b51 => ?_)
                    · replace b51 : ¬ (¬ (v ≤ 1)) := (zbo_eq0 : (zbo (¬ (v ≤ 1))) = 0 ↔ ¬ (¬ (v ≤ 1))).mp b51
                      refine zv_c1 ht50 rfl rfl (zv_c1 ht50 rfl rfl ?_)
                      refine zv_ei (x := zbo PX) ht50 rfl rfl (zhas_of (htn) rfl) hmx ?_
                      have J95 : zEv (d - 1) 286 73 [.ref n, .ref x, .retAddr 0] [.int (zbo (PX ∨ (bt 9 a))), .ref n] S pst48 := by
                        refine zv_ci (S' := sI S 156 n (zbo (PX ∨ (bt 9 a)))) ht50 rfl rfl ⟨⟨(zhas_of (htn) rfl), (show n < gN S from by omega)⟩, zbo_rng⟩ ?_
                        refine zv_c1 ht50 rfl rfl (zv_c1 ht50 rfl rfl ?_)
                        refine zv_ei (x := tm) ht50 rfl rfl (zhas_of (htn) rfl) htm ?_
                        refine zv_c1 ht50 rfl rfl ?_
                        refine zv_ei (x := tx) ht50 rfl rfl (zhas_nc hcx (by decide)) htx ?_
                        refine zv_c1 (st' := [.int (tm ||| tx), .ref n]) (S' := sI S 156 n (zbo (PX ∨ (bt 9 a)))) ht50 rfl rfl ?_
                        refine zv_ci (S' := sI (sI S 156 n (zbo (PX ∨ (bt 9 a)))) 146 n (tm ||| tx)) ht50 rfl rfl ⟨(zhas_of (htn) rfl), (show n < gN S from by omega)⟩ ?_
                        exact zv_rt ht50 rfl rfl rfl rfl (k103 b51)
                      have J93 : (PX ∨ (bt 9 a)) → zEv (d - 1) 286 68 [.ref n, .ref x, .retAddr 0] [.ref n] S pst48 := by
                        intro b94
                        refine zv_c1 ht50 rfl rfl (zv_c1 ht50 rfl rfl ?_)
                        exact (zv_sub (zz := zbo (PX ∨ (bt 9 a))) (zy := 1) (p := fun zz => zEv (d - 1) 286 73 [.ref n, .ref x, .retAddr 0] [.int zz, .ref n] S pst48) (zbo_pos b94) J95)
                      refine zv_br ht50 rfl rfl rfl (fun b91 => ?_) (fun b91 => ?_)
                      · replace b91 : PX := Classical.byContradiction (fun h => b91 ((zbo_eq0 : (zbo PX) = 0 ↔ ¬ PX).mpr h))
                        exact zEv.wk (L := [.ref n, .ref x, .retAddr 0]) (L' := [.ref n, .ref x, .int (zbo (¬ (v ≤ 1)))]) (And.intro (Or.inl rfl) (And.intro (Or.inl rfl) (And.intro (Or.inr rfl) trivial))) (J93 (Or.inl b91))
                      · replace b91 : ¬ PX := (zbo_eq0 : (zbo PX) = 0 ↔ ¬ PX).mp (Classical.not_not.mp b91)
                        refine zv_c1 ht50 rfl rfl ?_
                        refine zv_ei (x := zbo (bt 9 a)) ht50 rfl rfl (zhas_nc hcx (by decide)) hmixedx ?_
                        refine zv_br ht50 rfl rfl rfl (fun b92 => ?_) (fun b92 => ?_)
                        · replace b92 : ¬ (bt 9 a) := (zbo_eq0 : (zbo (bt 9 a)) = 0 ↔ ¬ (bt 9 a)).mp b92
                          refine zv_c1 ht50 rfl rfl ?_
                          exact zEv.wk (L := [.ref n, .ref x, .retAddr 0]) (L' := [.ref n, .ref x, .int (zbo (¬ (v ≤ 1)))]) (And.intro (Or.inl rfl) (And.intro (Or.inl rfl) (And.intro (Or.inr rfl) trivial))) (zv_sub (zz := zbo (PX ∨ (bt 9 a))) (zy := 0) (p := fun zz => zEv (d - 1) 286 73 [.ref n, .ref x, .retAddr 0] [.int zz, .ref n] S pst48) (zbo_neg (fun h => h.elim b91 b92)) J95)
                        · replace b92 : bt 9 a := Classical.byContradiction (fun h => b92 ((zbo_eq0 : (zbo (bt 9 a)) = 0 ↔ ¬ (bt 9 a)).mpr h))
                          exact zEv.wk (L := [.ref n, .ref x, .retAddr 0]) (L' := [.ref n, .ref x, .int (zbo (¬ (v ≤ 1)))]) (And.intro (Or.inl rfl) (And.intro (Or.inl rfl) (And.intro (Or.inr rfl) trivial))) (J93 (Or.inr b92))
                    · replace b51 : ¬ (v ≤ 1) := Classical.byContradiction (fun h => b51 ((zbo_eq0 : (zbo (¬ (v ≤ 1))) = 0 ↔ ¬ (¬ (v ≤ 1))).mpr h))
                      refine zv_c1 ht50 rfl rfl (zv_c1 ht50 rfl rfl ?_)
                      refine zv_ei (x := zbo PX) ht50 rfl rfl (zhas_of (htn) rfl) hmx ?_
                      have J89 : zEv (d - 1) 286 50 [.ref n, .ref x, .retAddr 0] [.int (zbo (PX ∨ (((¬ ((tm &&& (1 : Int32)) = 0)) ∧ (¬ ((tx &&& (2 : Int32)) = 0))) ∨ ((¬ ((tm &&& (2 : Int32)) = 0)) ∧ (¬ ((tx &&& (1 : Int32)) = 0)))) ∨ ((¬ ((tm &&& (4 : Int32)) = 0)) ∧ (¬ ((tx &&& (8 : Int32)) = 0))) ∨ ((¬ ((tm &&& (8 : Int32)) = 0)) ∧ (¬ ((tx &&& (4 : Int32)) = 0))))), .ref n] S pst48 := by
                        refine zv_ci (S' := sI S 156 n (zbo (PX ∨ (((¬ ((tm &&& (1 : Int32)) = 0)) ∧ (¬ ((tx &&& (2 : Int32)) = 0))) ∨ ((¬ ((tm &&& (2 : Int32)) = 0)) ∧ (¬ ((tx &&& (1 : Int32)) = 0)))) ∨ ((¬ ((tm &&& (4 : Int32)) = 0)) ∧ (¬ ((tx &&& (8 : Int32)) = 0))) ∨ ((¬ ((tm &&& (8 : Int32)) = 0)) ∧ (¬ ((tx &&& (4 : Int32)) = 0)))))) ht50 rfl rfl ⟨⟨(zhas_of (htn) rfl), (show n < gN S from by omega)⟩, zbo_rng⟩ ?_
                        refine zv_c1 ht50 rfl rfl (zv_c1 ht50 rfl rfl ?_)
                        refine zv_ei (x := zbo (PX ∨ (((¬ ((tm &&& (1 : Int32)) = 0)) ∧ (¬ ((tx &&& (2 : Int32)) = 0))) ∨ ((¬ ((tm &&& (2 : Int32)) = 0)) ∧ (¬ ((tx &&& (1 : Int32)) = 0)))) ∨ ((¬ ((tm &&& (4 : Int32)) = 0)) ∧ (¬ ((tx &&& (8 : Int32)) = 0))) ∨ ((¬ ((tm &&& (8 : Int32)) = 0)) ∧ (¬ ((tx &&& (4 : Int32)) = 0))))) ht50 rfl rfl (zhas_of (htn) rfl) gI_sI_at ?_
                        have J101 : zEv (d - 1) 286 73 [.ref n, .ref x, .retAddr 0] [.int (zbo ((PX ∨ (((¬ ((tm &&& (1 : Int32)) = 0)) ∧ (¬ ((tx &&& (2 : Int32)) = 0))) ∨ ((¬ ((tm &&& (2 : Int32)) = 0)) ∧ (¬ ((tx &&& (1 : Int32)) = 0)))) ∨ ((¬ ((tm &&& (4 : Int32)) = 0)) ∧ (¬ ((tx &&& (8 : Int32)) = 0))) ∨ ((¬ ((tm &&& (8 : Int32)) = 0)) ∧ (¬ ((tx &&& (4 : Int32)) = 0)))) ∨ (bt 9 a))), .ref n] (sI S 156 n (zbo (PX ∨ (((¬ ((tm &&& (1 : Int32)) = 0)) ∧ (¬ ((tx &&& (2 : Int32)) = 0))) ∨ ((¬ ((tm &&& (2 : Int32)) = 0)) ∧ (¬ ((tx &&& (1 : Int32)) = 0)))) ∨ ((¬ ((tm &&& (4 : Int32)) = 0)) ∧ (¬ ((tx &&& (8 : Int32)) = 0))) ∨ ((¬ ((tm &&& (8 : Int32)) = 0)) ∧ (¬ ((tx &&& (4 : Int32)) = 0)))))) pst48 := by
                          refine zv_ci (S' := sI (sI S 156 n (zbo (PX ∨ (((¬ ((tm &&& (1 : Int32)) = 0)) ∧ (¬ ((tx &&& (2 : Int32)) = 0))) ∨ ((¬ ((tm &&& (2 : Int32)) = 0)) ∧ (¬ ((tx &&& (1 : Int32)) = 0)))) ∨ ((¬ ((tm &&& (4 : Int32)) = 0)) ∧ (¬ ((tx &&& (8 : Int32)) = 0))) ∨ ((¬ ((tm &&& (8 : Int32)) = 0)) ∧ (¬ ((tx &&& (4 : Int32)) = 0)))))) 156 n (zbo ((PX ∨ (((¬ ((tm &&& (1 : Int32)) = 0)) ∧ (¬ ((tx &&& (2 : Int32)) = 0))) ∨ ((¬ ((tm &&& (2 : Int32)) = 0)) ∧ (¬ ((tx &&& (1 : Int32)) = 0)))) ∨ ((¬ ((tm &&& (4 : Int32)) = 0)) ∧ (¬ ((tx &&& (8 : Int32)) = 0))) ∨ ((¬ ((tm &&& (8 : Int32)) = 0)) ∧ (¬ ((tx &&& (4 : Int32)) = 0)))) ∨ (bt 9 a)))) ht50 rfl rfl ⟨⟨(zhas_of (htn) rfl), (show n < gN S from by omega)⟩, zbo_rng⟩ ?_
                          refine zv_c1 ht50 rfl rfl (zv_c1 ht50 rfl rfl ?_)
                          refine zv_ei (x := tm) ht50 rfl rfl (zhas_of (htn) rfl) htm ?_
                          refine zv_c1 ht50 rfl rfl ?_
                          refine zv_ei (x := tx) ht50 rfl rfl (zhas_nc hcx (by decide)) htx ?_
                          refine zv_c1 (st' := [.int (tm ||| tx), .ref n]) (S' := sI (sI S 156 n (zbo (PX ∨ (((¬ ((tm &&& (1 : Int32)) = 0)) ∧ (¬ ((tx &&& (2 : Int32)) = 0))) ∨ ((¬ ((tm &&& (2 : Int32)) = 0)) ∧ (¬ ((tx &&& (1 : Int32)) = 0)))) ∨ ((¬ ((tm &&& (4 : Int32)) = 0)) ∧ (¬ ((tx &&& (8 : Int32)) = 0))) ∨ ((¬ ((tm &&& (8 : Int32)) = 0)) ∧ (¬ ((tx &&& (4 : Int32)) = 0)))))) 156 n (zbo ((PX ∨ (((¬ ((tm &&& (1 : Int32)) = 0)) ∧ (¬ ((tx &&& (2 : Int32)) = 0))) ∨ ((¬ ((tm &&& (2 : Int32)) = 0)) ∧ (¬ ((tx &&& (1 : Int32)) = 0)))) ∨ ((¬ ((tm &&& (4 : Int32)) = 0)) ∧ (¬ ((tx &&& (8 : Int32)) = 0))) ∨ ((¬ ((tm &&& (8 : Int32)) = 0)) ∧ (¬ ((tx &&& (4 : Int32)) = 0)))) ∨ (bt 9 a)))) ht50 rfl rfl ?_
                          refine zv_ci (S' := sI (sI (sI S 156 n (zbo (PX ∨ (((¬ ((tm &&& (1 : Int32)) = 0)) ∧ (¬ ((tx &&& (2 : Int32)) = 0))) ∨ ((¬ ((tm &&& (2 : Int32)) = 0)) ∧ (¬ ((tx &&& (1 : Int32)) = 0)))) ∨ ((¬ ((tm &&& (4 : Int32)) = 0)) ∧ (¬ ((tx &&& (8 : Int32)) = 0))) ∨ ((¬ ((tm &&& (8 : Int32)) = 0)) ∧ (¬ ((tx &&& (4 : Int32)) = 0)))))) 156 n (zbo ((PX ∨ (((¬ ((tm &&& (1 : Int32)) = 0)) ∧ (¬ ((tx &&& (2 : Int32)) = 0))) ∨ ((¬ ((tm &&& (2 : Int32)) = 0)) ∧ (¬ ((tx &&& (1 : Int32)) = 0)))) ∨ ((¬ ((tm &&& (4 : Int32)) = 0)) ∧ (¬ ((tx &&& (8 : Int32)) = 0))) ∨ ((¬ ((tm &&& (8 : Int32)) = 0)) ∧ (¬ ((tx &&& (4 : Int32)) = 0)))) ∨ (bt 9 a)))) 146 n (tm ||| tx)) ht50 rfl rfl ⟨(zhas_of (htn) rfl), (show n < gN S from by omega)⟩ ?_
                          exact zv_rt ht50 rfl rfl rfl rfl (k104 b51)
                        have J99 : ((PX ∨ (((¬ ((tm &&& (1 : Int32)) = 0)) ∧ (¬ ((tx &&& (2 : Int32)) = 0))) ∨ ((¬ ((tm &&& (2 : Int32)) = 0)) ∧ (¬ ((tx &&& (1 : Int32)) = 0)))) ∨ ((¬ ((tm &&& (4 : Int32)) = 0)) ∧ (¬ ((tx &&& (8 : Int32)) = 0))) ∨ ((¬ ((tm &&& (8 : Int32)) = 0)) ∧ (¬ ((tx &&& (4 : Int32)) = 0)))) ∨ (bt 9 a)) → zEv (d - 1) 286 68 [.ref n, .ref x, .retAddr 0] [.ref n] (sI S 156 n (zbo (PX ∨ (((¬ ((tm &&& (1 : Int32)) = 0)) ∧ (¬ ((tx &&& (2 : Int32)) = 0))) ∨ ((¬ ((tm &&& (2 : Int32)) = 0)) ∧ (¬ ((tx &&& (1 : Int32)) = 0)))) ∨ ((¬ ((tm &&& (4 : Int32)) = 0)) ∧ (¬ ((tx &&& (8 : Int32)) = 0))) ∨ ((¬ ((tm &&& (8 : Int32)) = 0)) ∧ (¬ ((tx &&& (4 : Int32)) = 0)))))) pst48 := by
                          intro b100
                          refine zv_c1 ht50 rfl rfl (zv_c1 ht50 rfl rfl ?_)
                          exact (zv_sub (zz := zbo ((PX ∨ (((¬ ((tm &&& (1 : Int32)) = 0)) ∧ (¬ ((tx &&& (2 : Int32)) = 0))) ∨ ((¬ ((tm &&& (2 : Int32)) = 0)) ∧ (¬ ((tx &&& (1 : Int32)) = 0)))) ∨ ((¬ ((tm &&& (4 : Int32)) = 0)) ∧ (¬ ((tx &&& (8 : Int32)) = 0))) ∨ ((¬ ((tm &&& (8 : Int32)) = 0)) ∧ (¬ ((tx &&& (4 : Int32)) = 0)))) ∨ (bt 9 a))) (zy := 1) (p := fun zz => zEv (d - 1) 286 73 [.ref n, .ref x, .retAddr 0] [.int zz, .ref n] (sI S 156 n (zbo (PX ∨ (((¬ ((tm &&& (1 : Int32)) = 0)) ∧ (¬ ((tx &&& (2 : Int32)) = 0))) ∨ ((¬ ((tm &&& (2 : Int32)) = 0)) ∧ (¬ ((tx &&& (1 : Int32)) = 0)))) ∨ ((¬ ((tm &&& (4 : Int32)) = 0)) ∧ (¬ ((tx &&& (8 : Int32)) = 0))) ∨ ((¬ ((tm &&& (8 : Int32)) = 0)) ∧ (¬ ((tx &&& (4 : Int32)) = 0)))))) pst48) (zbo_pos b100) J101)
                        refine zv_br ht50 rfl rfl rfl (fun b97 => ?_) (fun b97 => ?_)
                        · replace b97 : PX ∨ (((¬ ((tm &&& (1 : Int32)) = 0)) ∧ (¬ ((tx &&& (2 : Int32)) = 0))) ∨ ((¬ ((tm &&& (2 : Int32)) = 0)) ∧ (¬ ((tx &&& (1 : Int32)) = 0)))) ∨ ((¬ ((tm &&& (4 : Int32)) = 0)) ∧ (¬ ((tx &&& (8 : Int32)) = 0))) ∨ ((¬ ((tm &&& (8 : Int32)) = 0)) ∧ (¬ ((tx &&& (4 : Int32)) = 0))) := Classical.byContradiction (fun h => b97 ((zbo_eq0 : (zbo (PX ∨ (((¬ ((tm &&& (1 : Int32)) = 0)) ∧ (¬ ((tx &&& (2 : Int32)) = 0))) ∨ ((¬ ((tm &&& (2 : Int32)) = 0)) ∧ (¬ ((tx &&& (1 : Int32)) = 0)))) ∨ ((¬ ((tm &&& (4 : Int32)) = 0)) ∧ (¬ ((tx &&& (8 : Int32)) = 0))) ∨ ((¬ ((tm &&& (8 : Int32)) = 0)) ∧ (¬ ((tx &&& (4 : Int32)) = 0))))) = 0 ↔ ¬ (PX ∨ (((¬ ((tm &&& (1 : Int32)) = 0)) ∧ (¬ ((tx &&& (2 : Int32)) = 0))) ∨ ((¬ ((tm &&& (2 : Int32)) = 0)) ∧ (¬ ((tx &&& (1 : Int32)) = 0)))) ∨ ((¬ ((tm &&& (4 : Int32)) = 0)) ∧ (¬ ((tx &&& (8 : Int32)) = 0))) ∨ ((¬ ((tm &&& (8 : Int32)) = 0)) ∧ (¬ ((tx &&& (4 : Int32)) = 0))))).mpr h))
                          exact (J99 (Or.inl b97))
                        · replace b97 : ¬ (PX ∨ (((¬ ((tm &&& (1 : Int32)) = 0)) ∧ (¬ ((tx &&& (2 : Int32)) = 0))) ∨ ((¬ ((tm &&& (2 : Int32)) = 0)) ∧ (¬ ((tx &&& (1 : Int32)) = 0)))) ∨ ((¬ ((tm &&& (4 : Int32)) = 0)) ∧ (¬ ((tx &&& (8 : Int32)) = 0))) ∨ ((¬ ((tm &&& (8 : Int32)) = 0)) ∧ (¬ ((tx &&& (4 : Int32)) = 0)))) := (zbo_eq0 : (zbo (PX ∨ (((¬ ((tm &&& (1 : Int32)) = 0)) ∧ (¬ ((tx &&& (2 : Int32)) = 0))) ∨ ((¬ ((tm &&& (2 : Int32)) = 0)) ∧ (¬ ((tx &&& (1 : Int32)) = 0)))) ∨ ((¬ ((tm &&& (4 : Int32)) = 0)) ∧ (¬ ((tx &&& (8 : Int32)) = 0))) ∨ ((¬ ((tm &&& (8 : Int32)) = 0)) ∧ (¬ ((tx &&& (4 : Int32)) = 0))))) = 0 ↔ ¬ (PX ∨ (((¬ ((tm &&& (1 : Int32)) = 0)) ∧ (¬ ((tx &&& (2 : Int32)) = 0))) ∨ ((¬ ((tm &&& (2 : Int32)) = 0)) ∧ (¬ ((tx &&& (1 : Int32)) = 0)))) ∨ ((¬ ((tm &&& (4 : Int32)) = 0)) ∧ (¬ ((tx &&& (8 : Int32)) = 0))) ∨ ((¬ ((tm &&& (8 : Int32)) = 0)) ∧ (¬ ((tx &&& (4 : Int32)) = 0))))).mp (Classical.not_not.mp b97)
                          refine zv_c1 ht50 rfl rfl ?_
                          refine zv_ei (x := zbo (bt 9 a)) ht50 rfl rfl (zhas_nc hcx (by decide)) (Eq.trans (gI_sI_ne (by omega)) hmixedx) ?_
                          refine zv_br ht50 rfl rfl rfl (fun b98 => ?_) (fun b98 => ?_)
                          · replace b98 : ¬ (bt 9 a) := (zbo_eq0 : (zbo (bt 9 a)) = 0 ↔ ¬ (bt 9 a)).mp b98
                            refine zv_c1 ht50 rfl rfl ?_
                            exact (zv_sub (zz := zbo ((PX ∨ (((¬ ((tm &&& (1 : Int32)) = 0)) ∧ (¬ ((tx &&& (2 : Int32)) = 0))) ∨ ((¬ ((tm &&& (2 : Int32)) = 0)) ∧ (¬ ((tx &&& (1 : Int32)) = 0)))) ∨ ((¬ ((tm &&& (4 : Int32)) = 0)) ∧ (¬ ((tx &&& (8 : Int32)) = 0))) ∨ ((¬ ((tm &&& (8 : Int32)) = 0)) ∧ (¬ ((tx &&& (4 : Int32)) = 0)))) ∨ (bt 9 a))) (zy := 0) (p := fun zz => zEv (d - 1) 286 73 [.ref n, .ref x, .retAddr 0] [.int zz, .ref n] (sI S 156 n (zbo (PX ∨ (((¬ ((tm &&& (1 : Int32)) = 0)) ∧ (¬ ((tx &&& (2 : Int32)) = 0))) ∨ ((¬ ((tm &&& (2 : Int32)) = 0)) ∧ (¬ ((tx &&& (1 : Int32)) = 0)))) ∨ ((¬ ((tm &&& (4 : Int32)) = 0)) ∧ (¬ ((tx &&& (8 : Int32)) = 0))) ∨ ((¬ ((tm &&& (8 : Int32)) = 0)) ∧ (¬ ((tx &&& (4 : Int32)) = 0)))))) pst48) (zbo_neg (fun h => h.elim b97 b98)) J101)
                          · replace b98 : bt 9 a := Classical.byContradiction (fun h => b98 ((zbo_eq0 : (zbo (bt 9 a)) = 0 ↔ ¬ (bt 9 a)).mpr h))
                            exact (J99 (Or.inr b98))
                      have J87 : (PX ∨ (((¬ ((tm &&& (1 : Int32)) = 0)) ∧ (¬ ((tx &&& (2 : Int32)) = 0))) ∨ ((¬ ((tm &&& (2 : Int32)) = 0)) ∧ (¬ ((tx &&& (1 : Int32)) = 0)))) ∨ ((¬ ((tm &&& (4 : Int32)) = 0)) ∧ (¬ ((tx &&& (8 : Int32)) = 0))) ∨ ((¬ ((tm &&& (8 : Int32)) = 0)) ∧ (¬ ((tx &&& (4 : Int32)) = 0)))) → zEv (d - 1) 286 45 [.ref n, .ref x, .retAddr 0] [.ref n] S pst48 := by
                        intro b88
                        refine zv_c1 ht50 rfl rfl (zv_c1 ht50 rfl rfl ?_)
                        exact (zv_sub (zz := zbo (PX ∨ (((¬ ((tm &&& (1 : Int32)) = 0)) ∧ (¬ ((tx &&& (2 : Int32)) = 0))) ∨ ((¬ ((tm &&& (2 : Int32)) = 0)) ∧ (¬ ((tx &&& (1 : Int32)) = 0)))) ∨ ((¬ ((tm &&& (4 : Int32)) = 0)) ∧ (¬ ((tx &&& (8 : Int32)) = 0))) ∨ ((¬ ((tm &&& (8 : Int32)) = 0)) ∧ (¬ ((tx &&& (4 : Int32)) = 0))))) (zy := 1) (p := fun zz => zEv (d - 1) 286 50 [.ref n, .ref x, .retAddr 0] [.int zz, .ref n] S pst48) (zbo_pos b88) J89)
                      refine zv_br ht50 rfl rfl rfl (fun b52 => ?_) (fun b52 => ?_)
                      · replace b52 : PX := Classical.byContradiction (fun h => b52 ((zbo_eq0 : (zbo PX) = 0 ↔ ¬ PX).mpr h))
                        exact zEv.wk (L := [.ref n, .ref x, .retAddr 0]) (L' := [.ref n, .ref x, .int (zbo (¬ (v ≤ 1)))]) (And.intro (Or.inl rfl) (And.intro (Or.inl rfl) (And.intro (Or.inr rfl) trivial))) (J87 (Or.inl b52))
                      · replace b52 : ¬ PX := (zbo_eq0 : (zbo PX) = 0 ↔ ¬ PX).mp (Classical.not_not.mp b52)
                        refine zv_c1 ht50 rfl rfl ?_
                        refine zv_ei (x := tm) ht50 rfl rfl (zhas_of (htn) rfl) htm ?_
                        refine zv_c1 ht50 rfl rfl ?_
                        refine zv_ei (x := tx) ht50 rfl rfl (zhas_nc hcx (by decide)) htx ?_
                        refine zv_c1 ht50 rfl rfl (zv_c1 ht50 rfl rfl ?_)
                        have C54 : ∀ (pst53 : Outcome × zS → Prop), (pst53 (.returned (some (.int (zbo (((¬ ((tm &&& (1 : Int32)) = 0)) ∧ (¬ ((tx &&& (2 : Int32)) = 0))) ∨ ((¬ ((tm &&& (2 : Int32)) = 0)) ∧ (¬ ((tx &&& (1 : Int32)) = 0))))))), S)) → zCall ((d - 1) - 1) 9 [.int tm, .int tx, .int 1, .int 2] S pst53 := by
                          intro pst53 k68
                          have ht55 : ztab 9 = ztb9 := rfl
                          show zEv ((d - 1) - 1) 9 0 [.int tm, .int tx, .int 1, .int 2] [] S pst53
                          refine zv_c1 ht55 rfl rfl (zv_c1 ht55 rfl rfl ?_)
                          refine zv_c1 (st' := [.int (tm &&& (1 : Int32))]) (S' := S) ht55 rfl rfl ?_
                          have J66 : zEv ((d - 1) - 1) 9 29 [.retAddr 0, .retAddr 0, .retAddr 0, .retAddr 0] [.int (zbo (((¬ ((tm &&& (1 : Int32)) = 0)) ∧ (¬ ((tx &&& (2 : Int32)) = 0))) ∨ ((¬ ((tm &&& (2 : Int32)) = 0)) ∧ (¬ ((tx &&& (1 : Int32)) = 0)))))] S pst53 := by
                            exact zv_rc ht55 rfl rfl rfl rfl zbo_rng k68
                          have J64 : (((¬ ((tm &&& (1 : Int32)) = 0)) ∧ (¬ ((tx &&& (2 : Int32)) = 0))) ∨ ((¬ ((tm &&& (2 : Int32)) = 0)) ∧ (¬ ((tx &&& (1 : Int32)) = 0)))) → zEv ((d - 1) - 1) 9 24 [.retAddr 0, .retAddr 0, .retAddr 0, .retAddr 0] [] S pst53 := by
                            intro b65
                            refine zv_c1 ht55 rfl rfl (zv_c1 ht55 rfl rfl ?_)
                            exact (zv_sub (zz := zbo (((¬ ((tm &&& (1 : Int32)) = 0)) ∧ (¬ ((tx &&& (2 : Int32)) = 0))) ∨ ((¬ ((tm &&& (2 : Int32)) = 0)) ∧ (¬ ((tx &&& (1 : Int32)) = 0))))) (zy := 1) (p := fun zz => zEv ((d - 1) - 1) 9 29 [.retAddr 0, .retAddr 0, .retAddr 0, .retAddr 0] [.int zz] S pst53) (zbo_pos b65) J66)
                          have J58 : (((tm &&& (1 : Int32)) = 0) ∨ ((tx &&& (2 : Int32)) = 0)) → zEv ((d - 1) - 1) 9 12 [.int tm, .int tx, .int 1, .int 2] [] S pst53 := by
                            intro b59
                            refine zv_c1 ht55 rfl rfl (zv_c1 ht55 rfl rfl ?_)
                            refine zv_c1 (st' := [.int (tm &&& (2 : Int32))]) (S' := S) ht55 rfl rfl ?_
                            have J62 : (((tm &&& (2 : Int32)) = 0) ∨ ((tx &&& (1 : Int32)) = 0)) → zEv ((d - 1) - 1) 9 28 [.retAddr 0, .retAddr 0, .retAddr 0, .retAddr 0] [] S pst53 := by
                              intro b63
                              refine zv_c1 ht55 rfl rfl ?_
                              exact (zv_sub (zz := zbo (((¬ ((tm &&& (1 : Int32)) = 0)) ∧ (¬ ((tx &&& (2 : Int32)) = 0))) ∨ ((¬ ((tm &&& (2 : Int32)) = 0)) ∧ (¬ ((tx &&& (1 : Int32)) = 0))))) (zy := 0) (p := fun zz => zEv ((d - 1) - 1) 9 29 [.retAddr 0, .retAddr 0, .retAddr 0, .retAddr 0] [.int zz] S pst53) (zbo_neg (b59.elim (fun y1 => (b63.elim (fun y2 => (fun h => h.elim (fun h => (fun h => h y1) h.1) (fun h => (fun h => h y2) h.1))) (fun y2 => (fun h => h.elim (fun h => (fun h => h y1) h.1) (fun h => (fun h => h y2) h.2))))) (fun y1 => (b63.elim (fun y2 => (fun h => h.elim (fun h => (fun h => h y1) h.2) (fun h => (fun h => h y2) h.1))) (fun y2 => (fun h => h.elim (fun h => (fun h => h y1) h.2) (fun h => (fun h => h y2) h.2))))))) J66)
                            refine zv_br ht55 rfl rfl rfl (fun b60 => ?_) (fun b60 => ?_)
                            · exact zEv.wk (L := [.retAddr 0, .retAddr 0, .retAddr 0, .retAddr 0]) (L' := [.int tm, .int tx, .int 1, .int 2]) (And.intro (Or.inr rfl) (And.intro (Or.inr rfl) (And.intro (Or.inr rfl) (And.intro (Or.inr rfl) trivial)))) (J62 (Or.inl b60))
                            · refine zv_c1 ht55 rfl rfl (zv_c1 ht55 rfl rfl ?_)
                              refine zv_c1 (st' := [.int (tx &&& (1 : Int32))]) (S' := S) ht55 rfl rfl ?_
                              refine zv_br ht55 rfl rfl rfl (fun b61 => ?_) (fun b61 => ?_)
                              · exact zEv.wk (L := [.retAddr 0, .retAddr 0, .retAddr 0, .retAddr 0]) (L' := [.int tm, .int tx, .int 1, .int 2]) (And.intro (Or.inr rfl) (And.intro (Or.inr rfl) (And.intro (Or.inr rfl) (And.intro (Or.inr rfl) trivial)))) (J62 (Or.inr b61))
                              · exact zEv.wk (L := [.retAddr 0, .retAddr 0, .retAddr 0, .retAddr 0]) (L' := [.int tm, .int tx, .int 1, .int 2]) (And.intro (Or.inr rfl) (And.intro (Or.inr rfl) (And.intro (Or.inr rfl) (And.intro (Or.inr rfl) trivial)))) (J64 (Or.inr ⟨b60, b61⟩))
                          refine zv_br ht55 rfl rfl rfl (fun b56 => ?_) (fun b56 => ?_)
                          · exact (J58 (Or.inl b56))
                          · refine zv_c1 ht55 rfl rfl (zv_c1 ht55 rfl rfl ?_)
                            refine zv_c1 (st' := [.int (tx &&& (2 : Int32))]) (S' := S) ht55 rfl rfl ?_
                            refine zv_br ht55 rfl rfl rfl (fun b57 => ?_) (fun b57 => ?_)
                            · exact zEv.wk (L := [.retAddr 0, .retAddr 0, .retAddr 0, .retAddr 0]) (L' := [.int tm, .int tx, .int 1, .int 2]) (And.intro (Or.inr rfl) (And.intro (Or.inr rfl) (And.intro (Or.inr rfl) (And.intro (Or.inr rfl) trivial)))) (J64 (Or.inl ⟨b56, b57⟩))
                            · replace b57 : (tx &&& (2 : Int32)) = 0 := Classical.not_not.mp b57
                              exact (J58 (Or.inr b57))
                        refine zv_cl ht50 rfl rfl rfl rfl (by omega) (Nat.le_of_ble_eq_true rfl) (C54 _ ?_)
                        show zEv (d - 1) 286 25 [.ref n, .ref x, .int (zbo (¬ (v ≤ 1)))] [.int (zbo (((¬ ((tm &&& (1 : Int32)) = 0)) ∧ (¬ ((tx &&& (2 : Int32)) = 0))) ∨ ((¬ ((tm &&& (2 : Int32)) = 0)) ∧ (¬ ((tx &&& (1 : Int32)) = 0))))), .ref n] S pst48
                        refine zv_br ht50 rfl rfl rfl (fun b69 => ?_) (fun b69 => ?_)
                        · replace b69 : ((¬ ((tm &&& (1 : Int32)) = 0)) ∧ (¬ ((tx &&& (2 : Int32)) = 0))) ∨ ((¬ ((tm &&& (2 : Int32)) = 0)) ∧ (¬ ((tx &&& (1 : Int32)) = 0))) := Classical.byContradiction (fun h => b69 ((zbo_eq0 : (zbo (((¬ ((tm &&& (1 : Int32)) = 0)) ∧ (¬ ((tx &&& (2 : Int32)) = 0))) ∨ ((¬ ((tm &&& (2 : Int32)) = 0)) ∧ (¬ ((tx &&& (1 : Int32)) = 0))))) = 0 ↔ ¬ (((¬ ((tm &&& (1 : Int32)) = 0)) ∧ (¬ ((tx &&& (2 : Int32)) = 0))) ∨ ((¬ ((tm &&& (2 : Int32)) = 0)) ∧ (¬ ((tx &&& (1 : Int32)) = 0))))).mpr h))
                          exact zEv.wk (L := [.ref n, .ref x, .retAddr 0]) (L' := [.ref n, .ref x, .int (zbo (¬ (v ≤ 1)))]) (And.intro (Or.inl rfl) (And.intro (Or.inl rfl) (And.intro (Or.inr rfl) trivial))) (J87 (Or.inr (Or.inl b69)))
                        · replace b69 : ¬ (((¬ ((tm &&& (1 : Int32)) = 0)) ∧ (¬ ((tx &&& (2 : Int32)) = 0))) ∨ ((¬ ((tm &&& (2 : Int32)) = 0)) ∧ (¬ ((tx &&& (1 : Int32)) = 0)))) := (zbo_eq0 : (zbo (((¬ ((tm &&& (1 : Int32)) = 0)) ∧ (¬ ((tx &&& (2 : Int32)) = 0))) ∨ ((¬ ((tm &&& (2 : Int32)) = 0)) ∧ (¬ ((tx &&& (1 : Int32)) = 0))))) = 0 ↔ ¬ (((¬ ((tm &&& (1 : Int32)) = 0)) ∧ (¬ ((tx &&& (2 : Int32)) = 0))) ∨ ((¬ ((tm &&& (2 : Int32)) = 0)) ∧ (¬ ((tx &&& (1 : Int32)) = 0))))).mp (Classical.not_not.mp b69)
                          refine zv_c1 ht50 rfl rfl ?_
                          refine zv_ei (x := tm) ht50 rfl rfl (zhas_of (htn) rfl) htm ?_
                          refine zv_c1 ht50 rfl rfl ?_
                          refine zv_ei (x := tx) ht50 rfl rfl (zhas_nc hcx (by decide)) htx ?_
                          refine zv_c1 ht50 rfl rfl (zv_c1 ht50 rfl rfl ?_)
                          have C71 : ∀ (pst70 : Outcome × zS → Prop), (pst70 (.returned (some (.int (zbo (((¬ ((tm &&& (4 : Int32)) = 0)) ∧ (¬ ((tx &&& (8 : Int32)) = 0))) ∨ ((¬ ((tm &&& (8 : Int32)) = 0)) ∧ (¬ ((tx &&& (4 : Int32)) = 0))))))), S)) → zCall ((d - 1) - 1) 9 [.int tm, .int tx, .int 4, .int 8] S pst70 := by
                            intro pst70 k85
                            have ht72 : ztab 9 = ztb9 := rfl
                            show zEv ((d - 1) - 1) 9 0 [.int tm, .int tx, .int 4, .int 8] [] S pst70
                            refine zv_c1 ht72 rfl rfl (zv_c1 ht72 rfl rfl ?_)
                            refine zv_c1 (st' := [.int (tm &&& (4 : Int32))]) (S' := S) ht72 rfl rfl ?_
                            have J83 : zEv ((d - 1) - 1) 9 29 [.retAddr 0, .retAddr 0, .retAddr 0, .retAddr 0] [.int (zbo (((¬ ((tm &&& (4 : Int32)) = 0)) ∧ (¬ ((tx &&& (8 : Int32)) = 0))) ∨ ((¬ ((tm &&& (8 : Int32)) = 0)) ∧ (¬ ((tx &&& (4 : Int32)) = 0)))))] S pst70 := by
                              exact zv_rc ht72 rfl rfl rfl rfl zbo_rng k85
                            have J81 : (((¬ ((tm &&& (4 : Int32)) = 0)) ∧ (¬ ((tx &&& (8 : Int32)) = 0))) ∨ ((¬ ((tm &&& (8 : Int32)) = 0)) ∧ (¬ ((tx &&& (4 : Int32)) = 0)))) → zEv ((d - 1) - 1) 9 24 [.retAddr 0, .retAddr 0, .retAddr 0, .retAddr 0] [] S pst70 := by
                              intro b82
                              refine zv_c1 ht72 rfl rfl (zv_c1 ht72 rfl rfl ?_)
                              exact (zv_sub (zz := zbo (((¬ ((tm &&& (4 : Int32)) = 0)) ∧ (¬ ((tx &&& (8 : Int32)) = 0))) ∨ ((¬ ((tm &&& (8 : Int32)) = 0)) ∧ (¬ ((tx &&& (4 : Int32)) = 0))))) (zy := 1) (p := fun zz => zEv ((d - 1) - 1) 9 29 [.retAddr 0, .retAddr 0, .retAddr 0, .retAddr 0] [.int zz] S pst70) (zbo_pos b82) J83)
                            have J75 : (((tm &&& (4 : Int32)) = 0) ∨ ((tx &&& (8 : Int32)) = 0)) → zEv ((d - 1) - 1) 9 12 [.int tm, .int tx, .int 4, .int 8] [] S pst70 := by
                              intro b76
                              refine zv_c1 ht72 rfl rfl (zv_c1 ht72 rfl rfl ?_)
                              refine zv_c1 (st' := [.int (tm &&& (8 : Int32))]) (S' := S) ht72 rfl rfl ?_
                              have J79 : (((tm &&& (8 : Int32)) = 0) ∨ ((tx &&& (4 : Int32)) = 0)) → zEv ((d - 1) - 1) 9 28 [.retAddr 0, .retAddr 0, .retAddr 0, .retAddr 0] [] S pst70 := by
                                intro b80
                                refine zv_c1 ht72 rfl rfl ?_
                                exact (zv_sub (zz := zbo (((¬ ((tm &&& (4 : Int32)) = 0)) ∧ (¬ ((tx &&& (8 : Int32)) = 0))) ∨ ((¬ ((tm &&& (8 : Int32)) = 0)) ∧ (¬ ((tx &&& (4 : Int32)) = 0))))) (zy := 0) (p := fun zz => zEv ((d - 1) - 1) 9 29 [.retAddr 0, .retAddr 0, .retAddr 0, .retAddr 0] [.int zz] S pst70) (zbo_neg (b76.elim (fun y1 => (b80.elim (fun y2 => (fun h => h.elim (fun h => (fun h => h y1) h.1) (fun h => (fun h => h y2) h.1))) (fun y2 => (fun h => h.elim (fun h => (fun h => h y1) h.1) (fun h => (fun h => h y2) h.2))))) (fun y1 => (b80.elim (fun y2 => (fun h => h.elim (fun h => (fun h => h y1) h.2) (fun h => (fun h => h y2) h.1))) (fun y2 => (fun h => h.elim (fun h => (fun h => h y1) h.2) (fun h => (fun h => h y2) h.2))))))) J83)
                              refine zv_br ht72 rfl rfl rfl (fun b77 => ?_) (fun b77 => ?_)
                              · exact zEv.wk (L := [.retAddr 0, .retAddr 0, .retAddr 0, .retAddr 0]) (L' := [.int tm, .int tx, .int 4, .int 8]) (And.intro (Or.inr rfl) (And.intro (Or.inr rfl) (And.intro (Or.inr rfl) (And.intro (Or.inr rfl) trivial)))) (J79 (Or.inl b77))
                              · refine zv_c1 ht72 rfl rfl (zv_c1 ht72 rfl rfl ?_)
                                refine zv_c1 (st' := [.int (tx &&& (4 : Int32))]) (S' := S) ht72 rfl rfl ?_
                                refine zv_br ht72 rfl rfl rfl (fun b78 => ?_) (fun b78 => ?_)
                                · exact zEv.wk (L := [.retAddr 0, .retAddr 0, .retAddr 0, .retAddr 0]) (L' := [.int tm, .int tx, .int 4, .int 8]) (And.intro (Or.inr rfl) (And.intro (Or.inr rfl) (And.intro (Or.inr rfl) (And.intro (Or.inr rfl) trivial)))) (J79 (Or.inr b78))
                                · exact zEv.wk (L := [.retAddr 0, .retAddr 0, .retAddr 0, .retAddr 0]) (L' := [.int tm, .int tx, .int 4, .int 8]) (And.intro (Or.inr rfl) (And.intro (Or.inr rfl) (And.intro (Or.inr rfl) (And.intro (Or.inr rfl) trivial)))) (J81 (Or.inr ⟨b77, b78⟩))
                            refine zv_br ht72 rfl rfl rfl (fun b73 => ?_) (fun b73 => ?_)
                            · exact (J75 (Or.inl b73))
                            · refine zv_c1 ht72 rfl rfl (zv_c1 ht72 rfl rfl ?_)
                              refine zv_c1 (st' := [.int (tx &&& (8 : Int32))]) (S' := S) ht72 rfl rfl ?_
                              refine zv_br ht72 rfl rfl rfl (fun b74 => ?_) (fun b74 => ?_)
                              · exact zEv.wk (L := [.retAddr 0, .retAddr 0, .retAddr 0, .retAddr 0]) (L' := [.int tm, .int tx, .int 4, .int 8]) (And.intro (Or.inr rfl) (And.intro (Or.inr rfl) (And.intro (Or.inr rfl) (And.intro (Or.inr rfl) trivial)))) (J81 (Or.inl ⟨b73, b74⟩))
                              · replace b74 : (tx &&& (8 : Int32)) = 0 := Classical.not_not.mp b74
                                exact (J75 (Or.inr b74))
                          refine zv_cl ht50 rfl rfl rfl rfl (by omega) (Nat.le_of_ble_eq_true rfl) (C71 _ ?_)
                          show zEv (d - 1) 286 42 [.ref n, .ref x, .int (zbo (¬ (v ≤ 1)))] [.int (zbo (((¬ ((tm &&& (4 : Int32)) = 0)) ∧ (¬ ((tx &&& (8 : Int32)) = 0))) ∨ ((¬ ((tm &&& (8 : Int32)) = 0)) ∧ (¬ ((tx &&& (4 : Int32)) = 0))))), .ref n] S pst48
                          refine zv_br ht50 rfl rfl rfl (fun b86 => ?_) (fun b86 => ?_)
                          · replace b86 : ¬ (((¬ ((tm &&& (4 : Int32)) = 0)) ∧ (¬ ((tx &&& (8 : Int32)) = 0))) ∨ ((¬ ((tm &&& (8 : Int32)) = 0)) ∧ (¬ ((tx &&& (4 : Int32)) = 0)))) := (zbo_eq0 : (zbo (((¬ ((tm &&& (4 : Int32)) = 0)) ∧ (¬ ((tx &&& (8 : Int32)) = 0))) ∨ ((¬ ((tm &&& (8 : Int32)) = 0)) ∧ (¬ ((tx &&& (4 : Int32)) = 0))))) = 0 ↔ ¬ (((¬ ((tm &&& (4 : Int32)) = 0)) ∧ (¬ ((tx &&& (8 : Int32)) = 0))) ∨ ((¬ ((tm &&& (8 : Int32)) = 0)) ∧ (¬ ((tx &&& (4 : Int32)) = 0))))).mp b86
                            refine zv_c1 ht50 rfl rfl ?_
                            exact zEv.wk (L := [.ref n, .ref x, .retAddr 0]) (L' := [.ref n, .ref x, .int (zbo (¬ (v ≤ 1)))]) (And.intro (Or.inl rfl) (And.intro (Or.inl rfl) (And.intro (Or.inr rfl) trivial))) (zv_sub (zz := zbo (PX ∨ (((¬ ((tm &&& (1 : Int32)) = 0)) ∧ (¬ ((tx &&& (2 : Int32)) = 0))) ∨ ((¬ ((tm &&& (2 : Int32)) = 0)) ∧ (¬ ((tx &&& (1 : Int32)) = 0)))) ∨ ((¬ ((tm &&& (4 : Int32)) = 0)) ∧ (¬ ((tx &&& (8 : Int32)) = 0))) ∨ ((¬ ((tm &&& (8 : Int32)) = 0)) ∧ (¬ ((tx &&& (4 : Int32)) = 0))))) (zy := 0) (p := fun zz => zEv (d - 1) 286 50 [.ref n, .ref x, .retAddr 0] [.int zz, .ref n] S pst48) (zbo_neg (fun h => h.elim b52 (fun h => h.elim b69 b86))) J89)
                          · replace b86 : ((¬ ((tm &&& (4 : Int32)) = 0)) ∧ (¬ ((tx &&& (8 : Int32)) = 0))) ∨ ((¬ ((tm &&& (8 : Int32)) = 0)) ∧ (¬ ((tx &&& (4 : Int32)) = 0))) := Classical.byContradiction (fun h => b86 ((zbo_eq0 : (zbo (((¬ ((tm &&& (4 : Int32)) = 0)) ∧ (¬ ((tx &&& (8 : Int32)) = 0))) ∨ ((¬ ((tm &&& (8 : Int32)) = 0)) ∧ (¬ ((tx &&& (4 : Int32)) = 0))))) = 0 ↔ ¬ (((¬ ((tm &&& (4 : Int32)) = 0)) ∧ (¬ ((tx &&& (8 : Int32)) = 0))) ∨ ((¬ ((tm &&& (8 : Int32)) = 0)) ∧ (¬ ((tx &&& (4 : Int32)) = 0))))).mpr h))
                            exact zEv.wk (L := [.ref n, .ref x, .retAddr 0]) (L' := [.ref n, .ref x, .int (zbo (¬ (v ≤ 1)))]) (And.intro (Or.inl rfl) (And.intro (Or.inl rfl) (And.intro (Or.inr rfl) trivial))) (J87 (Or.inr (Or.inr b86)))
                  refine zv_cl ht rfl rfl rfl (zv_tgv (htn) rfl) (by omega) (Nat.le_of_ble_eq_true rfl) (C49 _ (fun b51 => ?_) (fun b51 => ?_))
                  · show zEv d 348 200 [.ref n, .int (zbo (PZ ∧ (bt 0 a))), .int (zbo (PE ∧ (bt 7 a))), .int (zbo (PM ∧ (bt 8 a))), .int (Int32.ofNat (znt (bt 0 a) on (on + (zbn (bt 1 a))))), .int (Int32.ofNat (ot + (zbn (¬ (bt 0 a))))), .int (Int32.ofNat (un + (zbn (¬ (bt 5 a))))), .int (Int32.ofNat k), .retAddr 0] [] (sI (sI S 156 n (zbo (PX ∨ (bt 9 a)))) 146 n (tm ||| tx)) post
                    refine zv_iinc (L' := [.ref n, .int (zbo (PZ ∧ (bt 0 a))), .int (zbo (PE ∧ (bt 7 a))), .int (zbo (PM ∧ (bt 8 a))), .int (Int32.ofNat (znt (bt 0 a) on (on + (zbn (bt 1 a))))), .int (Int32.ofNat (ot + (zbn (¬ (bt 0 a))))), .int (Int32.ofNat (un + (zbn (¬ (bt 5 a))))), .int (Int32.ofNat (k + 1)), .retAddr 0]) (i := 7) (x := Int32.ofNat (k + 1)) ht rfl rfl (zi_addE (a := k) (b := 1) rfl rfl) rfl ?_
                    refine zv_c1 ht rfl rfl ?_
                    exact (h1 b14 b51)
                  · show zEv d 348 200 [.ref n, .int (zbo (PZ ∧ (bt 0 a))), .int (zbo (PE ∧ (bt 7 a))), .int (zbo (PM ∧ (bt 8 a))), .int (Int32.ofNat (znt (bt 0 a) on (on + (zbn (bt 1 a))))), .int (Int32.ofNat (ot + (zbn (¬ (bt 0 a))))), .int (Int32.ofNat (un + (zbn (¬ (bt 5 a))))), .int (Int32.ofNat k), .retAddr 0] [] (sI (sI (sI S 156 n (zbo (PX ∨ (((¬ ((tm &&& (1 : Int32)) = 0)) ∧ (¬ ((tx &&& (2 : Int32)) = 0))) ∨ ((¬ ((tm &&& (2 : Int32)) = 0)) ∧ (¬ ((tx &&& (1 : Int32)) = 0)))) ∨ ((¬ ((tm &&& (4 : Int32)) = 0)) ∧ (¬ ((tx &&& (8 : Int32)) = 0))) ∨ ((¬ ((tm &&& (8 : Int32)) = 0)) ∧ (¬ ((tx &&& (4 : Int32)) = 0)))))) 156 n (zbo ((PX ∨ (((¬ ((tm &&& (1 : Int32)) = 0)) ∧ (¬ ((tx &&& (2 : Int32)) = 0))) ∨ ((¬ ((tm &&& (2 : Int32)) = 0)) ∧ (¬ ((tx &&& (1 : Int32)) = 0)))) ∨ ((¬ ((tm &&& (4 : Int32)) = 0)) ∧ (¬ ((tx &&& (8 : Int32)) = 0))) ∨ ((¬ ((tm &&& (8 : Int32)) = 0)) ∧ (¬ ((tx &&& (4 : Int32)) = 0)))) ∨ (bt 9 a)))) 146 n (tm ||| tx)) post
                    refine zv_iinc (L' := [.ref n, .int (zbo (PZ ∧ (bt 0 a))), .int (zbo (PE ∧ (bt 7 a))), .int (zbo (PM ∧ (bt 8 a))), .int (Int32.ofNat (znt (bt 0 a) on (on + (zbn (bt 1 a))))), .int (Int32.ofNat (ot + (zbn (¬ (bt 0 a))))), .int (Int32.ofNat (un + (zbn (¬ (bt 5 a))))), .int (Int32.ofNat (k + 1)), .retAddr 0]) (i := 7) (x := Int32.ofNat (k + 1)) ht rfl rfl (zi_addE (a := k) (b := 1) rfl rfl) rfl ?_
                    refine zv_c1 ht rfl rfl ?_
                    exact (h2 b14 b51)
                refine zv_br ht rfl rfl rfl (fun b45 => ?_) (fun b45 => ?_)
                · replace b45 : v ≤ 1 := (zi_leE (a := v) (b := 1) rfl rfl (by omega) (by omega)).mp b45
                  refine zv_c1 ht rfl rfl ?_
                  exact zEv.wk (L := [.ref n, .int (zbo (PZ ∧ (bt 0 a))), .int (zbo (PE ∧ (bt 7 a))), .int (zbo (PM ∧ (bt 8 a))), .int (Int32.ofNat (znt (bt 0 a) on (on + (zbn (bt 1 a))))), .int (Int32.ofNat (ot + (zbn (¬ (bt 0 a))))), .int (Int32.ofNat (un + (zbn (¬ (bt 5 a))))), .int (Int32.ofNat k), .retAddr 0]) (L' := [.ref n, .int (zbo (PZ ∧ (bt 0 a))), .int (zbo (PE ∧ (bt 7 a))), .int (zbo (PM ∧ (bt 8 a))), .int (Int32.ofNat (znt (bt 0 a) on (on + (zbn (bt 1 a))))), .int (Int32.ofNat (ot + (zbn (¬ (bt 0 a))))), .int (Int32.ofNat (un + (zbn (¬ (bt 5 a))))), .int (Int32.ofNat k), .ref x]) (And.intro (Or.inl rfl) (And.intro (Or.inl rfl) (And.intro (Or.inl rfl) (And.intro (Or.inl rfl) (And.intro (Or.inl rfl) (And.intro (Or.inl rfl) (And.intro (Or.inl rfl) (And.intro (Or.inl rfl) (And.intro (Or.inr rfl) trivial))))))))) (zv_sub (zz := zbo (¬ (v ≤ 1))) (zy := 0) (p := fun zz => zEv d 348 197 [.ref n, .int (zbo (PZ ∧ (bt 0 a))), .int (zbo (PE ∧ (bt 7 a))), .int (zbo (PM ∧ (bt 8 a))), .int (Int32.ofNat (znt (bt 0 a) on (on + (zbn (bt 1 a))))), .int (Int32.ofNat (ot + (zbn (¬ (bt 0 a))))), .int (Int32.ofNat (un + (zbn (¬ (bt 5 a))))), .int (Int32.ofNat k), .retAddr 0] [.int zz, .ref x, .ref n] S post) (zbo_neg (fun h => h b45)) J46)
                · replace b45 : ¬ (v ≤ 1) := fun h => b45 ((zi_leE (a := v) (b := 1) rfl rfl (by omega) (by omega)).mpr h)
                  refine zv_c1 ht rfl rfl (zv_c1 ht rfl rfl ?_)
                  exact zEv.wk (L := [.ref n, .int (zbo (PZ ∧ (bt 0 a))), .int (zbo (PE ∧ (bt 7 a))), .int (zbo (PM ∧ (bt 8 a))), .int (Int32.ofNat (znt (bt 0 a) on (on + (zbn (bt 1 a))))), .int (Int32.ofNat (ot + (zbn (¬ (bt 0 a))))), .int (Int32.ofNat (un + (zbn (¬ (bt 5 a))))), .int (Int32.ofNat k), .retAddr 0]) (L' := [.ref n, .int (zbo (PZ ∧ (bt 0 a))), .int (zbo (PE ∧ (bt 7 a))), .int (zbo (PM ∧ (bt 8 a))), .int (Int32.ofNat (znt (bt 0 a) on (on + (zbn (bt 1 a))))), .int (Int32.ofNat (ot + (zbn (¬ (bt 0 a))))), .int (Int32.ofNat (un + (zbn (¬ (bt 5 a))))), .int (Int32.ofNat k), .ref x]) (And.intro (Or.inl rfl) (And.intro (Or.inl rfl) (And.intro (Or.inl rfl) (And.intro (Or.inl rfl) (And.intro (Or.inl rfl) (And.intro (Or.inl rfl) (And.intro (Or.inl rfl) (And.intro (Or.inl rfl) (And.intro (Or.inr rfl) trivial))))))))) (zv_sub (zz := zbo (¬ (v ≤ 1))) (zy := 1) (p := fun zz => zEv d 348 197 [.ref n, .int (zbo (PZ ∧ (bt 0 a))), .int (zbo (PE ∧ (bt 7 a))), .int (zbo (PM ∧ (bt 8 a))), .int (Int32.ofNat (znt (bt 0 a) on (on + (zbn (bt 1 a))))), .int (Int32.ofNat (ot + (zbn (¬ (bt 0 a))))), .int (Int32.ofNat (un + (zbn (¬ (bt 5 a))))), .int (Int32.ofNat k), .retAddr 0] [.int zz, .ref x, .ref n] S post) (zbo_pos b45) J46)
              have J41 : ((¬ PM) ∨ (¬ (bt 8 a))) → zEv d 348 179 [.ref n, .int (zbo (PZ ∧ (bt 0 a))), .int (zbo (PE ∧ (bt 7 a))), .retAddr 0, .int (Int32.ofNat (znt (bt 0 a) on (on + (zbn (bt 1 a))))), .int (Int32.ofNat (ot + (zbn (¬ (bt 0 a))))), .int (Int32.ofNat (un + (zbn (¬ (bt 5 a))))), .int (Int32.ofNat k), .ref x] [] S post := by
                intro b42
                refine zv_c1 ht rfl rfl ?_
                exact (zv_sub (zz := zbo (PM ∧ (bt 8 a))) (zy := 0) (p := fun zz => zEv d 348 180 [.ref n, .int (zbo (PZ ∧ (bt 0 a))), .int (zbo (PE ∧ (bt 7 a))), .retAddr 0, .int (Int32.ofNat (znt (bt 0 a) on (on + (zbn (bt 1 a))))), .int (Int32.ofNat (ot + (zbn (¬ (bt 0 a))))), .int (Int32.ofNat (un + (zbn (¬ (bt 5 a))))), .int (Int32.ofNat k), .ref x] [.int zz] S post) (zbo_neg (b42.elim (fun y1 => (fun h => y1 h.1)) (fun y1 => (fun h => y1 h.2)))) J43)
              refine zv_br ht rfl rfl rfl (fun b39 => ?_) (fun b39 => ?_)
              · replace b39 : ¬ PM := (zbo_eq0 : (zbo PM) = 0 ↔ ¬ PM).mp b39
                exact zEv.wk (L := [.ref n, .int (zbo (PZ ∧ (bt 0 a))), .int (zbo (PE ∧ (bt 7 a))), .retAddr 0, .int (Int32.ofNat (znt (bt 0 a) on (on + (zbn (bt 1 a))))), .int (Int32.ofNat (ot + (zbn (¬ (bt 0 a))))), .int (Int32.ofNat (un + (zbn (¬ (bt 5 a))))), .int (Int32.ofNat k), .ref x]) (L' := [.ref n, .int (zbo (PZ ∧ (bt 0 a))), .int (zbo (PE ∧ (bt 7 a))), .int (zbo PM), .int (Int32.ofNat (znt (bt 0 a) on (on + (zbn (bt 1 a))))), .int (Int32.ofNat (ot + (zbn (¬ (bt 0 a))))), .int (Int32.ofNat (un + (zbn (¬ (bt 5 a))))), .int (Int32.ofNat k), .ref x]) (And.intro (Or.inl rfl) (And.intro (Or.inl rfl) (And.intro (Or.inl rfl) (And.intro (Or.inr rfl) (And.intro (Or.inl rfl) (And.intro (Or.inl rfl) (And.intro (Or.inl rfl) (And.intro (Or.inl rfl) (And.intro (Or.inl rfl) trivial))))))))) (J41 (Or.inl b39))
              · replace b39 : PM := Classical.byContradiction (fun h => b39 ((zbo_eq0 : (zbo PM) = 0 ↔ ¬ PM).mpr h))
                refine zv_c1 ht rfl rfl ?_
                refine zv_ei (x := zbo (bt 8 a)) ht rfl rfl (zhas_nc hcx (by decide)) hmx ?_
                refine zv_br ht rfl rfl rfl (fun b40 => ?_) (fun b40 => ?_)
                · replace b40 : ¬ (bt 8 a) := (zbo_eq0 : (zbo (bt 8 a)) = 0 ↔ ¬ (bt 8 a)).mp b40
                  exact zEv.wk (L := [.ref n, .int (zbo (PZ ∧ (bt 0 a))), .int (zbo (PE ∧ (bt 7 a))), .retAddr 0, .int (Int32.ofNat (znt (bt 0 a) on (on + (zbn (bt 1 a))))), .int (Int32.ofNat (ot + (zbn (¬ (bt 0 a))))), .int (Int32.ofNat (un + (zbn (¬ (bt 5 a))))), .int (Int32.ofNat k), .ref x]) (L' := [.ref n, .int (zbo (PZ ∧ (bt 0 a))), .int (zbo (PE ∧ (bt 7 a))), .int (zbo PM), .int (Int32.ofNat (znt (bt 0 a) on (on + (zbn (bt 1 a))))), .int (Int32.ofNat (ot + (zbn (¬ (bt 0 a))))), .int (Int32.ofNat (un + (zbn (¬ (bt 5 a))))), .int (Int32.ofNat k), .ref x]) (And.intro (Or.inl rfl) (And.intro (Or.inl rfl) (And.intro (Or.inl rfl) (And.intro (Or.inr rfl) (And.intro (Or.inl rfl) (And.intro (Or.inl rfl) (And.intro (Or.inl rfl) (And.intro (Or.inl rfl) (And.intro (Or.inl rfl) trivial))))))))) (J41 (Or.inr b40))
                · replace b40 : bt 8 a := Classical.byContradiction (fun h => b40 ((zbo_eq0 : (zbo (bt 8 a)) = 0 ↔ ¬ (bt 8 a)).mpr h))
                  refine zv_c1 ht rfl rfl (zv_c1 ht rfl rfl ?_)
                  exact zEv.wk (L := [.ref n, .int (zbo (PZ ∧ (bt 0 a))), .int (zbo (PE ∧ (bt 7 a))), .retAddr 0, .int (Int32.ofNat (znt (bt 0 a) on (on + (zbn (bt 1 a))))), .int (Int32.ofNat (ot + (zbn (¬ (bt 0 a))))), .int (Int32.ofNat (un + (zbn (¬ (bt 5 a))))), .int (Int32.ofNat k), .ref x]) (L' := [.ref n, .int (zbo (PZ ∧ (bt 0 a))), .int (zbo (PE ∧ (bt 7 a))), .int (zbo PM), .int (Int32.ofNat (znt (bt 0 a) on (on + (zbn (bt 1 a))))), .int (Int32.ofNat (ot + (zbn (¬ (bt 0 a))))), .int (Int32.ofNat (un + (zbn (¬ (bt 5 a))))), .int (Int32.ofNat k), .ref x]) (And.intro (Or.inl rfl) (And.intro (Or.inl rfl) (And.intro (Or.inl rfl) (And.intro (Or.inr rfl) (And.intro (Or.inl rfl) (And.intro (Or.inl rfl) (And.intro (Or.inl rfl) (And.intro (Or.inl rfl) (And.intro (Or.inl rfl) trivial))))))))) (zv_sub (zz := zbo (PM ∧ (bt 8 a))) (zy := 1) (p := fun zz => zEv d 348 180 [.ref n, .int (zbo (PZ ∧ (bt 0 a))), .int (zbo (PE ∧ (bt 7 a))), .retAddr 0, .int (Int32.ofNat (znt (bt 0 a) on (on + (zbn (bt 1 a))))), .int (Int32.ofNat (ot + (zbn (¬ (bt 0 a))))), .int (Int32.ofNat (un + (zbn (¬ (bt 5 a))))), .int (Int32.ofNat k), .ref x] [.int zz] S post) (zbo_pos ⟨b39, b40⟩) J43)
            have J35 : ((¬ PE) ∨ (¬ (bt 7 a))) → zEv d 348 161 [.ref n, .int (zbo (PZ ∧ (bt 0 a))), .retAddr 0, .int (zbo PM), .int (Int32.ofNat (znt (bt 0 a) on (on + (zbn (bt 1 a))))), .int (Int32.ofNat (ot + (zbn (¬ (bt 0 a))))), .int (Int32.ofNat (un + (zbn (¬ (bt 5 a))))), .int (Int32.ofNat k), .ref x] [] S post := by
              intro b36
              refine zv_c1 ht rfl rfl ?_
              exact (zv_sub (zz := zbo (PE ∧ (bt 7 a))) (zy := 0) (p := fun zz => zEv d 348 162 [.ref n, .int (zbo (PZ ∧ (bt 0 a))), .retAddr 0, .int (zbo PM), .int (Int32.ofNat (znt (bt 0 a) on (on + (zbn (bt 1 a))))), .int (Int32.ofNat (ot + (zbn (¬ (bt 0 a))))), .int (Int32.ofNat (un + (zbn (¬ (bt 5 a))))), .int (Int32.ofNat k), .ref x] [.int zz] S post) (zbo_neg (b36.elim (fun y1 => (fun h => y1 h.1)) (fun y1 => (fun h => y1 h.2)))) J37)
            refine zv_br ht rfl rfl rfl (fun b33 => ?_) (fun b33 => ?_)
            · replace b33 : ¬ PE := (zbo_eq0 : (zbo PE) = 0 ↔ ¬ PE).mp b33
              exact zEv.wk (L := [.ref n, .int (zbo (PZ ∧ (bt 0 a))), .retAddr 0, .int (zbo PM), .int (Int32.ofNat (znt (bt 0 a) on (on + (zbn (bt 1 a))))), .int (Int32.ofNat (ot + (zbn (¬ (bt 0 a))))), .int (Int32.ofNat (un + (zbn (¬ (bt 5 a))))), .int (Int32.ofNat k), .ref x]) (L' := [.ref n, .int (zbo (PZ ∧ (bt 0 a))), .int (zbo PE), .int (zbo PM), .int (Int32.ofNat (znt (bt 0 a) on (on + (zbn (bt 1 a))))), .int (Int32.ofNat (ot + (zbn (¬ (bt 0 a))))), .int (Int32.ofNat (un + (zbn (¬ (bt 5 a))))), .int (Int32.ofNat k), .ref x]) (And.intro (Or.inl rfl) (And.intro (Or.inl rfl) (And.intro (Or.inr rfl) (And.intro (Or.inl rfl) (And.intro (Or.inl rfl) (And.intro (Or.inl rfl) (And.intro (Or.inl rfl) (And.intro (Or.inl rfl) (And.intro (Or.inl rfl) trivial))))))))) (J35 (Or.inl b33))
            · replace b33 : PE := Classical.byContradiction (fun h => b33 ((zbo_eq0 : (zbo PE) = 0 ↔ ¬ PE).mpr h))
              refine zv_c1 ht rfl rfl ?_
              refine zv_ei (x := zbo (bt 7 a)) ht rfl rfl (zhas_nc hcx (by decide)) hex ?_
              refine zv_br ht rfl rfl rfl (fun b34 => ?_) (fun b34 => ?_)
              · replace b34 : ¬ (bt 7 a) := (zbo_eq0 : (zbo (bt 7 a)) = 0 ↔ ¬ (bt 7 a)).mp b34
                exact zEv.wk (L := [.ref n, .int (zbo (PZ ∧ (bt 0 a))), .retAddr 0, .int (zbo PM), .int (Int32.ofNat (znt (bt 0 a) on (on + (zbn (bt 1 a))))), .int (Int32.ofNat (ot + (zbn (¬ (bt 0 a))))), .int (Int32.ofNat (un + (zbn (¬ (bt 5 a))))), .int (Int32.ofNat k), .ref x]) (L' := [.ref n, .int (zbo (PZ ∧ (bt 0 a))), .int (zbo PE), .int (zbo PM), .int (Int32.ofNat (znt (bt 0 a) on (on + (zbn (bt 1 a))))), .int (Int32.ofNat (ot + (zbn (¬ (bt 0 a))))), .int (Int32.ofNat (un + (zbn (¬ (bt 5 a))))), .int (Int32.ofNat k), .ref x]) (And.intro (Or.inl rfl) (And.intro (Or.inl rfl) (And.intro (Or.inr rfl) (And.intro (Or.inl rfl) (And.intro (Or.inl rfl) (And.intro (Or.inl rfl) (And.intro (Or.inl rfl) (And.intro (Or.inl rfl) (And.intro (Or.inl rfl) trivial))))))))) (J35 (Or.inr b34))
              · replace b34 : bt 7 a := Classical.byContradiction (fun h => b34 ((zbo_eq0 : (zbo (bt 7 a)) = 0 ↔ ¬ (bt 7 a)).mpr h))
                refine zv_c1 ht rfl rfl (zv_c1 ht rfl rfl ?_)
                exact zEv.wk (L := [.ref n, .int (zbo (PZ ∧ (bt 0 a))), .retAddr 0, .int (zbo PM), .int (Int32.ofNat (znt (bt 0 a) on (on + (zbn (bt 1 a))))), .int (Int32.ofNat (ot + (zbn (¬ (bt 0 a))))), .int (Int32.ofNat (un + (zbn (¬ (bt 5 a))))), .int (Int32.ofNat k), .ref x]) (L' := [.ref n, .int (zbo (PZ ∧ (bt 0 a))), .int (zbo PE), .int (zbo PM), .int (Int32.ofNat (znt (bt 0 a) on (on + (zbn (bt 1 a))))), .int (Int32.ofNat (ot + (zbn (¬ (bt 0 a))))), .int (Int32.ofNat (un + (zbn (¬ (bt 5 a))))), .int (Int32.ofNat k), .ref x]) (And.intro (Or.inl rfl) (And.intro (Or.inl rfl) (And.intro (Or.inr rfl) (And.intro (Or.inl rfl) (And.intro (Or.inl rfl) (And.intro (Or.inl rfl) (And.intro (Or.inl rfl) (And.intro (Or.inl rfl) (And.intro (Or.inl rfl) trivial))))))))) (zv_sub (zz := zbo (PE ∧ (bt 7 a))) (zy := 1) (p := fun zz => zEv d 348 162 [.ref n, .int (zbo (PZ ∧ (bt 0 a))), .retAddr 0, .int (zbo PM), .int (Int32.ofNat (znt (bt 0 a) on (on + (zbn (bt 1 a))))), .int (Int32.ofNat (ot + (zbn (¬ (bt 0 a))))), .int (Int32.ofNat (un + (zbn (¬ (bt 5 a))))), .int (Int32.ofNat k), .ref x] [.int zz] S post) (zbo_pos ⟨b33, b34⟩) J37)
          refine zv_br ht rfl rfl rfl (fun b30 => ?_) (fun b30 => ?_)
          · replace b30 : ¬ (bt 5 a) := (zbo_eq0 : (zbo (bt 5 a)) = 0 ↔ ¬ (bt 5 a)).mp b30
            refine zv_c1 ht rfl rfl ?_
            exact zEv.wk (L := [.ref n, .int (zbo (PZ ∧ (bt 0 a))), .int (zbo PE), .int (zbo PM), .int (Int32.ofNat (znt (bt 0 a) on (on + (zbn (bt 1 a))))), .int (Int32.ofNat (ot + (zbn (¬ (bt 0 a))))), .retAddr 0, .int (Int32.ofNat k), .ref x]) (L' := [.ref n, .int (zbo (PZ ∧ (bt 0 a))), .int (zbo PE), .int (zbo PM), .int (Int32.ofNat (znt (bt 0 a) on (on + (zbn (bt 1 a))))), .int (Int32.ofNat (ot + (zbn (¬ (bt 0 a))))), .int (Int32.ofNat un), .int (Int32.ofNat k), .ref x]) (And.intro (Or.inl rfl) (And.intro (Or.inl rfl) (And.intro (Or.inl rfl) (And.intro (Or.inl rfl) (And.intro (Or.inl rfl) (And.intro (Or.inl rfl) (And.intro (Or.inr rfl) (And.intro (Or.inl rfl) (And.intro (Or.inl rfl) trivial))))))))) (zv_sub (zz := zbo (¬ (bt 5 a))) (zy := 1) (p := fun zz => zEv d 348 142 [.ref n, .int (zbo (PZ ∧ (bt 0 a))), .int (zbo PE), .int (zbo PM), .int (Int32.ofNat (znt (bt 0 a) on (on + (zbn (bt 1 a))))), .int (Int32.ofNat (ot + (zbn (¬ (bt 0 a))))), .retAddr 0, .int (Int32.ofNat k), .ref x] [.int zz, .int (Int32.ofNat un)] S post) (zbo_pos b30) J31)
          · replace b30 : bt 5 a := Classical.byContradiction (fun h => b30 ((zbo_eq0 : (zbo (bt 5 a)) = 0 ↔ ¬ (bt 5 a)).mpr h))
            refine zv_c1 ht rfl rfl (zv_c1 ht rfl rfl ?_)
            exact zEv.wk (L := [.ref n, .int (zbo (PZ ∧ (bt 0 a))), .int (zbo PE), .int (zbo PM), .int (Int32.ofNat (znt (bt 0 a) on (on + (zbn (bt 1 a))))), .int (Int32.ofNat (ot + (zbn (¬ (bt 0 a))))), .retAddr 0, .int (Int32.ofNat k), .ref x]) (L' := [.ref n, .int (zbo (PZ ∧ (bt 0 a))), .int (zbo PE), .int (zbo PM), .int (Int32.ofNat (znt (bt 0 a) on (on + (zbn (bt 1 a))))), .int (Int32.ofNat (ot + (zbn (¬ (bt 0 a))))), .int (Int32.ofNat un), .int (Int32.ofNat k), .ref x]) (And.intro (Or.inl rfl) (And.intro (Or.inl rfl) (And.intro (Or.inl rfl) (And.intro (Or.inl rfl) (And.intro (Or.inl rfl) (And.intro (Or.inl rfl) (And.intro (Or.inr rfl) (And.intro (Or.inl rfl) (And.intro (Or.inl rfl) trivial))))))))) (zv_sub (zz := zbo (¬ (bt 5 a))) (zy := 0) (p := fun zz => zEv d 348 142 [.ref n, .int (zbo (PZ ∧ (bt 0 a))), .int (zbo PE), .int (zbo PM), .int (Int32.ofNat (znt (bt 0 a) on (on + (zbn (bt 1 a))))), .int (Int32.ofNat (ot + (zbn (¬ (bt 0 a))))), .retAddr 0, .int (Int32.ofNat k), .ref x] [.int zz, .int (Int32.ofNat un)] S post) (zbo_neg (fun h => h b30)) J31)
        refine zv_br ht rfl rfl rfl (fun b27 => ?_) (fun b27 => ?_)
        · replace b27 : ¬ (bt 0 a) := (zbo_eq0 : (zbo (bt 0 a)) = 0 ↔ ¬ (bt 0 a)).mp b27
          refine zv_c1 ht rfl rfl ?_
          exact zEv.wk (L := [.ref n, .int (zbo (PZ ∧ (bt 0 a))), .int (zbo PE), .int (zbo PM), .int (Int32.ofNat (znt (bt 0 a) on (on + (zbn (bt 1 a))))), .retAddr 0, .int (Int32.ofNat un), .int (Int32.ofNat k), .ref x]) (L' := [.ref n, .int (zbo (PZ ∧ (bt 0 a))), .int (zbo PE), .int (zbo PM), .int (Int32.ofNat (znt (bt 0 a) on (on + (zbn (bt 1 a))))), .int (Int32.ofNat ot), .int (Int32.ofNat un), .int (Int32.ofNat k), .ref x]) (And.intro (Or.inl rfl) (And.intro (Or.inl rfl) (And.intro (Or.inl rfl) (And.intro (Or.inl rfl) (And.intro (Or.inl rfl) (And.intro (Or.inr rfl) (And.intro (Or.inl rfl) (And.intro (Or.inl rfl) (And.intro (Or.inl rfl) trivial))))))))) (zv_sub (zz := zbo (¬ (bt 0 a))) (zy := 1) (p := fun zz => zEv d 348 124 [.ref n, .int (zbo (PZ ∧ (bt 0 a))), .int (zbo PE), .int (zbo PM), .int (Int32.ofNat (znt (bt 0 a) on (on + (zbn (bt 1 a))))), .retAddr 0, .int (Int32.ofNat un), .int (Int32.ofNat k), .ref x] [.int zz, .int (Int32.ofNat ot)] S post) (zbo_pos b27) J28)
        · replace b27 : bt 0 a := Classical.byContradiction (fun h => b27 ((zbo_eq0 : (zbo (bt 0 a)) = 0 ↔ ¬ (bt 0 a)).mpr h))
          refine zv_c1 ht rfl rfl (zv_c1 ht rfl rfl ?_)
          exact zEv.wk (L := [.ref n, .int (zbo (PZ ∧ (bt 0 a))), .int (zbo PE), .int (zbo PM), .int (Int32.ofNat (znt (bt 0 a) on (on + (zbn (bt 1 a))))), .retAddr 0, .int (Int32.ofNat un), .int (Int32.ofNat k), .ref x]) (L' := [.ref n, .int (zbo (PZ ∧ (bt 0 a))), .int (zbo PE), .int (zbo PM), .int (Int32.ofNat (znt (bt 0 a) on (on + (zbn (bt 1 a))))), .int (Int32.ofNat ot), .int (Int32.ofNat un), .int (Int32.ofNat k), .ref x]) (And.intro (Or.inl rfl) (And.intro (Or.inl rfl) (And.intro (Or.inl rfl) (And.intro (Or.inl rfl) (And.intro (Or.inl rfl) (And.intro (Or.inr rfl) (And.intro (Or.inl rfl) (And.intro (Or.inl rfl) (And.intro (Or.inl rfl) trivial))))))))) (zv_sub (zz := zbo (¬ (bt 0 a))) (zy := 0) (p := fun zz => zEv d 348 124 [.ref n, .int (zbo (PZ ∧ (bt 0 a))), .int (zbo PE), .int (zbo PM), .int (Int32.ofNat (znt (bt 0 a) on (on + (zbn (bt 1 a))))), .retAddr 0, .int (Int32.ofNat un), .int (Int32.ofNat k), .ref x] [.int zz, .int (Int32.ofNat ot)] S post) (zbo_neg (fun h => h b27)) J28)
      refine zv_br ht rfl rfl rfl (fun b21 => ?_) (fun b21 => ?_)
      · replace b21 : bt 0 a := Classical.byContradiction (fun h => b21 ((zbo_eq0 : (zbo (bt 0 a)) = 0 ↔ ¬ (bt 0 a)).mpr h))
        exact (zv_sub (zz := Int32.ofNat (znt (bt 0 a) on (on + (zbn (bt 1 a))))) (zy := Int32.ofNat on) (p := fun zz => zEv d 348 109 [.ref n, .int (zbo (PZ ∧ (bt 0 a))), .int (zbo PE), .int (zbo PM), .int zz, .int (Int32.ofNat ot), .int (Int32.ofNat un), .int (Int32.ofNat k), .ref x] [] S post) (congrArg Int32.ofNat (znt_pos b21)) J25)
      · replace b21 : ¬ (bt 0 a) := (zbo_eq0 : (zbo (bt 0 a)) = 0 ↔ ¬ (bt 0 a)).mp (Classical.not_not.mp b21)
        refine zv_c1 ht rfl rfl (zv_c1 ht rfl rfl ?_)
        refine zv_ei (x := zbo (bt 1 a)) ht rfl rfl (zhas_nc hcx (by decide)) hox ?_
        have J23 : zEv d 348 106 [.ref n, .int (zbo (PZ ∧ (bt 0 a))), .int (zbo PE), .int (zbo PM), .retAddr 0, .int (Int32.ofNat ot), .int (Int32.ofNat un), .int (Int32.ofNat k), .ref x] [.int (zbo (bt 1 a)), .int (Int32.ofNat on)] S post := by
          refine zv_e1 (x := Int32.ofNat (on + (zbn (bt 1 a)))) ht rfl rfl (zi_addE (a := on) (b := zbn (bt 1 a)) rfl zbo_nat) ?_
          refine zv_c2 (L' := [.ref n, .int (zbo (PZ ∧ (bt 0 a))), .int (zbo PE), .int (zbo PM), .int (Int32.ofNat (on + (zbn (bt 1 a)))), .int (Int32.ofNat ot), .int (Int32.ofNat un), .int (Int32.ofNat k), .ref x]) ht rfl rfl ?_
          exact (zv_sub (zz := Int32.ofNat (znt (bt 0 a) on (on + (zbn (bt 1 a))))) (zy := Int32.ofNat (on + (zbn (bt 1 a)))) (p := fun zz => zEv d 348 109 [.ref n, .int (zbo (PZ ∧ (bt 0 a))), .int (zbo PE), .int (zbo PM), .int zz, .int (Int32.ofNat ot), .int (Int32.ofNat un), .int (Int32.ofNat k), .ref x] [] S post) (congrArg Int32.ofNat (znt_neg b21)) J25)
        refine zv_br ht rfl rfl rfl (fun b22 => ?_) (fun b22 => ?_)
        · replace b22 : ¬ (bt 1 a) := (zbo_eq0 : (zbo (bt 1 a)) = 0 ↔ ¬ (bt 1 a)).mp b22
          refine zv_c1 ht rfl rfl ?_
          exact zEv.wk (L := [.ref n, .int (zbo (PZ ∧ (bt 0 a))), .int (zbo PE), .int (zbo PM), .retAddr 0, .int (Int32.ofNat ot), .int (Int32.ofNat un), .int (Int32.ofNat k), .ref x]) (L' := [.ref n, .int (zbo (PZ ∧ (bt 0 a))), .int (zbo PE), .int (zbo PM), .int (Int32.ofNat on), .int (Int32.ofNat ot), .int (Int32.ofNat un), .int (Int32.ofNat k), .ref x]) (And.intro (Or.inl rfl) (And.intro (Or.inl rfl) (And.intro (Or.inl rfl) (And.intro (Or.inl rfl) (And.intro (Or.inr rfl) (And.intro (Or.inl rfl) (And.intro (Or.inl rfl) (And.intro (Or.inl rfl) (And.intro (Or.inl rfl) trivial))))))))) (zv_sub (zz := zbo (bt 1 a)) (zy := 0) (p := fun zz => zEv d 348 106 [.ref n, .int (zbo (PZ ∧ (bt 0 a))), .int (zbo PE), .int (zbo PM), .retAddr 0, .int (Int32.ofNat ot), .int (Int32.ofNat un), .int (Int32.ofNat k), .ref x] [.int zz, .int (Int32.ofNat on)] S post) (zbo_neg b22) J23)
        · replace b22 : bt 1 a := Classical.byContradiction (fun h => b22 ((zbo_eq0 : (zbo (bt 1 a)) = 0 ↔ ¬ (bt 1 a)).mpr h))
          refine zv_c1 ht rfl rfl (zv_c1 ht rfl rfl ?_)
          exact zEv.wk (L := [.ref n, .int (zbo (PZ ∧ (bt 0 a))), .int (zbo PE), .int (zbo PM), .retAddr 0, .int (Int32.ofNat ot), .int (Int32.ofNat un), .int (Int32.ofNat k), .ref x]) (L' := [.ref n, .int (zbo (PZ ∧ (bt 0 a))), .int (zbo PE), .int (zbo PM), .int (Int32.ofNat on), .int (Int32.ofNat ot), .int (Int32.ofNat un), .int (Int32.ofNat k), .ref x]) (And.intro (Or.inl rfl) (And.intro (Or.inl rfl) (And.intro (Or.inl rfl) (And.intro (Or.inl rfl) (And.intro (Or.inr rfl) (And.intro (Or.inl rfl) (And.intro (Or.inl rfl) (And.intro (Or.inl rfl) (And.intro (Or.inl rfl) trivial))))))))) (zv_sub (zz := zbo (bt 1 a)) (zy := 1) (p := fun zz => zEv d 348 106 [.ref n, .int (zbo (PZ ∧ (bt 0 a))), .int (zbo PE), .int (zbo PM), .retAddr 0, .int (Int32.ofNat ot), .int (Int32.ofNat un), .int (Int32.ofNat k), .ref x] [.int zz, .int (Int32.ofNat on)] S post) (zbo_pos b22) J23)
    have J17 : ((¬ PZ) ∨ (¬ (bt 0 a))) → zEv d 348 81 [.ref n, .retAddr 0, .int (zbo PE), .int (zbo PM), .int (Int32.ofNat on), .int (Int32.ofNat ot), .int (Int32.ofNat un), .int (Int32.ofNat k), .ref x] [] S post := by
      intro b18
      refine zv_c1 ht rfl rfl ?_
      exact (zv_sub (zz := zbo (PZ ∧ (bt 0 a))) (zy := 0) (p := fun zz => zEv d 348 82 [.ref n, .retAddr 0, .int (zbo PE), .int (zbo PM), .int (Int32.ofNat on), .int (Int32.ofNat ot), .int (Int32.ofNat un), .int (Int32.ofNat k), .ref x] [.int zz] S post) (zbo_neg (b18.elim (fun y1 => (fun h => y1 h.1)) (fun y1 => (fun h => y1 h.2)))) J19)
    refine zv_br ht rfl rfl rfl (fun b15 => ?_) (fun b15 => ?_)
    · replace b15 : ¬ PZ := (zbo_eq0 : (zbo PZ) = 0 ↔ ¬ PZ).mp b15
      exact zEv.wk (L := [.ref n, .retAddr 0, .int (zbo PE), .int (zbo PM), .int (Int32.ofNat on), .int (Int32.ofNat ot), .int (Int32.ofNat un), .int (Int32.ofNat k), .ref x]) (L' := [.ref n, .int (zbo PZ), .int (zbo PE), .int (zbo PM), .int (Int32.ofNat on), .int (Int32.ofNat ot), .int (Int32.ofNat un), .int (Int32.ofNat k), .ref x]) (And.intro (Or.inl rfl) (And.intro (Or.inr rfl) (And.intro (Or.inl rfl) (And.intro (Or.inl rfl) (And.intro (Or.inl rfl) (And.intro (Or.inl rfl) (And.intro (Or.inl rfl) (And.intro (Or.inl rfl) (And.intro (Or.inl rfl) trivial))))))))) (J17 (Or.inl b15))
    · replace b15 : PZ := Classical.byContradiction (fun h => b15 ((zbo_eq0 : (zbo PZ) = 0 ↔ ¬ PZ).mpr h))
      refine zv_c1 ht rfl rfl ?_
      refine zv_ei (x := zbo (bt 0 a)) ht rfl rfl (zhas_nc hcx (by decide)) hzx ?_
      refine zv_br ht rfl rfl rfl (fun b16 => ?_) (fun b16 => ?_)
      · replace b16 : ¬ (bt 0 a) := (zbo_eq0 : (zbo (bt 0 a)) = 0 ↔ ¬ (bt 0 a)).mp b16
        exact zEv.wk (L := [.ref n, .retAddr 0, .int (zbo PE), .int (zbo PM), .int (Int32.ofNat on), .int (Int32.ofNat ot), .int (Int32.ofNat un), .int (Int32.ofNat k), .ref x]) (L' := [.ref n, .int (zbo PZ), .int (zbo PE), .int (zbo PM), .int (Int32.ofNat on), .int (Int32.ofNat ot), .int (Int32.ofNat un), .int (Int32.ofNat k), .ref x]) (And.intro (Or.inl rfl) (And.intro (Or.inr rfl) (And.intro (Or.inl rfl) (And.intro (Or.inl rfl) (And.intro (Or.inl rfl) (And.intro (Or.inl rfl) (And.intro (Or.inl rfl) (And.intro (Or.inl rfl) (And.intro (Or.inl rfl) trivial))))))))) (J17 (Or.inr b16))
      · replace b16 : bt 0 a := Classical.byContradiction (fun h => b16 ((zbo_eq0 : (zbo (bt 0 a)) = 0 ↔ ¬ (bt 0 a)).mpr h))
        refine zv_c1 ht rfl rfl (zv_c1 ht rfl rfl ?_)
        exact zEv.wk (L := [.ref n, .retAddr 0, .int (zbo PE), .int (zbo PM), .int (Int32.ofNat on), .int (Int32.ofNat ot), .int (Int32.ofNat un), .int (Int32.ofNat k), .ref x]) (L' := [.ref n, .int (zbo PZ), .int (zbo PE), .int (zbo PM), .int (Int32.ofNat on), .int (Int32.ofNat ot), .int (Int32.ofNat un), .int (Int32.ofNat k), .ref x]) (And.intro (Or.inl rfl) (And.intro (Or.inr rfl) (And.intro (Or.inl rfl) (And.intro (Or.inl rfl) (And.intro (Or.inl rfl) (And.intro (Or.inl rfl) (And.intro (Or.inl rfl) (And.intro (Or.inl rfl) (And.intro (Or.inl rfl) trivial))))))))) (zv_sub (zz := zbo (PZ ∧ (bt 0 a))) (zy := 1) (p := fun zz => zEv d 348 82 [.ref n, .retAddr 0, .int (zbo PE), .int (zbo PM), .int (Int32.ofNat on), .int (Int32.ofNat ot), .int (Int32.ofNat un), .int (Int32.ofNat k), .ref x] [.int zz] S post) (zbo_pos ⟨b15, b16⟩) J19)
  · replace b14 : ¬ (((p + 1) = 1) ∧ (bt 3 a) ∧ (bt 4 a)) := (zbo_eq0 : (zbo (((p + 1) = 1) ∧ (bt 3 a) ∧ (bt 4 a))) = 0 ↔ ¬ (((p + 1) = 1) ∧ (bt 3 a) ∧ (bt 4 a))).mp (Classical.not_not.mp b14)
    refine zv_c1 ht rfl rfl (zv_c1 ht rfl rfl ?_)
    have C106 : ∀ (pst105 : Outcome × zS → Prop), (pst105 (.returned (some (.ref (gN S))), sI (sI (sT (sNew S 8 0 (zslots 8)) (gN S) 8 1) 136 (gN S) 3) 137 (gN S) (gI S 144 n))) → zCall (d - 1) 283 [.ref n] S pst105 := by
      intro pst105 k112
      have ht107 : ztab 283 = ztb283 := rfl
      show zEv (d - 1) 283 0 [.ref n] [] S pst105
      refine zv_ci (st' := [.ref (gN S)]) (S' := sNew S 8 0 (zslots 8)) ht107 rfl rfl (znew_ok (show 1639 ≤ gN S from by omega) (show gN S < 2000000 from by omega)) ?_
      refine zv_c1 ht107 rfl rfl (zv_c1 ht107 rfl rfl (zv_c1 ht107 rfl rfl ?_))
      refine zv_ei (x := gI S 144 n) ht107 rfl rfl (zhas_of (Eq.trans (ztyp_new (S := S) (t := 8) (n := 0) (s := zslots 8) (show n ≠ gN S from by omega)) htn) rfl) (gI_new (S := S) (t := 8) (n := 0) (s := zslots 8) (show n ≠ gN S from by omega)) ?_
      have C109 : ∀ (pst108 : Outcome × zS → Prop), (pst108 (.returned none, sI (sI (sT (sNew S 8 0 (zslots 8)) (gN S) 8 1) 136 (gN S) 3) 137 (gN S) (gI S 144 n))) → zCall ((d - 1) - 1) 269 [.ref (gN S), .int 3, .int (gI S 144 n)] (sNew S 8 0 (zslots 8)) pst108 := by
        intro pst108 k111
        have ht110 : ztab 269 = ztb269 := rfl
        show zEv ((d - 1) - 1) 269 0 [.ref (gN S), .int 3, .int (gI S 144 n)] [] (sNew S 8 0 (zslots 8)) pst108
        refine zv_c1 ht110 rfl rfl ?_
        refine zv_ci (S' := sT (sNew S 8 0 (zslots 8)) (gN S) 8 1) ht110 rfl rfl ⟨ztyp_new_at (S := S) (t := 8) (n := 0) (s := zslots 8) (show 1639 ≤ gN S from by omega), (show gN S < gN S + 1 from by omega), zlen_new_at (S := S) (t := 8) (n := 0) (s := zslots 8) (show 1639 ≤ gN S from by omega)⟩ ?_
        refine zv_c1 ht110 rfl rfl (zv_c1 ht110 rfl rfl ?_)
        refine zv_ci (S' := sI (sT (sNew S 8 0 (zslots 8)) (gN S) 8 1) 136 (gN S) 3) ht110 rfl rfl ⟨⟨(zhas_of (ztyp_sT1 (show 1639 ≤ gN S from by omega)) rfl), (show gN S < gN S + 1 from by omega)⟩, zlen_sT1 (show 1639 ≤ gN S from by omega)⟩ ?_
        refine zv_c1 ht110 rfl rfl (zv_c1 ht110 rfl rfl ?_)
        refine zv_ci (S' := sI (sI (sT (sNew S 8 0 (zslots 8)) (gN S) 8 1) 136 (gN S) 3) 137 (gN S) (gI S 144 n)) ht110 rfl rfl ⟨⟨(zhas_of (ztyp_sT1 (show 1639 ≤ gN S from by omega)) rfl), (show gN S < gN S + 1 from by omega)⟩, zlen_sT1 (show 1639 ≤ gN S from by omega)⟩ ?_
        exact zv_rt ht110 rfl rfl rfl rfl k111
      refine zv_cl ht107 rfl rfl rfl rfl (by omega) (Nat.le_of_ble_eq_true rfl) (C109 _ ?_)
      show zEv (d - 1) 283 12 [.ref n] [.ref (gN S)] (sI (sI (sT (sNew S 8 0 (zslots 8)) (gN S) 8 1) 136 (gN S) 3) 137 (gN S) (gI S 144 n)) pst105
      exact zv_rt ht107 rfl rfl rfl rfl k112
    refine zv_cl ht rfl rfl rfl (zv_tgv (htn) rfl) (by omega) (Nat.le_of_ble_eq_true rfl) (C106 _ ?_)
    show zEv d 348 64 [.ref n, .int (zbo PZ), .int (zbo PE), .int (zbo PM), .int (Int32.ofNat on), .int (Int32.ofNat ot), .int (Int32.ofNat un), .int (Int32.ofNat k), .ref x] [.ref (gN S)] (sI (sI (sT (sNew S 8 0 (zslots 8)) (gN S) 8 1) 136 (gN S) 3) 137 (gN S) (gI S 144 n)) post
    exact zv_th ht rfl rfl rfl ⟨ztyp_sT1 (show 1639 ≤ gN S from by omega), (show gN S < gN S + 1 from by omega)⟩ rfl (h3 b14)

theorem hj1 {d : Nat} {S : zS} (hF : zFin true S) (hd : 2 ≤ d) (n R x m v k on ot un rl : Nat) (PZ PE PM PX : Prop) (tm p a tx : Int32) (hn0 : 1639 ≤ n) (hn : n < gN S) (htn : ztyp S n = 18) (hN2 : gN S < 1900000) (hmany : gI S 180 n = Int32.ofNat m) (hneed : gI S 179 n = Int32.ofNat v) (hv0 : 1 ≤ v) (hv : v < 2147483648) (hm : m ≤ 12) (hk : k ≤ m) (hon : on ≤ k) (hot : ot ≤ k) (hun : un ≤ k) (hrow : gP S 181 n = some R) (htr : ztyp S R = 113) (hlr : zlen S R = rl) (hrl : m ≤ rl) (hrl2 : rl ≤ 100) (hmx : gI S 156 n = zbo PX) (htm : gI S 146 n = tm) (hx : x < gN S) (hxn : x ≠ n) (hcx : zNc (ztyp S x) = true) (hq : gQ S R k = some x) (hbx : gI S 145 x = p + 1) (hzx : gI S 147 x = zbo (bt 0 a)) (hox : gI S 148 x = zbo (bt 1 a)) (hnx : gI S 149 x = zbo (bt 2 a)) (hdx : gI S 150 x = zbo (bt 3 a)) (hux : gI S 151 x = zbo (bt 4 a)) (hsx : gI S 152 x = zbo (bt 5 a)) (hfx : gI S 153 x = zbo (bt 6 a)) (hex : gI S 154 x = zbo (bt 7 a)) (hmx : gI S 155 x = zbo (bt 8 a)) (hmixedx : gI S 156 x = zbo (bt 9 a)) (htx : gI S 146 x = tx) (hk2 : k < m) (hk0 : 0 < k) {post : Outcome × zS → Prop} (h1 : (((p + 1) = 4) ∧ (bt 3 a) ∧ (bt 4 a)) → (¬ (¬ (v ≤ 1))) → zEv d 348 18 [.ref n, .int (zbo (PZ ∧ (bt 0 a))), .int (zbo (PE ∧ (bt 7 a))), .int (zbo (PM ∧ (bt 8 a))), .int (Int32.ofNat (znt (bt 0 a) on (on + (zbn (bt 1 a))))), .int (Int32.ofNat (ot + (zbn (¬ (bt 0 a))))), .int (Int32.ofNat (un + (zbn (¬ (bt 5 a))))), .int (Int32.ofNat (k + 1)), .retAddr 0] [] (sI (sI S 156 n (zbo (PX ∨ (bt 9 a)))) 146 n (tm ||| tx)) post) (h2 : (((p + 1) = 4) ∧ (bt 3 a) ∧ (bt 4 a)) → (¬ (v ≤ 1)) → zEv d 348 18 [.ref n, .int (zbo (PZ ∧ (bt 0 a))), .int (zbo (PE ∧ (bt 7 a))), .int (zbo (PM ∧ (bt 8 a))), .int (Int32.ofNat (znt (bt 0 a) on (on + (zbn (bt 1 a))))), .int (Int32.ofNat (ot + (zbn (¬ (bt 0 a))))), .int (Int32.ofNat (un + (zbn (¬ (bt 5 a))))), .int (Int32.ofNat (k + 1)), .retAddr 0] [] (sI (sI (sI S 156 n (zbo (PX ∨ (((¬ ((tm &&& (1 : Int32)) = 0)) ∧ (¬ ((tx &&& (2 : Int32)) = 0))) ∨ ((¬ ((tm &&& (2 : Int32)) = 0)) ∧ (¬ ((tx &&& (1 : Int32)) = 0)))) ∨ ((¬ ((tm &&& (4 : Int32)) = 0)) ∧ (¬ ((tx &&& (8 : Int32)) = 0))) ∨ ((¬ ((tm &&& (8 : Int32)) = 0)) ∧ (¬ ((tx &&& (4 : Int32)) = 0)))))) 156 n (zbo ((PX ∨ (((¬ ((tm &&& (1 : Int32)) = 0)) ∧ (¬ ((tx &&& (2 : Int32)) = 0))) ∨ ((¬ ((tm &&& (2 : Int32)) = 0)) ∧ (¬ ((tx &&& (1 : Int32)) = 0)))) ∨ ((¬ ((tm &&& (4 : Int32)) = 0)) ∧ (¬ ((tx &&& (8 : Int32)) = 0))) ∨ ((¬ ((tm &&& (8 : Int32)) = 0)) ∧ (¬ ((tx &&& (4 : Int32)) = 0)))) ∨ (bt 9 a)))) 146 n (tm ||| tx)) post) (h3 : (¬ (((p + 1) = 4) ∧ (bt 3 a) ∧ (bt 4 a))) → post (.threw (gN S), sI (sI (sT (sNew S 8 0 (zslots 8)) (gN S) 8 1) 136 (gN S) 3) 137 (gN S) (gI S 144 n))) : zEv d 348 18 [.ref n, .int (zbo PZ), .int (zbo PE), .int (zbo PM), .int (Int32.ofNat on), .int (Int32.ofNat ot), .int (Int32.ofNat un), .int (Int32.ofNat k), .retAddr 0] [] S post := by
  have ht : ztab 348 = ztb348 := rfl
  refine zv_c1 ht rfl rfl (zv_c1 ht rfl rfl ?_)
  refine zv_ei (x := Int32.ofNat m) ht rfl rfl (zhas_of (htn) rfl) hmany ?_
  refine zv_br ht rfl rfl rfl (fun b1 => (show False from by have hq := b1; have hz : m ≤ k := (zi_leE (a := m) (b := k) rfl rfl (by omega) (by omega)).mp hq; omega).elim) (fun b1 => ?_)
  refine zv_c1 ht rfl rfl ?_
  refine zv_g3 (q := R) ht rfl hF rfl rfl (zhas_of (htn) rfl) hrow ?_
  refine zv_c1 ht rfl rfl ?_
  refine zv_aa (j := k) (q := x) ht rfl rfl rfl rfl (zi_natE (a := k) rfl (by omega)) ⟨(zv_aty htr rfl rfl), zi_inL (a := k) (m := rl) hlr rfl (by omega) (by omega)⟩ hq ?_
  refine zv_c2 (L' := [.ref n, .int (zbo PZ), .int (zbo PE), .int (zbo PM), .int (Int32.ofNat on), .int (Int32.ofNat ot), .int (Int32.ofNat un), .int (Int32.ofNat k), .ref x]) ht rfl rfl ?_
  refine zv_c1 ht rfl rfl ?_
  refine zv_br ht rfl rfl rfl (fun b2 => ?_) (fun b2 => (show False from by have hq := b2; have hz : k = 0 := (zi_eqE (a := k) (b := 0) rfl rfl (by omega) (by omega)).mp (Classical.not_not.mp hq); omega).elim)
  refine zv_c1 ht rfl rfl ?_
  have C4 : ∀ (pst3 : Outcome × zS → Prop), (pst3 (.returned (some (.int (zbo (((p + 1) = 4) ∧ (bt 3 a) ∧ (bt 4 a))))), S)) → zCall (d - 1) 288 [.ref x] S pst3 := by
    intro pst3 k13
    have ht5 : ztab 288 = ztb288 := rfl
    show zEv (d - 1) 288 0 [.ref x] [] S pst3
    refine zv_c1 ht5 rfl rfl ?_
    refine zv_ei (x := p + 1) ht5 rfl rfl (zhas_nc hcx (by decide)) hbx ?_
    refine zv_c1 ht5 rfl rfl ?_
    have J11 : zEv (d - 1) 288 27 [.retAddr 0] [.int (zbo (((p + 1) = 4) ∧ (bt 3 a) ∧ (bt 4 a)))] S pst3 := by
      exact zv_rc ht5 rfl rfl rfl rfl zbo_rng k13
    have J9 : ((¬ ((p + 1) = 4)) ∨ (¬ (bt 3 a)) ∨ (¬ (bt 4 a))) → zEv (d - 1) 288 26 [.retAddr 0] [] S pst3 := by
      intro b10
      refine zv_c1 ht5 rfl rfl ?_
      exact (zv_sub (zz := zbo (((p + 1) = 4) ∧ (bt 3 a) ∧ (bt 4 a))) (zy := 0) (p := fun zz => zEv (d - 1) 288 27 [.retAddr 0] [.int zz] S pst3) (zbo_neg (b10.elim (fun y1 => (fun h => y1 h.1)) (fun y1 => (y1.elim (fun y2 => (fun h => (fun h => y2 h.1) h.2)) (fun y2 => (fun h => (fun h => y2 h.2) h.2)))))) J11)
    refine zv_br ht5 rfl rfl rfl (fun b6 => ?_) (fun b6 => ?_)
    · exact zEv.wk (L := [.retAddr 0]) (L' := [.ref x]) (And.intro (Or.inr rfl) trivial) (J9 (Or.inl b6))
    · replace b6 : (p + 1) = 4 := Classical.not_not.mp b6
      refine zv_c1 ht5 rfl rfl ?_
      refine zv_ei (x := zbo (bt 3 a)) ht5 rfl rfl (zhas_nc hcx (by decide)) hdx ?_
      refine zv_br ht5 rfl rfl rfl (fun b7 => ?_) (fun b7 => ?_)
      · replace b7 : ¬ (bt 3 a) := (zbo_eq0 : (zbo (bt 3 a)) = 0 ↔ ¬ (bt 3 a)).mp b7
        exact zEv.wk (L := [.retAddr 0]) (L' := [.ref x]) (And.intro (Or.inr rfl) trivial) (J9 (Or.inr (Or.inl b7)))
      · replace b7 : bt 3 a := Classical.byContradiction (fun h => b7 ((zbo_eq0 : (zbo (bt 3 a)) = 0 ↔ ¬ (bt 3 a)).mpr h))
        refine zv_c1 ht5 rfl rfl ?_
        refine zv_ei (x := zbo (bt 4 a)) ht5 rfl rfl (zhas_nc hcx (by decide)) hux ?_
        refine zv_br ht5 rfl rfl rfl (fun b8 => ?_) (fun b8 => ?_)
        · replace b8 : ¬ (bt 4 a) := (zbo_eq0 : (zbo (bt 4 a)) = 0 ↔ ¬ (bt 4 a)).mp b8
          exact zEv.wk (L := [.retAddr 0]) (L' := [.ref x]) (And.intro (Or.inr rfl) trivial) (J9 (Or.inr (Or.inr b8)))
        · replace b8 : bt 4 a := Classical.byContradiction (fun h => b8 ((zbo_eq0 : (zbo (bt 4 a)) = 0 ↔ ¬ (bt 4 a)).mpr h))
          refine zv_c1 ht5 rfl rfl (zv_c1 ht5 rfl rfl ?_)
          exact zEv.wk (L := [.retAddr 0]) (L' := [.ref x]) (And.intro (Or.inr rfl) trivial) (zv_sub (zz := zbo (((p + 1) = 4) ∧ (bt 3 a) ∧ (bt 4 a))) (zy := 1) (p := fun zz => zEv (d - 1) 288 27 [.retAddr 0] [.int zz] S pst3) (zbo_pos ⟨b6, ⟨b7, b8⟩⟩) J11)
  refine zv_cl ht rfl rfl rfl (zv_tgA hcx (by decide)) (by omega) (Nat.le_of_ble_eq_true rfl) (C4 _ ?_)
  show zEv d 348 57 [.ref n, .int (zbo PZ), .int (zbo PE), .int (zbo PM), .int (Int32.ofNat on), .int (Int32.ofNat ot), .int (Int32.ofNat un), .int (Int32.ofNat k), .ref x] [.int (zbo (((p + 1) = 4) ∧ (bt 3 a) ∧ (bt 4 a)))] S post
  refine zv_br ht rfl rfl rfl (fun b14 => ?_) (fun b14 => ?_)
  · replace b14 : ((p + 1) = 4) ∧ (bt 3 a) ∧ (bt 4 a) := Classical.byContradiction (fun h => b14 ((zbo_eq0 : (zbo (((p + 1) = 4) ∧ (bt 3 a) ∧ (bt 4 a))) = 0 ↔ ¬ (((p + 1) = 4) ∧ (bt 3 a) ∧ (bt 4 a))).mpr h))
    refine zv_c1 ht rfl rfl ?_
    have J19 : zEv d 348 82 [.ref n, .retAddr 0, .int (zbo PE), .int (zbo PM), .int (Int32.ofNat on), .int (Int32.ofNat ot), .int (Int32.ofNat un), .int (Int32.ofNat k), .ref x] [.int (zbo (PZ ∧ (bt 0 a)))] S post := by
      refine zv_c2 (L' := [.ref n, .int (zbo (PZ ∧ (bt 0 a))), .int (zbo PE), .int (zbo PM), .int (Int32.ofNat on), .int (Int32.ofNat ot), .int (Int32.ofNat un), .int (Int32.ofNat k), .ref x]) ht rfl rfl ?_
      refine zv_c1 ht rfl rfl ?_
      refine zv_ei (x := zbo (bt 0 a)) ht rfl rfl (zhas_nc hcx (by decide)) hzx ?_
      have J25 : zEv d 348 109 [.ref n, .int (zbo (PZ ∧ (bt 0 a))), .int (zbo PE), .int (zbo PM), .int (Int32.ofNat (znt (bt 0 a) on (on + (zbn (bt 1 a))))), .int (Int32.ofNat ot), .int (Int32.ofNat un), .int (Int32.ofNat k), .ref x] [] S post := by
        refine zv_c1 ht rfl rfl (zv_c1 ht rfl rfl ?_)
        refine zv_ei (x := zbo (bt 0 a)) ht rfl rfl (zhas_nc hcx (by decide)) hzx ?_
        have J28 : zEv d 348 124 [.ref n, .int (zbo (PZ ∧ (bt 0 a))), .int (zbo PE), .int (zbo PM), .int (Int32.ofNat (znt (bt 0 a) on (on + (zbn (bt 1 a))))), .retAddr 0, .int (Int32.ofNat un), .int (Int32.ofNat k), .ref x] [.int (zbo (¬ (bt 0 a))), .int (Int32.ofNat ot)] S post := by
          refine zv_e1 (x := Int32.ofNat (ot + (zbn (¬ (bt 0 a))))) ht rfl rfl (zi_addE (a := ot) (b := zbn (¬ (bt 0 a))) rfl zbo_nat) ?_
          refine zv_c2 (L' := [.ref n, .int (zbo (PZ ∧ (bt 0 a))), .int (zbo PE), .int (zbo PM), .int (Int32.ofNat (znt (bt 0 a) on (on + (zbn (bt 1 a))))), .int (Int32.ofNat (ot + (zbn (¬ (bt 0 a))))), .int (Int32.ofNat un), .int (Int32.ofNat k), .ref x]) ht rfl rfl ?_
          refine zv_c1 ht rfl rfl (zv_c1 ht rfl rfl ?_)
          refine zv_ei (x := zbo (bt 5 a)) ht rfl rfl (zhas_nc hcx (by decide)) hsx ?_
          have J31 : zEv d 348 142 [.ref n, .int (zbo (PZ ∧ (bt 0 a))), .int (zbo PE), .int (zbo PM), .int (Int32.ofNat (znt (bt 0 a) on (on + (zbn (bt 1 a))))), .int (Int32.ofNat (ot + (zbn (¬ (bt 0 a))))), .retAddr 0, .int (Int32.ofNat k), .ref x] [.int (zbo (¬ (bt 5 a))), .int (Int32.ofNat un)] S post := by
            refine zv_e1 (x := Int32.ofNat (un + (zbn (¬ (bt 5 a))))) ht rfl rfl (zi_addE (a := un) (b := zbn (¬ (bt 5 a))) rfl zbo_nat) ?_
            refine zv_c2 (L' := [.ref n, .int (zbo (PZ ∧ (bt 0 a))), .int (zbo PE), .int (zbo PM), .int (Int32.ofNat (znt (bt 0 a) on (on + (zbn (bt 1 a))))), .int (Int32.ofNat (ot + (zbn (¬ (bt 0 a))))), .int (Int32.ofNat (un + (zbn (¬ (bt 5 a))))), .int (Int32.ofNat k), .ref x]) ht rfl rfl ?_
            refine zv_c1 ht rfl rfl ?_
            have J37 : zEv d 348 162 [.ref n, .int (zbo (PZ ∧ (bt 0 a))), .retAddr 0, .int (zbo PM), .int (Int32.ofNat (znt (bt 0 a) on (on + (zbn (bt 1 a))))), .int (Int32.ofNat (ot + (zbn (¬ (bt 0 a))))), .int (Int32.ofNat (un + (zbn (¬ (bt 5 a))))), .int (Int32.ofNat k), .ref x] [.int (zbo (PE ∧ (bt 7 a)))] S post := by
              refine zv_c2 (L' := [.ref n, .int (zbo (PZ ∧ (bt 0 a))), .int (zbo (PE ∧ (bt 7 a))), .int (zbo PM), .int (Int32.ofNat (znt (bt 0 a) on (on + (zbn (bt 1 a))))), .int (Int32.ofNat (ot + (zbn (¬ (bt 0 a))))), .int (Int32.ofNat (un + (zbn (¬ (bt 5 a))))), .int (Int32.ofNat k), .ref x]) ht rfl rfl ?_
              refine zv_c1 ht rfl rfl ?_
              have J43 : zEv d 348 180 [.ref n, .int (zbo (PZ ∧ (bt 0 a))), .int (zbo (PE ∧ (bt 7 a))), .retAddr 0, .int (Int32.ofNat (znt (bt 0 a) on (on + (zbn (bt 1 a))))), .int (Int32.ofNat (ot + (zbn (¬ (bt 0 a))))), .int (Int32.ofNat (un + (zbn (¬ (bt 5 a))))), .int (Int32.ofNat k), .ref x] [.int (zbo (PM ∧ (bt 8 a)))] S post := by
                refine zv_c2 (L' := [.ref n, .int (zbo (PZ ∧ (bt 0 a))), .int (zbo (PE ∧ (bt 7 a))), .int (zbo (PM ∧ (bt 8 a))), .int (Int32.ofNat (znt (bt 0 a) on (on + (zbn (bt 1 a))))), .int (Int32.ofNat (ot + (zbn (¬ (bt 0 a))))), .int (Int32.ofNat (un + (zbn (¬ (bt 5 a))))), .int (Int32.ofNat k), .ref x]) ht rfl rfl ?_
                refine zv_c1 ht rfl rfl (zv_c1 ht rfl rfl (zv_c1 ht rfl rfl ?_))
                refine zv_ei (x := Int32.ofNat v) ht rfl rfl (zhas_of (htn) rfl) hneed ?_
                refine zv_c1 ht rfl rfl ?_
                have J46 : zEv d 348 197 [.ref n, .int (zbo (PZ ∧ (bt 0 a))), .int (zbo (PE ∧ (bt 7 a))), .int (zbo (PM ∧ (bt 8 a))), .int (Int32.ofNat (znt (bt 0 a) on (on + (zbn (bt 1 a))))), .int (Int32.ofNat (ot + (zbn (¬ (bt 0 a))))), .int (Int32.ofNat (un + (zbn (¬ (bt 5 a))))), .int (Int32.ofNat k), .retAddr 0] [.int (zbo (¬ (v ≤ 1))), .ref x, .ref n] S post := by
                  have C49 : ∀ (pst48 : Outcome × zS → Prop), ((¬ (¬ (v ≤ 1))) → pst48 (.returned none, sI (sI S 156 n (zbo (PX ∨ (bt 9 a)))) 146 n (tm ||| tx))) → ((¬ (v ≤ 1)) → pst48 (.returned none, sI (sI (sI S 156 n (zbo (PX ∨ (((¬ ((tm &&& (1 : Int32)) = 0)) ∧ (¬ ((tx &&& (2 : Int32)) = 0))) ∨ ((¬ ((tm &&& (2 : Int32)) = 0)) ∧ (¬ ((tx &&& (1 : Int32)) = 0)))) ∨ ((¬ ((tm &&& (4 : Int32)) = 0)) ∧ (¬ ((tx &&& (8 : Int32)) = 0))) ∨ ((¬ ((tm &&& (8 : Int32)) = 0)) ∧ (¬ ((tx &&& (4 : Int32)) = 0)))))) 156 n (zbo ((PX ∨ (((¬ ((tm &&& (1 : Int32)) = 0)) ∧ (¬ ((tx &&& (2 : Int32)) = 0))) ∨ ((¬ ((tm &&& (2 : Int32)) = 0)) ∧ (¬ ((tx &&& (1 : Int32)) = 0)))) ∨ ((¬ ((tm &&& (4 : Int32)) = 0)) ∧ (¬ ((tx &&& (8 : Int32)) = 0))) ∨ ((¬ ((tm &&& (8 : Int32)) = 0)) ∧ (¬ ((tx &&& (4 : Int32)) = 0)))) ∨ (bt 9 a)))) 146 n (tm ||| tx))) → zCall (d - 1) 286 [.ref n, .ref x, .int (zbo (¬ (v ≤ 1)))] S pst48 := by
                    intro pst48 k103 k104
                    have ht50 : ztab 286 = ztb286 := rfl
                    show zEv (d - 1) 286 0 [.ref n, .ref x, .int (zbo (¬ (v ≤ 1)))] [] S pst48
                    refine zv_c1 ht50 rfl rfl ?_
                    refine zv_br ht50 rfl rfl rfl (fun b51 => ?_) (fun b51 => ?_)
                    · replace b51 : ¬ (¬ (v ≤ 1)) := (zbo_eq0 : (zbo (¬ (v ≤ 1))) = 0 ↔ ¬ (¬ (v ≤ 1))).mp b51
                      refine zv_c1 ht50 rfl rfl (zv_c1 ht50 rfl rfl ?_)
                      refine zv_ei (x := zbo PX) ht50 rfl rfl (zhas_of (htn) rfl) hmx ?_
                      have J95 : zEv (d - 1) 286 73 [.ref n, .ref x, .retAddr 0] [.int (zbo (PX ∨ (bt 9 a))), .ref n] S pst48 := by
                        refine zv_ci (S' := sI S 156 n (zbo (PX ∨ (bt 9 a)))) ht50 rfl rfl ⟨⟨(zhas_of (htn) rfl), (show n < gN S from by omega)⟩, zbo_rng⟩ ?_
                        refine zv_c1 ht50 rfl rfl (zv_c1 ht50 rfl rfl ?_)
                        refine zv_ei (x := tm) ht50 rfl rfl (zhas_of (htn) rfl) htm ?_
                        refine zv_c1 ht50 rfl rfl ?_
                        refine zv_ei (x := tx) ht50 rfl rfl (zhas_nc hcx (by decide)) htx ?_
                        refine zv_c1 (st' := [.int (tm ||| tx), .ref n]) (S' := sI S 156 n (zbo (PX ∨ (bt 9 a)))) ht50 rfl rfl ?_
                        refine zv_ci (S' := sI (sI S 156 n (zbo (PX ∨ (bt 9 a)))) 146 n (tm ||| tx)) ht50 rfl rfl ⟨(zhas_of (htn) rfl), (show n < gN S from by omega)⟩ ?_
                        exact zv_rt ht50 rfl rfl rfl rfl (k103 b51)
                      have J93 : (PX ∨ (bt 9 a)) → zEv (d - 1) 286 68 [.ref n, .ref x, .retAddr 0] [.ref n] S pst48 := by
                        intro b94
                        refine zv_c1 ht50 rfl rfl (zv_c1 ht50 rfl rfl ?_)
                        exact (zv_sub (zz := zbo (PX ∨ (bt 9 a))) (zy := 1) (p := fun zz => zEv (d - 1) 286 73 [.ref n, .ref x, .retAddr 0] [.int zz, .ref n] S pst48) (zbo_pos b94) J95)
                      refine zv_br ht50 rfl rfl rfl (fun b91 => ?_) (fun b91 => ?_)
                      · replace b91 : PX := Classical.byContradiction (fun h => b91 ((zbo_eq0 : (zbo PX) = 0 ↔ ¬ PX).mpr h))
                        exact zEv.wk (L := [.ref n, .ref x, .retAddr 0]) (L' := [.ref n, .ref x, .int (zbo (¬ (v ≤ 1)))]) (And.intro (Or.inl rfl) (And.intro (Or.inl rfl) (And.intro (Or.inr rfl) trivial))) (J93 (Or.inl b91))
                      · replace b91 : ¬ PX := (zbo_eq0 : (zbo PX) = 0 ↔ ¬ PX).mp (Classical.not_not.mp b91)
                        refine zv_c1 ht50 rfl rfl ?_
                        refine zv_ei (x := zbo (bt 9 a)) ht50 rfl rfl (zhas_nc hcx (by decide)) hmixedx ?_
                        refine zv_br ht50 rfl rfl rfl (fun b92 => ?_) (fun b92 => ?_)
                        · replace b92 : ¬ (bt 9 a) := (zbo_eq0 : (zbo (bt 9 a)) = 0 ↔ ¬ (bt 9 a)).mp b92
                          refine zv_c1 ht50 rfl rfl ?_
                          exact zEv.wk (L := [.ref n, .ref x, .retAddr 0]) (L' := [.ref n, .ref x, .int (zbo (¬ (v ≤ 1)))]) (And.intro (Or.inl rfl) (And.intro (Or.inl rfl) (And.intro (Or.inr rfl) trivial))) (zv_sub (zz := zbo (PX ∨ (bt 9 a))) (zy := 0) (p := fun zz => zEv (d - 1) 286 73 [.ref n, .ref x, .retAddr 0] [.int zz, .ref n] S pst48) (zbo_neg (fun h => h.elim b91 b92)) J95)
                        · replace b92 : bt 9 a := Classical.byContradiction (fun h => b92 ((zbo_eq0 : (zbo (bt 9 a)) = 0 ↔ ¬ (bt 9 a)).mpr h))
                          exact zEv.wk (L := [.ref n, .ref x, .retAddr 0]) (L' := [.ref n, .ref x, .int (zbo (¬ (v ≤ 1)))]) (And.intro (Or.inl rfl) (And.intro (Or.inl rfl) (And.intro (Or.inr rfl) trivial))) (J93 (Or.inr b92))
                    · replace b51 : ¬ (v ≤ 1) := Classical.byContradiction (fun h => b51 ((zbo_eq0 : (zbo (¬ (v ≤ 1))) = 0 ↔ ¬ (¬ (v ≤ 1))).mpr h))
                      refine zv_c1 ht50 rfl rfl (zv_c1 ht50 rfl rfl ?_)
                      refine zv_ei (x := zbo PX) ht50 rfl rfl (zhas_of (htn) rfl) hmx ?_
                      have J89 : zEv (d - 1) 286 50 [.ref n, .ref x, .retAddr 0] [.int (zbo (PX ∨ (((¬ ((tm &&& (1 : Int32)) = 0)) ∧ (¬ ((tx &&& (2 : Int32)) = 0))) ∨ ((¬ ((tm &&& (2 : Int32)) = 0)) ∧ (¬ ((tx &&& (1 : Int32)) = 0)))) ∨ ((¬ ((tm &&& (4 : Int32)) = 0)) ∧ (¬ ((tx &&& (8 : Int32)) = 0))) ∨ ((¬ ((tm &&& (8 : Int32)) = 0)) ∧ (¬ ((tx &&& (4 : Int32)) = 0))))), .ref n] S pst48 := by
                        refine zv_ci (S' := sI S 156 n (zbo (PX ∨ (((¬ ((tm &&& (1 : Int32)) = 0)) ∧ (¬ ((tx &&& (2 : Int32)) = 0))) ∨ ((¬ ((tm &&& (2 : Int32)) = 0)) ∧ (¬ ((tx &&& (1 : Int32)) = 0)))) ∨ ((¬ ((tm &&& (4 : Int32)) = 0)) ∧ (¬ ((tx &&& (8 : Int32)) = 0))) ∨ ((¬ ((tm &&& (8 : Int32)) = 0)) ∧ (¬ ((tx &&& (4 : Int32)) = 0)))))) ht50 rfl rfl ⟨⟨(zhas_of (htn) rfl), (show n < gN S from by omega)⟩, zbo_rng⟩ ?_
                        refine zv_c1 ht50 rfl rfl (zv_c1 ht50 rfl rfl ?_)
                        refine zv_ei (x := zbo (PX ∨ (((¬ ((tm &&& (1 : Int32)) = 0)) ∧ (¬ ((tx &&& (2 : Int32)) = 0))) ∨ ((¬ ((tm &&& (2 : Int32)) = 0)) ∧ (¬ ((tx &&& (1 : Int32)) = 0)))) ∨ ((¬ ((tm &&& (4 : Int32)) = 0)) ∧ (¬ ((tx &&& (8 : Int32)) = 0))) ∨ ((¬ ((tm &&& (8 : Int32)) = 0)) ∧ (¬ ((tx &&& (4 : Int32)) = 0))))) ht50 rfl rfl (zhas_of (htn) rfl) gI_sI_at ?_
                        have J101 : zEv (d - 1) 286 73 [.ref n, .ref x, .retAddr 0] [.int (zbo ((PX ∨ (((¬ ((tm &&& (1 : Int32)) = 0)) ∧ (¬ ((tx &&& (2 : Int32)) = 0))) ∨ ((¬ ((tm &&& (2 : Int32)) = 0)) ∧ (¬ ((tx &&& (1 : Int32)) = 0)))) ∨ ((¬ ((tm &&& (4 : Int32)) = 0)) ∧ (¬ ((tx &&& (8 : Int32)) = 0))) ∨ ((¬ ((tm &&& (8 : Int32)) = 0)) ∧ (¬ ((tx &&& (4 : Int32)) = 0)))) ∨ (bt 9 a))), .ref n] (sI S 156 n (zbo (PX ∨ (((¬ ((tm &&& (1 : Int32)) = 0)) ∧ (¬ ((tx &&& (2 : Int32)) = 0))) ∨ ((¬ ((tm &&& (2 : Int32)) = 0)) ∧ (¬ ((tx &&& (1 : Int32)) = 0)))) ∨ ((¬ ((tm &&& (4 : Int32)) = 0)) ∧ (¬ ((tx &&& (8 : Int32)) = 0))) ∨ ((¬ ((tm &&& (8 : Int32)) = 0)) ∧ (¬ ((tx &&& (4 : Int32)) = 0)))))) pst48 := by
                          refine zv_ci (S' := sI (sI S 156 n (zbo (PX ∨ (((¬ ((tm &&& (1 : Int32)) = 0)) ∧ (¬ ((tx &&& (2 : Int32)) = 0))) ∨ ((¬ ((tm &&& (2 : Int32)) = 0)) ∧ (¬ ((tx &&& (1 : Int32)) = 0)))) ∨ ((¬ ((tm &&& (4 : Int32)) = 0)) ∧ (¬ ((tx &&& (8 : Int32)) = 0))) ∨ ((¬ ((tm &&& (8 : Int32)) = 0)) ∧ (¬ ((tx &&& (4 : Int32)) = 0)))))) 156 n (zbo ((PX ∨ (((¬ ((tm &&& (1 : Int32)) = 0)) ∧ (¬ ((tx &&& (2 : Int32)) = 0))) ∨ ((¬ ((tm &&& (2 : Int32)) = 0)) ∧ (¬ ((tx &&& (1 : Int32)) = 0)))) ∨ ((¬ ((tm &&& (4 : Int32)) = 0)) ∧ (¬ ((tx &&& (8 : Int32)) = 0))) ∨ ((¬ ((tm &&& (8 : Int32)) = 0)) ∧ (¬ ((tx &&& (4 : Int32)) = 0)))) ∨ (bt 9 a)))) ht50 rfl rfl ⟨⟨(zhas_of (htn) rfl), (show n < gN S from by omega)⟩, zbo_rng⟩ ?_
                          refine zv_c1 ht50 rfl rfl (zv_c1 ht50 rfl rfl ?_)
                          refine zv_ei (x := tm) ht50 rfl rfl (zhas_of (htn) rfl) htm ?_
                          refine zv_c1 ht50 rfl rfl ?_
                          refine zv_ei (x := tx) ht50 rfl rfl (zhas_nc hcx (by decide)) htx ?_
                          refine zv_c1 (st' := [.int (tm ||| tx), .ref n]) (S' := sI (sI S 156 n (zbo (PX ∨ (((¬ ((tm &&& (1 : Int32)) = 0)) ∧ (¬ ((tx &&& (2 : Int32)) = 0))) ∨ ((¬ ((tm &&& (2 : Int32)) = 0)) ∧ (¬ ((tx &&& (1 : Int32)) = 0)))) ∨ ((¬ ((tm &&& (4 : Int32)) = 0)) ∧ (¬ ((tx &&& (8 : Int32)) = 0))) ∨ ((¬ ((tm &&& (8 : Int32)) = 0)) ∧ (¬ ((tx &&& (4 : Int32)) = 0)))))) 156 n (zbo ((PX ∨ (((¬ ((tm &&& (1 : Int32)) = 0)) ∧ (¬ ((tx &&& (2 : Int32)) = 0))) ∨ ((¬ ((tm &&& (2 : Int32)) = 0)) ∧ (¬ ((tx &&& (1 : Int32)) = 0)))) ∨ ((¬ ((tm &&& (4 : Int32)) = 0)) ∧ (¬ ((tx &&& (8 : Int32)) = 0))) ∨ ((¬ ((tm &&& (8 : Int32)) = 0)) ∧ (¬ ((tx &&& (4 : Int32)) = 0)))) ∨ (bt 9 a)))) ht50 rfl rfl ?_
                          refine zv_ci (S' := sI (sI (sI S 156 n (zbo (PX ∨ (((¬ ((tm &&& (1 : Int32)) = 0)) ∧ (¬ ((tx &&& (2 : Int32)) = 0))) ∨ ((¬ ((tm &&& (2 : Int32)) = 0)) ∧ (¬ ((tx &&& (1 : Int32)) = 0)))) ∨ ((¬ ((tm &&& (4 : Int32)) = 0)) ∧ (¬ ((tx &&& (8 : Int32)) = 0))) ∨ ((¬ ((tm &&& (8 : Int32)) = 0)) ∧ (¬ ((tx &&& (4 : Int32)) = 0)))))) 156 n (zbo ((PX ∨ (((¬ ((tm &&& (1 : Int32)) = 0)) ∧ (¬ ((tx &&& (2 : Int32)) = 0))) ∨ ((¬ ((tm &&& (2 : Int32)) = 0)) ∧ (¬ ((tx &&& (1 : Int32)) = 0)))) ∨ ((¬ ((tm &&& (4 : Int32)) = 0)) ∧ (¬ ((tx &&& (8 : Int32)) = 0))) ∨ ((¬ ((tm &&& (8 : Int32)) = 0)) ∧ (¬ ((tx &&& (4 : Int32)) = 0)))) ∨ (bt 9 a)))) 146 n (tm ||| tx)) ht50 rfl rfl ⟨(zhas_of (htn) rfl), (show n < gN S from by omega)⟩ ?_
                          exact zv_rt ht50 rfl rfl rfl rfl (k104 b51)
                        have J99 : ((PX ∨ (((¬ ((tm &&& (1 : Int32)) = 0)) ∧ (¬ ((tx &&& (2 : Int32)) = 0))) ∨ ((¬ ((tm &&& (2 : Int32)) = 0)) ∧ (¬ ((tx &&& (1 : Int32)) = 0)))) ∨ ((¬ ((tm &&& (4 : Int32)) = 0)) ∧ (¬ ((tx &&& (8 : Int32)) = 0))) ∨ ((¬ ((tm &&& (8 : Int32)) = 0)) ∧ (¬ ((tx &&& (4 : Int32)) = 0)))) ∨ (bt 9 a)) → zEv (d - 1) 286 68 [.ref n, .ref x, .retAddr 0] [.ref n] (sI S 156 n (zbo (PX ∨ (((¬ ((tm &&& (1 : Int32)) = 0)) ∧ (¬ ((tx &&& (2 : Int32)) = 0))) ∨ ((¬ ((tm &&& (2 : Int32)) = 0)) ∧ (¬ ((tx &&& (1 : Int32)) = 0)))) ∨ ((¬ ((tm &&& (4 : Int32)) = 0)) ∧ (¬ ((tx &&& (8 : Int32)) = 0))) ∨ ((¬ ((tm &&& (8 : Int32)) = 0)) ∧ (¬ ((tx &&& (4 : Int32)) = 0)))))) pst48 := by
                          intro b100
                          refine zv_c1 ht50 rfl rfl (zv_c1 ht50 rfl rfl ?_)
                          exact (zv_sub (zz := zbo ((PX ∨ (((¬ ((tm &&& (1 : Int32)) = 0)) ∧ (¬ ((tx &&& (2 : Int32)) = 0))) ∨ ((¬ ((tm &&& (2 : Int32)) = 0)) ∧ (¬ ((tx &&& (1 : Int32)) = 0)))) ∨ ((¬ ((tm &&& (4 : Int32)) = 0)) ∧ (¬ ((tx &&& (8 : Int32)) = 0))) ∨ ((¬ ((tm &&& (8 : Int32)) = 0)) ∧ (¬ ((tx &&& (4 : Int32)) = 0)))) ∨ (bt 9 a))) (zy := 1) (p := fun zz => zEv (d - 1) 286 73 [.ref n, .ref x, .retAddr 0] [.int zz, .ref n] (sI S 156 n (zbo (PX ∨ (((¬ ((tm &&& (1 : Int32)) = 0)) ∧ (¬ ((tx &&& (2 : Int32)) = 0))) ∨ ((¬ ((tm &&& (2 : Int32)) = 0)) ∧ (¬ ((tx &&& (1 : Int32)) = 0)))) ∨ ((¬ ((tm &&& (4 : Int32)) = 0)) ∧ (¬ ((tx &&& (8 : Int32)) = 0))) ∨ ((¬ ((tm &&& (8 : Int32)) = 0)) ∧ (¬ ((tx &&& (4 : Int32)) = 0)))))) pst48) (zbo_pos b100) J101)
                        refine zv_br ht50 rfl rfl rfl (fun b97 => ?_) (fun b97 => ?_)
                        · replace b97 : PX ∨ (((¬ ((tm &&& (1 : Int32)) = 0)) ∧ (¬ ((tx &&& (2 : Int32)) = 0))) ∨ ((¬ ((tm &&& (2 : Int32)) = 0)) ∧ (¬ ((tx &&& (1 : Int32)) = 0)))) ∨ ((¬ ((tm &&& (4 : Int32)) = 0)) ∧ (¬ ((tx &&& (8 : Int32)) = 0))) ∨ ((¬ ((tm &&& (8 : Int32)) = 0)) ∧ (¬ ((tx &&& (4 : Int32)) = 0))) := Classical.byContradiction (fun h => b97 ((zbo_eq0 : (zbo (PX ∨ (((¬ ((tm &&& (1 : Int32)) = 0)) ∧ (¬ ((tx &&& (2 : Int32)) = 0))) ∨ ((¬ ((tm &&& (2 : Int32)) = 0)) ∧ (¬ ((tx &&& (1 : Int32)) = 0)))) ∨ ((¬ ((tm &&& (4 : Int32)) = 0)) ∧ (¬ ((tx &&& (8 : Int32)) = 0))) ∨ ((¬ ((tm &&& (8 : Int32)) = 0)) ∧ (¬ ((tx &&& (4 : Int32)) = 0))))) = 0 ↔ ¬ (PX ∨ (((¬ ((tm &&& (1 : Int32)) = 0)) ∧ (¬ ((tx &&& (2 : Int32)) = 0))) ∨ ((¬ ((tm &&& (2 : Int32)) = 0)) ∧ (¬ ((tx &&& (1 : Int32)) = 0)))) ∨ ((¬ ((tm &&& (4 : Int32)) = 0)) ∧ (¬ ((tx &&& (8 : Int32)) = 0))) ∨ ((¬ ((tm &&& (8 : Int32)) = 0)) ∧ (¬ ((tx &&& (4 : Int32)) = 0))))).mpr h))
                          exact (J99 (Or.inl b97))
                        · replace b97 : ¬ (PX ∨ (((¬ ((tm &&& (1 : Int32)) = 0)) ∧ (¬ ((tx &&& (2 : Int32)) = 0))) ∨ ((¬ ((tm &&& (2 : Int32)) = 0)) ∧ (¬ ((tx &&& (1 : Int32)) = 0)))) ∨ ((¬ ((tm &&& (4 : Int32)) = 0)) ∧ (¬ ((tx &&& (8 : Int32)) = 0))) ∨ ((¬ ((tm &&& (8 : Int32)) = 0)) ∧ (¬ ((tx &&& (4 : Int32)) = 0)))) := (zbo_eq0 : (zbo (PX ∨ (((¬ ((tm &&& (1 : Int32)) = 0)) ∧ (¬ ((tx &&& (2 : Int32)) = 0))) ∨ ((¬ ((tm &&& (2 : Int32)) = 0)) ∧ (¬ ((tx &&& (1 : Int32)) = 0)))) ∨ ((¬ ((tm &&& (4 : Int32)) = 0)) ∧ (¬ ((tx &&& (8 : Int32)) = 0))) ∨ ((¬ ((tm &&& (8 : Int32)) = 0)) ∧ (¬ ((tx &&& (4 : Int32)) = 0))))) = 0 ↔ ¬ (PX ∨ (((¬ ((tm &&& (1 : Int32)) = 0)) ∧ (¬ ((tx &&& (2 : Int32)) = 0))) ∨ ((¬ ((tm &&& (2 : Int32)) = 0)) ∧ (¬ ((tx &&& (1 : Int32)) = 0)))) ∨ ((¬ ((tm &&& (4 : Int32)) = 0)) ∧ (¬ ((tx &&& (8 : Int32)) = 0))) ∨ ((¬ ((tm &&& (8 : Int32)) = 0)) ∧ (¬ ((tx &&& (4 : Int32)) = 0))))).mp (Classical.not_not.mp b97)
                          refine zv_c1 ht50 rfl rfl ?_
                          refine zv_ei (x := zbo (bt 9 a)) ht50 rfl rfl (zhas_nc hcx (by decide)) (Eq.trans (gI_sI_ne (by omega)) hmixedx) ?_
                          refine zv_br ht50 rfl rfl rfl (fun b98 => ?_) (fun b98 => ?_)
                          · replace b98 : ¬ (bt 9 a) := (zbo_eq0 : (zbo (bt 9 a)) = 0 ↔ ¬ (bt 9 a)).mp b98
                            refine zv_c1 ht50 rfl rfl ?_
                            exact (zv_sub (zz := zbo ((PX ∨ (((¬ ((tm &&& (1 : Int32)) = 0)) ∧ (¬ ((tx &&& (2 : Int32)) = 0))) ∨ ((¬ ((tm &&& (2 : Int32)) = 0)) ∧ (¬ ((tx &&& (1 : Int32)) = 0)))) ∨ ((¬ ((tm &&& (4 : Int32)) = 0)) ∧ (¬ ((tx &&& (8 : Int32)) = 0))) ∨ ((¬ ((tm &&& (8 : Int32)) = 0)) ∧ (¬ ((tx &&& (4 : Int32)) = 0)))) ∨ (bt 9 a))) (zy := 0) (p := fun zz => zEv (d - 1) 286 73 [.ref n, .ref x, .retAddr 0] [.int zz, .ref n] (sI S 156 n (zbo (PX ∨ (((¬ ((tm &&& (1 : Int32)) = 0)) ∧ (¬ ((tx &&& (2 : Int32)) = 0))) ∨ ((¬ ((tm &&& (2 : Int32)) = 0)) ∧ (¬ ((tx &&& (1 : Int32)) = 0)))) ∨ ((¬ ((tm &&& (4 : Int32)) = 0)) ∧ (¬ ((tx &&& (8 : Int32)) = 0))) ∨ ((¬ ((tm &&& (8 : Int32)) = 0)) ∧ (¬ ((tx &&& (4 : Int32)) = 0)))))) pst48) (zbo_neg (fun h => h.elim b97 b98)) J101)
                          · replace b98 : bt 9 a := Classical.byContradiction (fun h => b98 ((zbo_eq0 : (zbo (bt 9 a)) = 0 ↔ ¬ (bt 9 a)).mpr h))
                            exact (J99 (Or.inr b98))
                      have J87 : (PX ∨ (((¬ ((tm &&& (1 : Int32)) = 0)) ∧ (¬ ((tx &&& (2 : Int32)) = 0))) ∨ ((¬ ((tm &&& (2 : Int32)) = 0)) ∧ (¬ ((tx &&& (1 : Int32)) = 0)))) ∨ ((¬ ((tm &&& (4 : Int32)) = 0)) ∧ (¬ ((tx &&& (8 : Int32)) = 0))) ∨ ((¬ ((tm &&& (8 : Int32)) = 0)) ∧ (¬ ((tx &&& (4 : Int32)) = 0)))) → zEv (d - 1) 286 45 [.ref n, .ref x, .retAddr 0] [.ref n] S pst48 := by
                        intro b88
                        refine zv_c1 ht50 rfl rfl (zv_c1 ht50 rfl rfl ?_)
                        exact (zv_sub (zz := zbo (PX ∨ (((¬ ((tm &&& (1 : Int32)) = 0)) ∧ (¬ ((tx &&& (2 : Int32)) = 0))) ∨ ((¬ ((tm &&& (2 : Int32)) = 0)) ∧ (¬ ((tx &&& (1 : Int32)) = 0)))) ∨ ((¬ ((tm &&& (4 : Int32)) = 0)) ∧ (¬ ((tx &&& (8 : Int32)) = 0))) ∨ ((¬ ((tm &&& (8 : Int32)) = 0)) ∧ (¬ ((tx &&& (4 : Int32)) = 0))))) (zy := 1) (p := fun zz => zEv (d - 1) 286 50 [.ref n, .ref x, .retAddr 0] [.int zz, .ref n] S pst48) (zbo_pos b88) J89)
                      refine zv_br ht50 rfl rfl rfl (fun b52 => ?_) (fun b52 => ?_)
                      · replace b52 : PX := Classical.byContradiction (fun h => b52 ((zbo_eq0 : (zbo PX) = 0 ↔ ¬ PX).mpr h))
                        exact zEv.wk (L := [.ref n, .ref x, .retAddr 0]) (L' := [.ref n, .ref x, .int (zbo (¬ (v ≤ 1)))]) (And.intro (Or.inl rfl) (And.intro (Or.inl rfl) (And.intro (Or.inr rfl) trivial))) (J87 (Or.inl b52))
                      · replace b52 : ¬ PX := (zbo_eq0 : (zbo PX) = 0 ↔ ¬ PX).mp (Classical.not_not.mp b52)
                        refine zv_c1 ht50 rfl rfl ?_
                        refine zv_ei (x := tm) ht50 rfl rfl (zhas_of (htn) rfl) htm ?_
                        refine zv_c1 ht50 rfl rfl ?_
                        refine zv_ei (x := tx) ht50 rfl rfl (zhas_nc hcx (by decide)) htx ?_
                        refine zv_c1 ht50 rfl rfl (zv_c1 ht50 rfl rfl ?_)
                        have C54 : ∀ (pst53 : Outcome × zS → Prop), (pst53 (.returned (some (.int (zbo (((¬ ((tm &&& (1 : Int32)) = 0)) ∧ (¬ ((tx &&& (2 : Int32)) = 0))) ∨ ((¬ ((tm &&& (2 : Int32)) = 0)) ∧ (¬ ((tx &&& (1 : Int32)) = 0))))))), S)) → zCall ((d - 1) - 1) 9 [.int tm, .int tx, .int 1, .int 2] S pst53 := by
                          intro pst53 k68
                          have ht55 : ztab 9 = ztb9 := rfl
                          show zEv ((d - 1) - 1) 9 0 [.int tm, .int tx, .int 1, .int 2] [] S pst53
                          refine zv_c1 ht55 rfl rfl (zv_c1 ht55 rfl rfl ?_)
                          refine zv_c1 (st' := [.int (tm &&& (1 : Int32))]) (S' := S) ht55 rfl rfl ?_
                          have J66 : zEv ((d - 1) - 1) 9 29 [.retAddr 0, .retAddr 0, .retAddr 0, .retAddr 0] [.int (zbo (((¬ ((tm &&& (1 : Int32)) = 0)) ∧ (¬ ((tx &&& (2 : Int32)) = 0))) ∨ ((¬ ((tm &&& (2 : Int32)) = 0)) ∧ (¬ ((tx &&& (1 : Int32)) = 0)))))] S pst53 := by
                            exact zv_rc ht55 rfl rfl rfl rfl zbo_rng k68
                          have J64 : (((¬ ((tm &&& (1 : Int32)) = 0)) ∧ (¬ ((tx &&& (2 : Int32)) = 0))) ∨ ((¬ ((tm &&& (2 : Int32)) = 0)) ∧ (¬ ((tx &&& (1 : Int32)) = 0)))) → zEv ((d - 1) - 1) 9 24 [.retAddr 0, .retAddr 0, .retAddr 0, .retAddr 0] [] S pst53 := by
                            intro b65
                            refine zv_c1 ht55 rfl rfl (zv_c1 ht55 rfl rfl ?_)
                            exact (zv_sub (zz := zbo (((¬ ((tm &&& (1 : Int32)) = 0)) ∧ (¬ ((tx &&& (2 : Int32)) = 0))) ∨ ((¬ ((tm &&& (2 : Int32)) = 0)) ∧ (¬ ((tx &&& (1 : Int32)) = 0))))) (zy := 1) (p := fun zz => zEv ((d - 1) - 1) 9 29 [.retAddr 0, .retAddr 0, .retAddr 0, .retAddr 0] [.int zz] S pst53) (zbo_pos b65) J66)
                          have J58 : (((tm &&& (1 : Int32)) = 0) ∨ ((tx &&& (2 : Int32)) = 0)) → zEv ((d - 1) - 1) 9 12 [.int tm, .int tx, .int 1, .int 2] [] S pst53 := by
                            intro b59
                            refine zv_c1 ht55 rfl rfl (zv_c1 ht55 rfl rfl ?_)
                            refine zv_c1 (st' := [.int (tm &&& (2 : Int32))]) (S' := S) ht55 rfl rfl ?_
                            have J62 : (((tm &&& (2 : Int32)) = 0) ∨ ((tx &&& (1 : Int32)) = 0)) → zEv ((d - 1) - 1) 9 28 [.retAddr 0, .retAddr 0, .retAddr 0, .retAddr 0] [] S pst53 := by
                              intro b63
                              refine zv_c1 ht55 rfl rfl ?_
                              exact (zv_sub (zz := zbo (((¬ ((tm &&& (1 : Int32)) = 0)) ∧ (¬ ((tx &&& (2 : Int32)) = 0))) ∨ ((¬ ((tm &&& (2 : Int32)) = 0)) ∧ (¬ ((tx &&& (1 : Int32)) = 0))))) (zy := 0) (p := fun zz => zEv ((d - 1) - 1) 9 29 [.retAddr 0, .retAddr 0, .retAddr 0, .retAddr 0] [.int zz] S pst53) (zbo_neg (b59.elim (fun y1 => (b63.elim (fun y2 => (fun h => h.elim (fun h => (fun h => h y1) h.1) (fun h => (fun h => h y2) h.1))) (fun y2 => (fun h => h.elim (fun h => (fun h => h y1) h.1) (fun h => (fun h => h y2) h.2))))) (fun y1 => (b63.elim (fun y2 => (fun h => h.elim (fun h => (fun h => h y1) h.2) (fun h => (fun h => h y2) h.1))) (fun y2 => (fun h => h.elim (fun h => (fun h => h y1) h.2) (fun h => (fun h => h y2) h.2))))))) J66)
                            refine zv_br ht55 rfl rfl rfl (fun b60 => ?_) (fun b60 => ?_)
                            · exact zEv.wk (L := [.retAddr 0, .retAddr 0, .retAddr 0, .retAddr 0]) (L' := [.int tm, .int tx, .int 1, .int 2]) (And.intro (Or.inr rfl) (And.intro (Or.inr rfl) (And.intro (Or.inr rfl) (And.intro (Or.inr rfl) trivial)))) (J62 (Or.inl b60))
                            · refine zv_c1 ht55 rfl rfl (zv_c1 ht55 rfl rfl ?_)
                              refine zv_c1 (st' := [.int (tx &&& (1 : Int32))]) (S' := S) ht55 rfl rfl ?_
                              refine zv_br ht55 rfl rfl rfl (fun b61 => ?_) (fun b61 => ?_)
                              · exact zEv.wk (L := [.retAddr 0, .retAddr 0, .retAddr 0, .retAddr 0]) (L' := [.int tm, .int tx, .int 1, .int 2]) (And.intro (Or.inr rfl) (And.intro (Or.inr rfl) (And.intro (Or.inr rfl) (And.intro (Or.inr rfl) trivial)))) (J62 (Or.inr b61))
                              · exact zEv.wk (L := [.retAddr 0, .retAddr 0, .retAddr 0, .retAddr 0]) (L' := [.int tm, .int tx, .int 1, .int 2]) (And.intro (Or.inr rfl) (And.intro (Or.inr rfl) (And.intro (Or.inr rfl) (And.intro (Or.inr rfl) trivial)))) (J64 (Or.inr ⟨b60, b61⟩))
                          refine zv_br ht55 rfl rfl rfl (fun b56 => ?_) (fun b56 => ?_)
                          · exact (J58 (Or.inl b56))
                          · refine zv_c1 ht55 rfl rfl (zv_c1 ht55 rfl rfl ?_)
                            refine zv_c1 (st' := [.int (tx &&& (2 : Int32))]) (S' := S) ht55 rfl rfl ?_
                            refine zv_br ht55 rfl rfl rfl (fun b57 => ?_) (fun b57 => ?_)
                            · exact zEv.wk (L := [.retAddr 0, .retAddr 0, .retAddr 0, .retAddr 0]) (L' := [.int tm, .int tx, .int 1, .int 2]) (And.intro (Or.inr rfl) (And.intro (Or.inr rfl) (And.intro (Or.inr rfl) (And.intro (Or.inr rfl) trivial)))) (J64 (Or.inl ⟨b56, b57⟩))
                            · replace b57 : (tx &&& (2 : Int32)) = 0 := Classical.not_not.mp b57
                              exact (J58 (Or.inr b57))
                        refine zv_cl ht50 rfl rfl rfl rfl (by omega) (Nat.le_of_ble_eq_true rfl) (C54 _ ?_)
                        show zEv (d - 1) 286 25 [.ref n, .ref x, .int (zbo (¬ (v ≤ 1)))] [.int (zbo (((¬ ((tm &&& (1 : Int32)) = 0)) ∧ (¬ ((tx &&& (2 : Int32)) = 0))) ∨ ((¬ ((tm &&& (2 : Int32)) = 0)) ∧ (¬ ((tx &&& (1 : Int32)) = 0))))), .ref n] S pst48
                        refine zv_br ht50 rfl rfl rfl (fun b69 => ?_) (fun b69 => ?_)
                        · replace b69 : ((¬ ((tm &&& (1 : Int32)) = 0)) ∧ (¬ ((tx &&& (2 : Int32)) = 0))) ∨ ((¬ ((tm &&& (2 : Int32)) = 0)) ∧ (¬ ((tx &&& (1 : Int32)) = 0))) := Classical.byContradiction (fun h => b69 ((zbo_eq0 : (zbo (((¬ ((tm &&& (1 : Int32)) = 0)) ∧ (¬ ((tx &&& (2 : Int32)) = 0))) ∨ ((¬ ((tm &&& (2 : Int32)) = 0)) ∧ (¬ ((tx &&& (1 : Int32)) = 0))))) = 0 ↔ ¬ (((¬ ((tm &&& (1 : Int32)) = 0)) ∧ (¬ ((tx &&& (2 : Int32)) = 0))) ∨ ((¬ ((tm &&& (2 : Int32)) = 0)) ∧ (¬ ((tx &&& (1 : Int32)) = 0))))).mpr h))
                          exact zEv.wk (L := [.ref n, .ref x, .retAddr 0]) (L' := [.ref n, .ref x, .int (zbo (¬ (v ≤ 1)))]) (And.intro (Or.inl rfl) (And.intro (Or.inl rfl) (And.intro (Or.inr rfl) trivial))) (J87 (Or.inr (Or.inl b69)))
                        · replace b69 : ¬ (((¬ ((tm &&& (1 : Int32)) = 0)) ∧ (¬ ((tx &&& (2 : Int32)) = 0))) ∨ ((¬ ((tm &&& (2 : Int32)) = 0)) ∧ (¬ ((tx &&& (1 : Int32)) = 0)))) := (zbo_eq0 : (zbo (((¬ ((tm &&& (1 : Int32)) = 0)) ∧ (¬ ((tx &&& (2 : Int32)) = 0))) ∨ ((¬ ((tm &&& (2 : Int32)) = 0)) ∧ (¬ ((tx &&& (1 : Int32)) = 0))))) = 0 ↔ ¬ (((¬ ((tm &&& (1 : Int32)) = 0)) ∧ (¬ ((tx &&& (2 : Int32)) = 0))) ∨ ((¬ ((tm &&& (2 : Int32)) = 0)) ∧ (¬ ((tx &&& (1 : Int32)) = 0))))).mp (Classical.not_not.mp b69)
                          refine zv_c1 ht50 rfl rfl ?_
                          refine zv_ei (x := tm) ht50 rfl rfl (zhas_of (htn) rfl) htm ?_
                          refine zv_c1 ht50 rfl rfl ?_
                          refine zv_ei (x := tx) ht50 rfl rfl (zhas_nc hcx (by decide)) htx ?_
                          refine zv_c1 ht50 rfl rfl (zv_c1 ht50 rfl rfl ?_)
                          have C71 : ∀ (pst70 : Outcome × zS → Prop), (pst70 (.returned (some (.int (zbo (((¬ ((tm &&& (4 : Int32)) = 0)) ∧ (¬ ((tx &&& (8 : Int32)) = 0))) ∨ ((¬ ((tm &&& (8 : Int32)) = 0)) ∧ (¬ ((tx &&& (4 : Int32)) = 0))))))), S)) → zCall ((d - 1) - 1) 9 [.int tm, .int tx, .int 4, .int 8] S pst70 := by
                            intro pst70 k85
                            have ht72 : ztab 9 = ztb9 := rfl
                            show zEv ((d - 1) - 1) 9 0 [.int tm, .int tx, .int 4, .int 8] [] S pst70
                            refine zv_c1 ht72 rfl rfl (zv_c1 ht72 rfl rfl ?_)
                            refine zv_c1 (st' := [.int (tm &&& (4 : Int32))]) (S' := S) ht72 rfl rfl ?_
                            have J83 : zEv ((d - 1) - 1) 9 29 [.retAddr 0, .retAddr 0, .retAddr 0, .retAddr 0] [.int (zbo (((¬ ((tm &&& (4 : Int32)) = 0)) ∧ (¬ ((tx &&& (8 : Int32)) = 0))) ∨ ((¬ ((tm &&& (8 : Int32)) = 0)) ∧ (¬ ((tx &&& (4 : Int32)) = 0)))))] S pst70 := by
                              exact zv_rc ht72 rfl rfl rfl rfl zbo_rng k85
                            have J81 : (((¬ ((tm &&& (4 : Int32)) = 0)) ∧ (¬ ((tx &&& (8 : Int32)) = 0))) ∨ ((¬ ((tm &&& (8 : Int32)) = 0)) ∧ (¬ ((tx &&& (4 : Int32)) = 0)))) → zEv ((d - 1) - 1) 9 24 [.retAddr 0, .retAddr 0, .retAddr 0, .retAddr 0] [] S pst70 := by
                              intro b82
                              refine zv_c1 ht72 rfl rfl (zv_c1 ht72 rfl rfl ?_)
                              exact (zv_sub (zz := zbo (((¬ ((tm &&& (4 : Int32)) = 0)) ∧ (¬ ((tx &&& (8 : Int32)) = 0))) ∨ ((¬ ((tm &&& (8 : Int32)) = 0)) ∧ (¬ ((tx &&& (4 : Int32)) = 0))))) (zy := 1) (p := fun zz => zEv ((d - 1) - 1) 9 29 [.retAddr 0, .retAddr 0, .retAddr 0, .retAddr 0] [.int zz] S pst70) (zbo_pos b82) J83)
                            have J75 : (((tm &&& (4 : Int32)) = 0) ∨ ((tx &&& (8 : Int32)) = 0)) → zEv ((d - 1) - 1) 9 12 [.int tm, .int tx, .int 4, .int 8] [] S pst70 := by
                              intro b76
                              refine zv_c1 ht72 rfl rfl (zv_c1 ht72 rfl rfl ?_)
                              refine zv_c1 (st' := [.int (tm &&& (8 : Int32))]) (S' := S) ht72 rfl rfl ?_
                              have J79 : (((tm &&& (8 : Int32)) = 0) ∨ ((tx &&& (4 : Int32)) = 0)) → zEv ((d - 1) - 1) 9 28 [.retAddr 0, .retAddr 0, .retAddr 0, .retAddr 0] [] S pst70 := by
                                intro b80
                                refine zv_c1 ht72 rfl rfl ?_
                                exact (zv_sub (zz := zbo (((¬ ((tm &&& (4 : Int32)) = 0)) ∧ (¬ ((tx &&& (8 : Int32)) = 0))) ∨ ((¬ ((tm &&& (8 : Int32)) = 0)) ∧ (¬ ((tx &&& (4 : Int32)) = 0))))) (zy := 0) (p := fun zz => zEv ((d - 1) - 1) 9 29 [.retAddr 0, .retAddr 0, .retAddr 0, .retAddr 0] [.int zz] S pst70) (zbo_neg (b76.elim (fun y1 => (b80.elim (fun y2 => (fun h => h.elim (fun h => (fun h => h y1) h.1) (fun h => (fun h => h y2) h.1))) (fun y2 => (fun h => h.elim (fun h => (fun h => h y1) h.1) (fun h => (fun h => h y2) h.2))))) (fun y1 => (b80.elim (fun y2 => (fun h => h.elim (fun h => (fun h => h y1) h.2) (fun h => (fun h => h y2) h.1))) (fun y2 => (fun h => h.elim (fun h => (fun h => h y1) h.2) (fun h => (fun h => h y2) h.2))))))) J83)
                              refine zv_br ht72 rfl rfl rfl (fun b77 => ?_) (fun b77 => ?_)
                              · exact zEv.wk (L := [.retAddr 0, .retAddr 0, .retAddr 0, .retAddr 0]) (L' := [.int tm, .int tx, .int 4, .int 8]) (And.intro (Or.inr rfl) (And.intro (Or.inr rfl) (And.intro (Or.inr rfl) (And.intro (Or.inr rfl) trivial)))) (J79 (Or.inl b77))
                              · refine zv_c1 ht72 rfl rfl (zv_c1 ht72 rfl rfl ?_)
                                refine zv_c1 (st' := [.int (tx &&& (4 : Int32))]) (S' := S) ht72 rfl rfl ?_
                                refine zv_br ht72 rfl rfl rfl (fun b78 => ?_) (fun b78 => ?_)
                                · exact zEv.wk (L := [.retAddr 0, .retAddr 0, .retAddr 0, .retAddr 0]) (L' := [.int tm, .int tx, .int 4, .int 8]) (And.intro (Or.inr rfl) (And.intro (Or.inr rfl) (And.intro (Or.inr rfl) (And.intro (Or.inr rfl) trivial)))) (J79 (Or.inr b78))
                                · exact zEv.wk (L := [.retAddr 0, .retAddr 0, .retAddr 0, .retAddr 0]) (L' := [.int tm, .int tx, .int 4, .int 8]) (And.intro (Or.inr rfl) (And.intro (Or.inr rfl) (And.intro (Or.inr rfl) (And.intro (Or.inr rfl) trivial)))) (J81 (Or.inr ⟨b77, b78⟩))
                            refine zv_br ht72 rfl rfl rfl (fun b73 => ?_) (fun b73 => ?_)
                            · exact (J75 (Or.inl b73))
                            · refine zv_c1 ht72 rfl rfl (zv_c1 ht72 rfl rfl ?_)
                              refine zv_c1 (st' := [.int (tx &&& (8 : Int32))]) (S' := S) ht72 rfl rfl ?_
                              refine zv_br ht72 rfl rfl rfl (fun b74 => ?_) (fun b74 => ?_)
                              · exact zEv.wk (L := [.retAddr 0, .retAddr 0, .retAddr 0, .retAddr 0]) (L' := [.int tm, .int tx, .int 4, .int 8]) (And.intro (Or.inr rfl) (And.intro (Or.inr rfl) (And.intro (Or.inr rfl) (And.intro (Or.inr rfl) trivial)))) (J81 (Or.inl ⟨b73, b74⟩))
                              · replace b74 : (tx &&& (8 : Int32)) = 0 := Classical.not_not.mp b74
                                exact (J75 (Or.inr b74))
                          refine zv_cl ht50 rfl rfl rfl rfl (by omega) (Nat.le_of_ble_eq_true rfl) (C71 _ ?_)
                          show zEv (d - 1) 286 42 [.ref n, .ref x, .int (zbo (¬ (v ≤ 1)))] [.int (zbo (((¬ ((tm &&& (4 : Int32)) = 0)) ∧ (¬ ((tx &&& (8 : Int32)) = 0))) ∨ ((¬ ((tm &&& (8 : Int32)) = 0)) ∧ (¬ ((tx &&& (4 : Int32)) = 0))))), .ref n] S pst48
                          refine zv_br ht50 rfl rfl rfl (fun b86 => ?_) (fun b86 => ?_)
                          · replace b86 : ¬ (((¬ ((tm &&& (4 : Int32)) = 0)) ∧ (¬ ((tx &&& (8 : Int32)) = 0))) ∨ ((¬ ((tm &&& (8 : Int32)) = 0)) ∧ (¬ ((tx &&& (4 : Int32)) = 0)))) := (zbo_eq0 : (zbo (((¬ ((tm &&& (4 : Int32)) = 0)) ∧ (¬ ((tx &&& (8 : Int32)) = 0))) ∨ ((¬ ((tm &&& (8 : Int32)) = 0)) ∧ (¬ ((tx &&& (4 : Int32)) = 0))))) = 0 ↔ ¬ (((¬ ((tm &&& (4 : Int32)) = 0)) ∧ (¬ ((tx &&& (8 : Int32)) = 0))) ∨ ((¬ ((tm &&& (8 : Int32)) = 0)) ∧ (¬ ((tx &&& (4 : Int32)) = 0))))).mp b86
                            refine zv_c1 ht50 rfl rfl ?_
                            exact zEv.wk (L := [.ref n, .ref x, .retAddr 0]) (L' := [.ref n, .ref x, .int (zbo (¬ (v ≤ 1)))]) (And.intro (Or.inl rfl) (And.intro (Or.inl rfl) (And.intro (Or.inr rfl) trivial))) (zv_sub (zz := zbo (PX ∨ (((¬ ((tm &&& (1 : Int32)) = 0)) ∧ (¬ ((tx &&& (2 : Int32)) = 0))) ∨ ((¬ ((tm &&& (2 : Int32)) = 0)) ∧ (¬ ((tx &&& (1 : Int32)) = 0)))) ∨ ((¬ ((tm &&& (4 : Int32)) = 0)) ∧ (¬ ((tx &&& (8 : Int32)) = 0))) ∨ ((¬ ((tm &&& (8 : Int32)) = 0)) ∧ (¬ ((tx &&& (4 : Int32)) = 0))))) (zy := 0) (p := fun zz => zEv (d - 1) 286 50 [.ref n, .ref x, .retAddr 0] [.int zz, .ref n] S pst48) (zbo_neg (fun h => h.elim b52 (fun h => h.elim b69 b86))) J89)
                          · replace b86 : ((¬ ((tm &&& (4 : Int32)) = 0)) ∧ (¬ ((tx &&& (8 : Int32)) = 0))) ∨ ((¬ ((tm &&& (8 : Int32)) = 0)) ∧ (¬ ((tx &&& (4 : Int32)) = 0))) := Classical.byContradiction (fun h => b86 ((zbo_eq0 : (zbo (((¬ ((tm &&& (4 : Int32)) = 0)) ∧ (¬ ((tx &&& (8 : Int32)) = 0))) ∨ ((¬ ((tm &&& (8 : Int32)) = 0)) ∧ (¬ ((tx &&& (4 : Int32)) = 0))))) = 0 ↔ ¬ (((¬ ((tm &&& (4 : Int32)) = 0)) ∧ (¬ ((tx &&& (8 : Int32)) = 0))) ∨ ((¬ ((tm &&& (8 : Int32)) = 0)) ∧ (¬ ((tx &&& (4 : Int32)) = 0))))).mpr h))
                            exact zEv.wk (L := [.ref n, .ref x, .retAddr 0]) (L' := [.ref n, .ref x, .int (zbo (¬ (v ≤ 1)))]) (And.intro (Or.inl rfl) (And.intro (Or.inl rfl) (And.intro (Or.inr rfl) trivial))) (J87 (Or.inr (Or.inr b86)))
                  refine zv_cl ht rfl rfl rfl (zv_tgv (htn) rfl) (by omega) (Nat.le_of_ble_eq_true rfl) (C49 _ (fun b51 => ?_) (fun b51 => ?_))
                  · show zEv d 348 200 [.ref n, .int (zbo (PZ ∧ (bt 0 a))), .int (zbo (PE ∧ (bt 7 a))), .int (zbo (PM ∧ (bt 8 a))), .int (Int32.ofNat (znt (bt 0 a) on (on + (zbn (bt 1 a))))), .int (Int32.ofNat (ot + (zbn (¬ (bt 0 a))))), .int (Int32.ofNat (un + (zbn (¬ (bt 5 a))))), .int (Int32.ofNat k), .retAddr 0] [] (sI (sI S 156 n (zbo (PX ∨ (bt 9 a)))) 146 n (tm ||| tx)) post
                    refine zv_iinc (L' := [.ref n, .int (zbo (PZ ∧ (bt 0 a))), .int (zbo (PE ∧ (bt 7 a))), .int (zbo (PM ∧ (bt 8 a))), .int (Int32.ofNat (znt (bt 0 a) on (on + (zbn (bt 1 a))))), .int (Int32.ofNat (ot + (zbn (¬ (bt 0 a))))), .int (Int32.ofNat (un + (zbn (¬ (bt 5 a))))), .int (Int32.ofNat (k + 1)), .retAddr 0]) (i := 7) (x := Int32.ofNat (k + 1)) ht rfl rfl (zi_addE (a := k) (b := 1) rfl rfl) rfl ?_
                    refine zv_c1 ht rfl rfl ?_
                    exact (h1 b14 b51)
                  · show zEv d 348 200 [.ref n, .int (zbo (PZ ∧ (bt 0 a))), .int (zbo (PE ∧ (bt 7 a))), .int (zbo (PM ∧ (bt 8 a))), .int (Int32.ofNat (znt (bt 0 a) on (on + (zbn (bt 1 a))))), .int (Int32.ofNat (ot + (zbn (¬ (bt 0 a))))), .int (Int32.ofNat (un + (zbn (¬ (bt 5 a))))), .int (Int32.ofNat k), .retAddr 0] [] (sI (sI (sI S 156 n (zbo (PX ∨ (((¬ ((tm &&& (1 : Int32)) = 0)) ∧ (¬ ((tx &&& (2 : Int32)) = 0))) ∨ ((¬ ((tm &&& (2 : Int32)) = 0)) ∧ (¬ ((tx &&& (1 : Int32)) = 0)))) ∨ ((¬ ((tm &&& (4 : Int32)) = 0)) ∧ (¬ ((tx &&& (8 : Int32)) = 0))) ∨ ((¬ ((tm &&& (8 : Int32)) = 0)) ∧ (¬ ((tx &&& (4 : Int32)) = 0)))))) 156 n (zbo ((PX ∨ (((¬ ((tm &&& (1 : Int32)) = 0)) ∧ (¬ ((tx &&& (2 : Int32)) = 0))) ∨ ((¬ ((tm &&& (2 : Int32)) = 0)) ∧ (¬ ((tx &&& (1 : Int32)) = 0)))) ∨ ((¬ ((tm &&& (4 : Int32)) = 0)) ∧ (¬ ((tx &&& (8 : Int32)) = 0))) ∨ ((¬ ((tm &&& (8 : Int32)) = 0)) ∧ (¬ ((tx &&& (4 : Int32)) = 0)))) ∨ (bt 9 a)))) 146 n (tm ||| tx)) post
                    refine zv_iinc (L' := [.ref n, .int (zbo (PZ ∧ (bt 0 a))), .int (zbo (PE ∧ (bt 7 a))), .int (zbo (PM ∧ (bt 8 a))), .int (Int32.ofNat (znt (bt 0 a) on (on + (zbn (bt 1 a))))), .int (Int32.ofNat (ot + (zbn (¬ (bt 0 a))))), .int (Int32.ofNat (un + (zbn (¬ (bt 5 a))))), .int (Int32.ofNat (k + 1)), .retAddr 0]) (i := 7) (x := Int32.ofNat (k + 1)) ht rfl rfl (zi_addE (a := k) (b := 1) rfl rfl) rfl ?_
                    refine zv_c1 ht rfl rfl ?_
                    exact (h2 b14 b51)
                refine zv_br ht rfl rfl rfl (fun b45 => ?_) (fun b45 => ?_)
                · replace b45 : v ≤ 1 := (zi_leE (a := v) (b := 1) rfl rfl (by omega) (by omega)).mp b45
                  refine zv_c1 ht rfl rfl ?_
                  exact zEv.wk (L := [.ref n, .int (zbo (PZ ∧ (bt 0 a))), .int (zbo (PE ∧ (bt 7 a))), .int (zbo (PM ∧ (bt 8 a))), .int (Int32.ofNat (znt (bt 0 a) on (on + (zbn (bt 1 a))))), .int (Int32.ofNat (ot + (zbn (¬ (bt 0 a))))), .int (Int32.ofNat (un + (zbn (¬ (bt 5 a))))), .int (Int32.ofNat k), .retAddr 0]) (L' := [.ref n, .int (zbo (PZ ∧ (bt 0 a))), .int (zbo (PE ∧ (bt 7 a))), .int (zbo (PM ∧ (bt 8 a))), .int (Int32.ofNat (znt (bt 0 a) on (on + (zbn (bt 1 a))))), .int (Int32.ofNat (ot + (zbn (¬ (bt 0 a))))), .int (Int32.ofNat (un + (zbn (¬ (bt 5 a))))), .int (Int32.ofNat k), .ref x]) (And.intro (Or.inl rfl) (And.intro (Or.inl rfl) (And.intro (Or.inl rfl) (And.intro (Or.inl rfl) (And.intro (Or.inl rfl) (And.intro (Or.inl rfl) (And.intro (Or.inl rfl) (And.intro (Or.inl rfl) (And.intro (Or.inr rfl) trivial))))))))) (zv_sub (zz := zbo (¬ (v ≤ 1))) (zy := 0) (p := fun zz => zEv d 348 197 [.ref n, .int (zbo (PZ ∧ (bt 0 a))), .int (zbo (PE ∧ (bt 7 a))), .int (zbo (PM ∧ (bt 8 a))), .int (Int32.ofNat (znt (bt 0 a) on (on + (zbn (bt 1 a))))), .int (Int32.ofNat (ot + (zbn (¬ (bt 0 a))))), .int (Int32.ofNat (un + (zbn (¬ (bt 5 a))))), .int (Int32.ofNat k), .retAddr 0] [.int zz, .ref x, .ref n] S post) (zbo_neg (fun h => h b45)) J46)
                · replace b45 : ¬ (v ≤ 1) := fun h => b45 ((zi_leE (a := v) (b := 1) rfl rfl (by omega) (by omega)).mpr h)
                  refine zv_c1 ht rfl rfl (zv_c1 ht rfl rfl ?_)
                  exact zEv.wk (L := [.ref n, .int (zbo (PZ ∧ (bt 0 a))), .int (zbo (PE ∧ (bt 7 a))), .int (zbo (PM ∧ (bt 8 a))), .int (Int32.ofNat (znt (bt 0 a) on (on + (zbn (bt 1 a))))), .int (Int32.ofNat (ot + (zbn (¬ (bt 0 a))))), .int (Int32.ofNat (un + (zbn (¬ (bt 5 a))))), .int (Int32.ofNat k), .retAddr 0]) (L' := [.ref n, .int (zbo (PZ ∧ (bt 0 a))), .int (zbo (PE ∧ (bt 7 a))), .int (zbo (PM ∧ (bt 8 a))), .int (Int32.ofNat (znt (bt 0 a) on (on + (zbn (bt 1 a))))), .int (Int32.ofNat (ot + (zbn (¬ (bt 0 a))))), .int (Int32.ofNat (un + (zbn (¬ (bt 5 a))))), .int (Int32.ofNat k), .ref x]) (And.intro (Or.inl rfl) (And.intro (Or.inl rfl) (And.intro (Or.inl rfl) (And.intro (Or.inl rfl) (And.intro (Or.inl rfl) (And.intro (Or.inl rfl) (And.intro (Or.inl rfl) (And.intro (Or.inl rfl) (And.intro (Or.inr rfl) trivial))))))))) (zv_sub (zz := zbo (¬ (v ≤ 1))) (zy := 1) (p := fun zz => zEv d 348 197 [.ref n, .int (zbo (PZ ∧ (bt 0 a))), .int (zbo (PE ∧ (bt 7 a))), .int (zbo (PM ∧ (bt 8 a))), .int (Int32.ofNat (znt (bt 0 a) on (on + (zbn (bt 1 a))))), .int (Int32.ofNat (ot + (zbn (¬ (bt 0 a))))), .int (Int32.ofNat (un + (zbn (¬ (bt 5 a))))), .int (Int32.ofNat k), .retAddr 0] [.int zz, .ref x, .ref n] S post) (zbo_pos b45) J46)
              have J41 : ((¬ PM) ∨ (¬ (bt 8 a))) → zEv d 348 179 [.ref n, .int (zbo (PZ ∧ (bt 0 a))), .int (zbo (PE ∧ (bt 7 a))), .retAddr 0, .int (Int32.ofNat (znt (bt 0 a) on (on + (zbn (bt 1 a))))), .int (Int32.ofNat (ot + (zbn (¬ (bt 0 a))))), .int (Int32.ofNat (un + (zbn (¬ (bt 5 a))))), .int (Int32.ofNat k), .ref x] [] S post := by
                intro b42
                refine zv_c1 ht rfl rfl ?_
                exact (zv_sub (zz := zbo (PM ∧ (bt 8 a))) (zy := 0) (p := fun zz => zEv d 348 180 [.ref n, .int (zbo (PZ ∧ (bt 0 a))), .int (zbo (PE ∧ (bt 7 a))), .retAddr 0, .int (Int32.ofNat (znt (bt 0 a) on (on + (zbn (bt 1 a))))), .int (Int32.ofNat (ot + (zbn (¬ (bt 0 a))))), .int (Int32.ofNat (un + (zbn (¬ (bt 5 a))))), .int (Int32.ofNat k), .ref x] [.int zz] S post) (zbo_neg (b42.elim (fun y1 => (fun h => y1 h.1)) (fun y1 => (fun h => y1 h.2)))) J43)
              refine zv_br ht rfl rfl rfl (fun b39 => ?_) (fun b39 => ?_)
              · replace b39 : ¬ PM := (zbo_eq0 : (zbo PM) = 0 ↔ ¬ PM).mp b39
                exact zEv.wk (L := [.ref n, .int (zbo (PZ ∧ (bt 0 a))), .int (zbo (PE ∧ (bt 7 a))), .retAddr 0, .int (Int32.ofNat (znt (bt 0 a) on (on + (zbn (bt 1 a))))), .int (Int32.ofNat (ot + (zbn (¬ (bt 0 a))))), .int (Int32.ofNat (un + (zbn (¬ (bt 5 a))))), .int (Int32.ofNat k), .ref x]) (L' := [.ref n, .int (zbo (PZ ∧ (bt 0 a))), .int (zbo (PE ∧ (bt 7 a))), .int (zbo PM), .int (Int32.ofNat (znt (bt 0 a) on (on + (zbn (bt 1 a))))), .int (Int32.ofNat (ot + (zbn (¬ (bt 0 a))))), .int (Int32.ofNat (un + (zbn (¬ (bt 5 a))))), .int (Int32.ofNat k), .ref x]) (And.intro (Or.inl rfl) (And.intro (Or.inl rfl) (And.intro (Or.inl rfl) (And.intro (Or.inr rfl) (And.intro (Or.inl rfl) (And.intro (Or.inl rfl) (And.intro (Or.inl rfl) (And.intro (Or.inl rfl) (And.intro (Or.inl rfl) trivial))))))))) (J41 (Or.inl b39))
              · replace b39 : PM := Classical.byContradiction (fun h => b39 ((zbo_eq0 : (zbo PM) = 0 ↔ ¬ PM).mpr h))
                refine zv_c1 ht rfl rfl ?_
                refine zv_ei (x := zbo (bt 8 a)) ht rfl rfl (zhas_nc hcx (by decide)) hmx ?_
                refine zv_br ht rfl rfl rfl (fun b40 => ?_) (fun b40 => ?_)
                · replace b40 : ¬ (bt 8 a) := (zbo_eq0 : (zbo (bt 8 a)) = 0 ↔ ¬ (bt 8 a)).mp b40
                  exact zEv.wk (L := [.ref n, .int (zbo (PZ ∧ (bt 0 a))), .int (zbo (PE ∧ (bt 7 a))), .retAddr 0, .int (Int32.ofNat (znt (bt 0 a) on (on + (zbn (bt 1 a))))), .int (Int32.ofNat (ot + (zbn (¬ (bt 0 a))))), .int (Int32.ofNat (un + (zbn (¬ (bt 5 a))))), .int (Int32.ofNat k), .ref x]) (L' := [.ref n, .int (zbo (PZ ∧ (bt 0 a))), .int (zbo (PE ∧ (bt 7 a))), .int (zbo PM), .int (Int32.ofNat (znt (bt 0 a) on (on + (zbn (bt 1 a))))), .int (Int32.ofNat (ot + (zbn (¬ (bt 0 a))))), .int (Int32.ofNat (un + (zbn (¬ (bt 5 a))))), .int (Int32.ofNat k), .ref x]) (And.intro (Or.inl rfl) (And.intro (Or.inl rfl) (And.intro (Or.inl rfl) (And.intro (Or.inr rfl) (And.intro (Or.inl rfl) (And.intro (Or.inl rfl) (And.intro (Or.inl rfl) (And.intro (Or.inl rfl) (And.intro (Or.inl rfl) trivial))))))))) (J41 (Or.inr b40))
                · replace b40 : bt 8 a := Classical.byContradiction (fun h => b40 ((zbo_eq0 : (zbo (bt 8 a)) = 0 ↔ ¬ (bt 8 a)).mpr h))
                  refine zv_c1 ht rfl rfl (zv_c1 ht rfl rfl ?_)
                  exact zEv.wk (L := [.ref n, .int (zbo (PZ ∧ (bt 0 a))), .int (zbo (PE ∧ (bt 7 a))), .retAddr 0, .int (Int32.ofNat (znt (bt 0 a) on (on + (zbn (bt 1 a))))), .int (Int32.ofNat (ot + (zbn (¬ (bt 0 a))))), .int (Int32.ofNat (un + (zbn (¬ (bt 5 a))))), .int (Int32.ofNat k), .ref x]) (L' := [.ref n, .int (zbo (PZ ∧ (bt 0 a))), .int (zbo (PE ∧ (bt 7 a))), .int (zbo PM), .int (Int32.ofNat (znt (bt 0 a) on (on + (zbn (bt 1 a))))), .int (Int32.ofNat (ot + (zbn (¬ (bt 0 a))))), .int (Int32.ofNat (un + (zbn (¬ (bt 5 a))))), .int (Int32.ofNat k), .ref x]) (And.intro (Or.inl rfl) (And.intro (Or.inl rfl) (And.intro (Or.inl rfl) (And.intro (Or.inr rfl) (And.intro (Or.inl rfl) (And.intro (Or.inl rfl) (And.intro (Or.inl rfl) (And.intro (Or.inl rfl) (And.intro (Or.inl rfl) trivial))))))))) (zv_sub (zz := zbo (PM ∧ (bt 8 a))) (zy := 1) (p := fun zz => zEv d 348 180 [.ref n, .int (zbo (PZ ∧ (bt 0 a))), .int (zbo (PE ∧ (bt 7 a))), .retAddr 0, .int (Int32.ofNat (znt (bt 0 a) on (on + (zbn (bt 1 a))))), .int (Int32.ofNat (ot + (zbn (¬ (bt 0 a))))), .int (Int32.ofNat (un + (zbn (¬ (bt 5 a))))), .int (Int32.ofNat k), .ref x] [.int zz] S post) (zbo_pos ⟨b39, b40⟩) J43)
            have J35 : ((¬ PE) ∨ (¬ (bt 7 a))) → zEv d 348 161 [.ref n, .int (zbo (PZ ∧ (bt 0 a))), .retAddr 0, .int (zbo PM), .int (Int32.ofNat (znt (bt 0 a) on (on + (zbn (bt 1 a))))), .int (Int32.ofNat (ot + (zbn (¬ (bt 0 a))))), .int (Int32.ofNat (un + (zbn (¬ (bt 5 a))))), .int (Int32.ofNat k), .ref x] [] S post := by
              intro b36
              refine zv_c1 ht rfl rfl ?_
              exact (zv_sub (zz := zbo (PE ∧ (bt 7 a))) (zy := 0) (p := fun zz => zEv d 348 162 [.ref n, .int (zbo (PZ ∧ (bt 0 a))), .retAddr 0, .int (zbo PM), .int (Int32.ofNat (znt (bt 0 a) on (on + (zbn (bt 1 a))))), .int (Int32.ofNat (ot + (zbn (¬ (bt 0 a))))), .int (Int32.ofNat (un + (zbn (¬ (bt 5 a))))), .int (Int32.ofNat k), .ref x] [.int zz] S post) (zbo_neg (b36.elim (fun y1 => (fun h => y1 h.1)) (fun y1 => (fun h => y1 h.2)))) J37)
            refine zv_br ht rfl rfl rfl (fun b33 => ?_) (fun b33 => ?_)
            · replace b33 : ¬ PE := (zbo_eq0 : (zbo PE) = 0 ↔ ¬ PE).mp b33
              exact zEv.wk (L := [.ref n, .int (zbo (PZ ∧ (bt 0 a))), .retAddr 0, .int (zbo PM), .int (Int32.ofNat (znt (bt 0 a) on (on + (zbn (bt 1 a))))), .int (Int32.ofNat (ot + (zbn (¬ (bt 0 a))))), .int (Int32.ofNat (un + (zbn (¬ (bt 5 a))))), .int (Int32.ofNat k), .ref x]) (L' := [.ref n, .int (zbo (PZ ∧ (bt 0 a))), .int (zbo PE), .int (zbo PM), .int (Int32.ofNat (znt (bt 0 a) on (on + (zbn (bt 1 a))))), .int (Int32.ofNat (ot + (zbn (¬ (bt 0 a))))), .int (Int32.ofNat (un + (zbn (¬ (bt 5 a))))), .int (Int32.ofNat k), .ref x]) (And.intro (Or.inl rfl) (And.intro (Or.inl rfl) (And.intro (Or.inr rfl) (And.intro (Or.inl rfl) (And.intro (Or.inl rfl) (And.intro (Or.inl rfl) (And.intro (Or.inl rfl) (And.intro (Or.inl rfl) (And.intro (Or.inl rfl) trivial))))))))) (J35 (Or.inl b33))
            · replace b33 : PE := Classical.byContradiction (fun h => b33 ((zbo_eq0 : (zbo PE) = 0 ↔ ¬ PE).mpr h))
              refine zv_c1 ht rfl rfl ?_
              refine zv_ei (x := zbo (bt 7 a)) ht rfl rfl (zhas_nc hcx (by decide)) hex ?_
              refine zv_br ht rfl rfl rfl (fun b34 => ?_) (fun b34 => ?_)
              · replace b34 : ¬ (bt 7 a) := (zbo_eq0 : (zbo (bt 7 a)) = 0 ↔ ¬ (bt 7 a)).mp b34
                exact zEv.wk (L := [.ref n, .int (zbo (PZ ∧ (bt 0 a))), .retAddr 0, .int (zbo PM), .int (Int32.ofNat (znt (bt 0 a) on (on + (zbn (bt 1 a))))), .int (Int32.ofNat (ot + (zbn (¬ (bt 0 a))))), .int (Int32.ofNat (un + (zbn (¬ (bt 5 a))))), .int (Int32.ofNat k), .ref x]) (L' := [.ref n, .int (zbo (PZ ∧ (bt 0 a))), .int (zbo PE), .int (zbo PM), .int (Int32.ofNat (znt (bt 0 a) on (on + (zbn (bt 1 a))))), .int (Int32.ofNat (ot + (zbn (¬ (bt 0 a))))), .int (Int32.ofNat (un + (zbn (¬ (bt 5 a))))), .int (Int32.ofNat k), .ref x]) (And.intro (Or.inl rfl) (And.intro (Or.inl rfl) (And.intro (Or.inr rfl) (And.intro (Or.inl rfl) (And.intro (Or.inl rfl) (And.intro (Or.inl rfl) (And.intro (Or.inl rfl) (And.intro (Or.inl rfl) (And.intro (Or.inl rfl) trivial))))))))) (J35 (Or.inr b34))
              · replace b34 : bt 7 a := Classical.byContradiction (fun h => b34 ((zbo_eq0 : (zbo (bt 7 a)) = 0 ↔ ¬ (bt 7 a)).mpr h))
                refine zv_c1 ht rfl rfl (zv_c1 ht rfl rfl ?_)
                exact zEv.wk (L := [.ref n, .int (zbo (PZ ∧ (bt 0 a))), .retAddr 0, .int (zbo PM), .int (Int32.ofNat (znt (bt 0 a) on (on + (zbn (bt 1 a))))), .int (Int32.ofNat (ot + (zbn (¬ (bt 0 a))))), .int (Int32.ofNat (un + (zbn (¬ (bt 5 a))))), .int (Int32.ofNat k), .ref x]) (L' := [.ref n, .int (zbo (PZ ∧ (bt 0 a))), .int (zbo PE), .int (zbo PM), .int (Int32.ofNat (znt (bt 0 a) on (on + (zbn (bt 1 a))))), .int (Int32.ofNat (ot + (zbn (¬ (bt 0 a))))), .int (Int32.ofNat (un + (zbn (¬ (bt 5 a))))), .int (Int32.ofNat k), .ref x]) (And.intro (Or.inl rfl) (And.intro (Or.inl rfl) (And.intro (Or.inr rfl) (And.intro (Or.inl rfl) (And.intro (Or.inl rfl) (And.intro (Or.inl rfl) (And.intro (Or.inl rfl) (And.intro (Or.inl rfl) (And.intro (Or.inl rfl) trivial))))))))) (zv_sub (zz := zbo (PE ∧ (bt 7 a))) (zy := 1) (p := fun zz => zEv d 348 162 [.ref n, .int (zbo (PZ ∧ (bt 0 a))), .retAddr 0, .int (zbo PM), .int (Int32.ofNat (znt (bt 0 a) on (on + (zbn (bt 1 a))))), .int (Int32.ofNat (ot + (zbn (¬ (bt 0 a))))), .int (Int32.ofNat (un + (zbn (¬ (bt 5 a))))), .int (Int32.ofNat k), .ref x] [.int zz] S post) (zbo_pos ⟨b33, b34⟩) J37)
          refine zv_br ht rfl rfl rfl (fun b30 => ?_) (fun b30 => ?_)
          · replace b30 : ¬ (bt 5 a) := (zbo_eq0 : (zbo (bt 5 a)) = 0 ↔ ¬ (bt 5 a)).mp b30
            refine zv_c1 ht rfl rfl ?_
            exact zEv.wk (L := [.ref n, .int (zbo (PZ ∧ (bt 0 a))), .int (zbo PE), .int (zbo PM), .int (Int32.ofNat (znt (bt 0 a) on (on + (zbn (bt 1 a))))), .int (Int32.ofNat (ot + (zbn (¬ (bt 0 a))))), .retAddr 0, .int (Int32.ofNat k), .ref x]) (L' := [.ref n, .int (zbo (PZ ∧ (bt 0 a))), .int (zbo PE), .int (zbo PM), .int (Int32.ofNat (znt (bt 0 a) on (on + (zbn (bt 1 a))))), .int (Int32.ofNat (ot + (zbn (¬ (bt 0 a))))), .int (Int32.ofNat un), .int (Int32.ofNat k), .ref x]) (And.intro (Or.inl rfl) (And.intro (Or.inl rfl) (And.intro (Or.inl rfl) (And.intro (Or.inl rfl) (And.intro (Or.inl rfl) (And.intro (Or.inl rfl) (And.intro (Or.inr rfl) (And.intro (Or.inl rfl) (And.intro (Or.inl rfl) trivial))))))))) (zv_sub (zz := zbo (¬ (bt 5 a))) (zy := 1) (p := fun zz => zEv d 348 142 [.ref n, .int (zbo (PZ ∧ (bt 0 a))), .int (zbo PE), .int (zbo PM), .int (Int32.ofNat (znt (bt 0 a) on (on + (zbn (bt 1 a))))), .int (Int32.ofNat (ot + (zbn (¬ (bt 0 a))))), .retAddr 0, .int (Int32.ofNat k), .ref x] [.int zz, .int (Int32.ofNat un)] S post) (zbo_pos b30) J31)
          · replace b30 : bt 5 a := Classical.byContradiction (fun h => b30 ((zbo_eq0 : (zbo (bt 5 a)) = 0 ↔ ¬ (bt 5 a)).mpr h))
            refine zv_c1 ht rfl rfl (zv_c1 ht rfl rfl ?_)
            exact zEv.wk (L := [.ref n, .int (zbo (PZ ∧ (bt 0 a))), .int (zbo PE), .int (zbo PM), .int (Int32.ofNat (znt (bt 0 a) on (on + (zbn (bt 1 a))))), .int (Int32.ofNat (ot + (zbn (¬ (bt 0 a))))), .retAddr 0, .int (Int32.ofNat k), .ref x]) (L' := [.ref n, .int (zbo (PZ ∧ (bt 0 a))), .int (zbo PE), .int (zbo PM), .int (Int32.ofNat (znt (bt 0 a) on (on + (zbn (bt 1 a))))), .int (Int32.ofNat (ot + (zbn (¬ (bt 0 a))))), .int (Int32.ofNat un), .int (Int32.ofNat k), .ref x]) (And.intro (Or.inl rfl) (And.intro (Or.inl rfl) (And.intro (Or.inl rfl) (And.intro (Or.inl rfl) (And.intro (Or.inl rfl) (And.intro (Or.inl rfl) (And.intro (Or.inr rfl) (And.intro (Or.inl rfl) (And.intro (Or.inl rfl) trivial))))))))) (zv_sub (zz := zbo (¬ (bt 5 a))) (zy := 0) (p := fun zz => zEv d 348 142 [.ref n, .int (zbo (PZ ∧ (bt 0 a))), .int (zbo PE), .int (zbo PM), .int (Int32.ofNat (znt (bt 0 a) on (on + (zbn (bt 1 a))))), .int (Int32.ofNat (ot + (zbn (¬ (bt 0 a))))), .retAddr 0, .int (Int32.ofNat k), .ref x] [.int zz, .int (Int32.ofNat un)] S post) (zbo_neg (fun h => h b30)) J31)
        refine zv_br ht rfl rfl rfl (fun b27 => ?_) (fun b27 => ?_)
        · replace b27 : ¬ (bt 0 a) := (zbo_eq0 : (zbo (bt 0 a)) = 0 ↔ ¬ (bt 0 a)).mp b27
          refine zv_c1 ht rfl rfl ?_
          exact zEv.wk (L := [.ref n, .int (zbo (PZ ∧ (bt 0 a))), .int (zbo PE), .int (zbo PM), .int (Int32.ofNat (znt (bt 0 a) on (on + (zbn (bt 1 a))))), .retAddr 0, .int (Int32.ofNat un), .int (Int32.ofNat k), .ref x]) (L' := [.ref n, .int (zbo (PZ ∧ (bt 0 a))), .int (zbo PE), .int (zbo PM), .int (Int32.ofNat (znt (bt 0 a) on (on + (zbn (bt 1 a))))), .int (Int32.ofNat ot), .int (Int32.ofNat un), .int (Int32.ofNat k), .ref x]) (And.intro (Or.inl rfl) (And.intro (Or.inl rfl) (And.intro (Or.inl rfl) (And.intro (Or.inl rfl) (And.intro (Or.inl rfl) (And.intro (Or.inr rfl) (And.intro (Or.inl rfl) (And.intro (Or.inl rfl) (And.intro (Or.inl rfl) trivial))))))))) (zv_sub (zz := zbo (¬ (bt 0 a))) (zy := 1) (p := fun zz => zEv d 348 124 [.ref n, .int (zbo (PZ ∧ (bt 0 a))), .int (zbo PE), .int (zbo PM), .int (Int32.ofNat (znt (bt 0 a) on (on + (zbn (bt 1 a))))), .retAddr 0, .int (Int32.ofNat un), .int (Int32.ofNat k), .ref x] [.int zz, .int (Int32.ofNat ot)] S post) (zbo_pos b27) J28)
        · replace b27 : bt 0 a := Classical.byContradiction (fun h => b27 ((zbo_eq0 : (zbo (bt 0 a)) = 0 ↔ ¬ (bt 0 a)).mpr h))
          refine zv_c1 ht rfl rfl (zv_c1 ht rfl rfl ?_)
          exact zEv.wk (L := [.ref n, .int (zbo (PZ ∧ (bt 0 a))), .int (zbo PE), .int (zbo PM), .int (Int32.ofNat (znt (bt 0 a) on (on + (zbn (bt 1 a))))), .retAddr 0, .int (Int32.ofNat un), .int (Int32.ofNat k), .ref x]) (L' := [.ref n, .int (zbo (PZ ∧ (bt 0 a))), .int (zbo PE), .int (zbo PM), .int (Int32.ofNat (znt (bt 0 a) on (on + (zbn (bt 1 a))))), .int (Int32.ofNat ot), .int (Int32.ofNat un), .int (Int32.ofNat k), .ref x]) (And.intro (Or.inl rfl) (And.intro (Or.inl rfl) (And.intro (Or.inl rfl) (And.intro (Or.inl rfl) (And.intro (Or.inl rfl) (And.intro (Or.inr rfl) (And.intro (Or.inl rfl) (And.intro (Or.inl rfl) (And.intro (Or.inl rfl) trivial))))))))) (zv_sub (zz := zbo (¬ (bt 0 a))) (zy := 0) (p := fun zz => zEv d 348 124 [.ref n, .int (zbo (PZ ∧ (bt 0 a))), .int (zbo PE), .int (zbo PM), .int (Int32.ofNat (znt (bt 0 a) on (on + (zbn (bt 1 a))))), .retAddr 0, .int (Int32.ofNat un), .int (Int32.ofNat k), .ref x] [.int zz, .int (Int32.ofNat ot)] S post) (zbo_neg (fun h => h b27)) J28)
      refine zv_br ht rfl rfl rfl (fun b21 => ?_) (fun b21 => ?_)
      · replace b21 : bt 0 a := Classical.byContradiction (fun h => b21 ((zbo_eq0 : (zbo (bt 0 a)) = 0 ↔ ¬ (bt 0 a)).mpr h))
        exact (zv_sub (zz := Int32.ofNat (znt (bt 0 a) on (on + (zbn (bt 1 a))))) (zy := Int32.ofNat on) (p := fun zz => zEv d 348 109 [.ref n, .int (zbo (PZ ∧ (bt 0 a))), .int (zbo PE), .int (zbo PM), .int zz, .int (Int32.ofNat ot), .int (Int32.ofNat un), .int (Int32.ofNat k), .ref x] [] S post) (congrArg Int32.ofNat (znt_pos b21)) J25)
      · replace b21 : ¬ (bt 0 a) := (zbo_eq0 : (zbo (bt 0 a)) = 0 ↔ ¬ (bt 0 a)).mp (Classical.not_not.mp b21)
        refine zv_c1 ht rfl rfl (zv_c1 ht rfl rfl ?_)
        refine zv_ei (x := zbo (bt 1 a)) ht rfl rfl (zhas_nc hcx (by decide)) hox ?_
        have J23 : zEv d 348 106 [.ref n, .int (zbo (PZ ∧ (bt 0 a))), .int (zbo PE), .int (zbo PM), .retAddr 0, .int (Int32.ofNat ot), .int (Int32.ofNat un), .int (Int32.ofNat k), .ref x] [.int (zbo (bt 1 a)), .int (Int32.ofNat on)] S post := by
          refine zv_e1 (x := Int32.ofNat (on + (zbn (bt 1 a)))) ht rfl rfl (zi_addE (a := on) (b := zbn (bt 1 a)) rfl zbo_nat) ?_
          refine zv_c2 (L' := [.ref n, .int (zbo (PZ ∧ (bt 0 a))), .int (zbo PE), .int (zbo PM), .int (Int32.ofNat (on + (zbn (bt 1 a)))), .int (Int32.ofNat ot), .int (Int32.ofNat un), .int (Int32.ofNat k), .ref x]) ht rfl rfl ?_
          exact (zv_sub (zz := Int32.ofNat (znt (bt 0 a) on (on + (zbn (bt 1 a))))) (zy := Int32.ofNat (on + (zbn (bt 1 a)))) (p := fun zz => zEv d 348 109 [.ref n, .int (zbo (PZ ∧ (bt 0 a))), .int (zbo PE), .int (zbo PM), .int zz, .int (Int32.ofNat ot), .int (Int32.ofNat un), .int (Int32.ofNat k), .ref x] [] S post) (congrArg Int32.ofNat (znt_neg b21)) J25)
        refine zv_br ht rfl rfl rfl (fun b22 => ?_) (fun b22 => ?_)
        · replace b22 : ¬ (bt 1 a) := (zbo_eq0 : (zbo (bt 1 a)) = 0 ↔ ¬ (bt 1 a)).mp b22
          refine zv_c1 ht rfl rfl ?_
          exact zEv.wk (L := [.ref n, .int (zbo (PZ ∧ (bt 0 a))), .int (zbo PE), .int (zbo PM), .retAddr 0, .int (Int32.ofNat ot), .int (Int32.ofNat un), .int (Int32.ofNat k), .ref x]) (L' := [.ref n, .int (zbo (PZ ∧ (bt 0 a))), .int (zbo PE), .int (zbo PM), .int (Int32.ofNat on), .int (Int32.ofNat ot), .int (Int32.ofNat un), .int (Int32.ofNat k), .ref x]) (And.intro (Or.inl rfl) (And.intro (Or.inl rfl) (And.intro (Or.inl rfl) (And.intro (Or.inl rfl) (And.intro (Or.inr rfl) (And.intro (Or.inl rfl) (And.intro (Or.inl rfl) (And.intro (Or.inl rfl) (And.intro (Or.inl rfl) trivial))))))))) (zv_sub (zz := zbo (bt 1 a)) (zy := 0) (p := fun zz => zEv d 348 106 [.ref n, .int (zbo (PZ ∧ (bt 0 a))), .int (zbo PE), .int (zbo PM), .retAddr 0, .int (Int32.ofNat ot), .int (Int32.ofNat un), .int (Int32.ofNat k), .ref x] [.int zz, .int (Int32.ofNat on)] S post) (zbo_neg b22) J23)
        · replace b22 : bt 1 a := Classical.byContradiction (fun h => b22 ((zbo_eq0 : (zbo (bt 1 a)) = 0 ↔ ¬ (bt 1 a)).mpr h))
          refine zv_c1 ht rfl rfl (zv_c1 ht rfl rfl ?_)
          exact zEv.wk (L := [.ref n, .int (zbo (PZ ∧ (bt 0 a))), .int (zbo PE), .int (zbo PM), .retAddr 0, .int (Int32.ofNat ot), .int (Int32.ofNat un), .int (Int32.ofNat k), .ref x]) (L' := [.ref n, .int (zbo (PZ ∧ (bt 0 a))), .int (zbo PE), .int (zbo PM), .int (Int32.ofNat on), .int (Int32.ofNat ot), .int (Int32.ofNat un), .int (Int32.ofNat k), .ref x]) (And.intro (Or.inl rfl) (And.intro (Or.inl rfl) (And.intro (Or.inl rfl) (And.intro (Or.inl rfl) (And.intro (Or.inr rfl) (And.intro (Or.inl rfl) (And.intro (Or.inl rfl) (And.intro (Or.inl rfl) (And.intro (Or.inl rfl) trivial))))))))) (zv_sub (zz := zbo (bt 1 a)) (zy := 1) (p := fun zz => zEv d 348 106 [.ref n, .int (zbo (PZ ∧ (bt 0 a))), .int (zbo PE), .int (zbo PM), .retAddr 0, .int (Int32.ofNat ot), .int (Int32.ofNat un), .int (Int32.ofNat k), .ref x] [.int zz, .int (Int32.ofNat on)] S post) (zbo_pos b22) J23)
    have J17 : ((¬ PZ) ∨ (¬ (bt 0 a))) → zEv d 348 81 [.ref n, .retAddr 0, .int (zbo PE), .int (zbo PM), .int (Int32.ofNat on), .int (Int32.ofNat ot), .int (Int32.ofNat un), .int (Int32.ofNat k), .ref x] [] S post := by
      intro b18
      refine zv_c1 ht rfl rfl ?_
      exact (zv_sub (zz := zbo (PZ ∧ (bt 0 a))) (zy := 0) (p := fun zz => zEv d 348 82 [.ref n, .retAddr 0, .int (zbo PE), .int (zbo PM), .int (Int32.ofNat on), .int (Int32.ofNat ot), .int (Int32.ofNat un), .int (Int32.ofNat k), .ref x] [.int zz] S post) (zbo_neg (b18.elim (fun y1 => (fun h => y1 h.1)) (fun y1 => (fun h => y1 h.2)))) J19)
    refine zv_br ht rfl rfl rfl (fun b15 => ?_) (fun b15 => ?_)
    · replace b15 : ¬ PZ := (zbo_eq0 : (zbo PZ) = 0 ↔ ¬ PZ).mp b15
      exact zEv.wk (L := [.ref n, .retAddr 0, .int (zbo PE), .int (zbo PM), .int (Int32.ofNat on), .int (Int32.ofNat ot), .int (Int32.ofNat un), .int (Int32.ofNat k), .ref x]) (L' := [.ref n, .int (zbo PZ), .int (zbo PE), .int (zbo PM), .int (Int32.ofNat on), .int (Int32.ofNat ot), .int (Int32.ofNat un), .int (Int32.ofNat k), .ref x]) (And.intro (Or.inl rfl) (And.intro (Or.inr rfl) (And.intro (Or.inl rfl) (And.intro (Or.inl rfl) (And.intro (Or.inl rfl) (And.intro (Or.inl rfl) (And.intro (Or.inl rfl) (And.intro (Or.inl rfl) (And.intro (Or.inl rfl) trivial))))))))) (J17 (Or.inl b15))
    · replace b15 : PZ := Classical.byContradiction (fun h => b15 ((zbo_eq0 : (zbo PZ) = 0 ↔ ¬ PZ).mpr h))
      refine zv_c1 ht rfl rfl ?_
      refine zv_ei (x := zbo (bt 0 a)) ht rfl rfl (zhas_nc hcx (by decide)) hzx ?_
      refine zv_br ht rfl rfl rfl (fun b16 => ?_) (fun b16 => ?_)
      · replace b16 : ¬ (bt 0 a) := (zbo_eq0 : (zbo (bt 0 a)) = 0 ↔ ¬ (bt 0 a)).mp b16
        exact zEv.wk (L := [.ref n, .retAddr 0, .int (zbo PE), .int (zbo PM), .int (Int32.ofNat on), .int (Int32.ofNat ot), .int (Int32.ofNat un), .int (Int32.ofNat k), .ref x]) (L' := [.ref n, .int (zbo PZ), .int (zbo PE), .int (zbo PM), .int (Int32.ofNat on), .int (Int32.ofNat ot), .int (Int32.ofNat un), .int (Int32.ofNat k), .ref x]) (And.intro (Or.inl rfl) (And.intro (Or.inr rfl) (And.intro (Or.inl rfl) (And.intro (Or.inl rfl) (And.intro (Or.inl rfl) (And.intro (Or.inl rfl) (And.intro (Or.inl rfl) (And.intro (Or.inl rfl) (And.intro (Or.inl rfl) trivial))))))))) (J17 (Or.inr b16))
      · replace b16 : bt 0 a := Classical.byContradiction (fun h => b16 ((zbo_eq0 : (zbo (bt 0 a)) = 0 ↔ ¬ (bt 0 a)).mpr h))
        refine zv_c1 ht rfl rfl (zv_c1 ht rfl rfl ?_)
        exact zEv.wk (L := [.ref n, .retAddr 0, .int (zbo PE), .int (zbo PM), .int (Int32.ofNat on), .int (Int32.ofNat ot), .int (Int32.ofNat un), .int (Int32.ofNat k), .ref x]) (L' := [.ref n, .int (zbo PZ), .int (zbo PE), .int (zbo PM), .int (Int32.ofNat on), .int (Int32.ofNat ot), .int (Int32.ofNat un), .int (Int32.ofNat k), .ref x]) (And.intro (Or.inl rfl) (And.intro (Or.inr rfl) (And.intro (Or.inl rfl) (And.intro (Or.inl rfl) (And.intro (Or.inl rfl) (And.intro (Or.inl rfl) (And.intro (Or.inl rfl) (And.intro (Or.inl rfl) (And.intro (Or.inl rfl) trivial))))))))) (zv_sub (zz := zbo (PZ ∧ (bt 0 a))) (zy := 1) (p := fun zz => zEv d 348 82 [.ref n, .retAddr 0, .int (zbo PE), .int (zbo PM), .int (Int32.ofNat on), .int (Int32.ofNat ot), .int (Int32.ofNat un), .int (Int32.ofNat k), .ref x] [.int zz] S post) (zbo_pos ⟨b15, b16⟩) J19)
  · replace b14 : ¬ (((p + 1) = 4) ∧ (bt 3 a) ∧ (bt 4 a)) := (zbo_eq0 : (zbo (((p + 1) = 4) ∧ (bt 3 a) ∧ (bt 4 a))) = 0 ↔ ¬ (((p + 1) = 4) ∧ (bt 3 a) ∧ (bt 4 a))).mp (Classical.not_not.mp b14)
    refine zv_c1 ht rfl rfl ?_
    have C106 : ∀ (pst105 : Outcome × zS → Prop), (pst105 (.returned (some (.ref (gN S))), sI (sI (sT (sNew S 8 0 (zslots 8)) (gN S) 8 1) 136 (gN S) 3) 137 (gN S) (gI S 144 n))) → zCall (d - 1) 283 [.ref n] S pst105 := by
      intro pst105 k112
      have ht107 : ztab 283 = ztb283 := rfl
      show zEv (d - 1) 283 0 [.ref n] [] S pst105
      refine zv_ci (st' := [.ref (gN S)]) (S' := sNew S 8 0 (zslots 8)) ht107 rfl rfl (znew_ok (show 1639 ≤ gN S from by omega) (show gN S < 2000000 from by omega)) ?_
      refine zv_c1 ht107 rfl rfl (zv_c1 ht107 rfl rfl (zv_c1 ht107 rfl rfl ?_))
      refine zv_ei (x := gI S 144 n) ht107 rfl rfl (zhas_of (Eq.trans (ztyp_new (S := S) (t := 8) (n := 0) (s := zslots 8) (show n ≠ gN S from by omega)) htn) rfl) (gI_new (S := S) (t := 8) (n := 0) (s := zslots 8) (show n ≠ gN S from by omega)) ?_
      have C109 : ∀ (pst108 : Outcome × zS → Prop), (pst108 (.returned none, sI (sI (sT (sNew S 8 0 (zslots 8)) (gN S) 8 1) 136 (gN S) 3) 137 (gN S) (gI S 144 n))) → zCall ((d - 1) - 1) 269 [.ref (gN S), .int 3, .int (gI S 144 n)] (sNew S 8 0 (zslots 8)) pst108 := by
        intro pst108 k111
        have ht110 : ztab 269 = ztb269 := rfl
        show zEv ((d - 1) - 1) 269 0 [.ref (gN S), .int 3, .int (gI S 144 n)] [] (sNew S 8 0 (zslots 8)) pst108
        refine zv_c1 ht110 rfl rfl ?_
        refine zv_ci (S' := sT (sNew S 8 0 (zslots 8)) (gN S) 8 1) ht110 rfl rfl ⟨ztyp_new_at (S := S) (t := 8) (n := 0) (s := zslots 8) (show 1639 ≤ gN S from by omega), (show gN S < gN S + 1 from by omega), zlen_new_at (S := S) (t := 8) (n := 0) (s := zslots 8) (show 1639 ≤ gN S from by omega)⟩ ?_
        refine zv_c1 ht110 rfl rfl (zv_c1 ht110 rfl rfl ?_)
        refine zv_ci (S' := sI (sT (sNew S 8 0 (zslots 8)) (gN S) 8 1) 136 (gN S) 3) ht110 rfl rfl ⟨⟨(zhas_of (ztyp_sT1 (show 1639 ≤ gN S from by omega)) rfl), (show gN S < gN S + 1 from by omega)⟩, zlen_sT1 (show 1639 ≤ gN S from by omega)⟩ ?_
        refine zv_c1 ht110 rfl rfl (zv_c1 ht110 rfl rfl ?_)
        refine zv_ci (S' := sI (sI (sT (sNew S 8 0 (zslots 8)) (gN S) 8 1) 136 (gN S) 3) 137 (gN S) (gI S 144 n)) ht110 rfl rfl ⟨⟨(zhas_of (ztyp_sT1 (show 1639 ≤ gN S from by omega)) rfl), (show gN S < gN S + 1 from by omega)⟩, zlen_sT1 (show 1639 ≤ gN S from by omega)⟩ ?_
        exact zv_rt ht110 rfl rfl rfl rfl k111
      refine zv_cl ht107 rfl rfl rfl rfl (by omega) (Nat.le_of_ble_eq_true rfl) (C109 _ ?_)
      show zEv (d - 1) 283 12 [.ref n] [.ref (gN S)] (sI (sI (sT (sNew S 8 0 (zslots 8)) (gN S) 8 1) 136 (gN S) 3) 137 (gN S) (gI S 144 n)) pst105
      exact zv_rt ht107 rfl rfl rfl rfl k112
    refine zv_cl ht rfl rfl rfl (zv_tgv (htn) rfl) (by omega) (Nat.le_of_ble_eq_true rfl) (C106 _ ?_)
    show zEv d 348 64 [.ref n, .int (zbo PZ), .int (zbo PE), .int (zbo PM), .int (Int32.ofNat on), .int (Int32.ofNat ot), .int (Int32.ofNat un), .int (Int32.ofNat k), .ref x] [.ref (gN S)] (sI (sI (sT (sNew S 8 0 (zslots 8)) (gN S) 8 1) 136 (gN S) 3) 137 (gN S) (gI S 144 n)) post
    exact zv_th ht rfl rfl rfl ⟨ztyp_sT1 (show 1639 ≤ gN S from by omega), (show gN S < gN S + 1 from by omega)⟩ rfl (h3 b14)

theorem hje {d : Nat} {S : zS} (hF : zFin true S) (hd : 1 ≤ d) (n R m v k on ot un rl : Nat) (PZ PE PM PX : Prop) (tm : Int32) (hn0 : 1639 ≤ n) (hn : n < gN S) (htn : ztyp S n = 18) (hN2 : gN S < 1900000) (hmany : gI S 180 n = Int32.ofNat m) (hneed : gI S 179 n = Int32.ofNat v) (hv0 : 1 ≤ v) (hv : v < 2147483648) (hm : m ≤ 12) (hk : k ≤ m) (hon : on ≤ k) (hot : ot ≤ k) (hun : un ≤ k) (hrow : gP S 181 n = some R) (htr : ztyp S R = 113) (hlr : zlen S R = rl) (hrl : m ≤ rl) (hrl2 : rl ≤ 100) (hmx : gI S 156 n = zbo PX) (htm : gI S 146 n = tm) (hk2 : k = m) {post : Outcome × zS → Prop} (h1 : post (.returned none, sI (sI (sI (sI (sI (sI (sI (sI (sI (sI S 145 n 1) 147 n (zbo PZ)) 148 n (zbo ((ot = 1) ∧ (on = 1)))) 149 n 0) 150 n 1) 151 n 1) 152 n (zbo (¬ (v - 1 < un)))) 153 n 0) 154 n (zbo (un = 0))) 155 n (zbo (PM ∧ PE ∧ (¬ (v < un)))))) : zEv d 348 18 [.ref n, .int (zbo PZ), .int (zbo PE), .int (zbo PM), .int (Int32.ofNat on), .int (Int32.ofNat ot), .int (Int32.ofNat un), .int (Int32.ofNat k), .retAddr 0] [] S post := by
  have ht : ztab 348 = ztb348 := rfl
  refine zv_c1 ht rfl rfl (zv_c1 ht rfl rfl ?_)
  refine zv_ei (x := Int32.ofNat m) ht rfl rfl (zhas_of (htn) rfl) hmany ?_
  refine zv_br ht rfl rfl rfl (fun b1 => ?_) (fun b1 => (show False from by have hq := b1; have hz : ¬ (m ≤ k) := fun h => hq ((zi_leE (a := m) (b := k) rfl rfl (by omega) (by omega)).mpr h); omega).elim)
  refine zv_c1 ht rfl rfl (zv_c1 ht rfl rfl (zv_c1 ht rfl rfl (zv_c1 ht rfl rfl (zv_c1 ht rfl rfl ?_))))
  have J6 : zEv d 348 226 [.ref n, .retAddr 0, .int (zbo PE), .int (zbo PM), .retAddr 0, .retAddr 0, .int (Int32.ofNat un), .retAddr 0, .retAddr 0] [.int (zbo ((ot = 1) ∧ (on = 1))), .int (zbo PZ), .int 1, .ref n] S post := by
    refine zv_c1 ht rfl rfl (zv_c1 ht rfl rfl (zv_c1 ht rfl rfl ?_))
    have C9 : ∀ (pst8 : Outcome × zS → Prop), (pst8 (.returned none, sI (sI (sI (sI (sI (sI S 145 n 1) 147 n (zbo PZ)) 148 n (zbo ((ot = 1) ∧ (on = 1)))) 149 n 0) 150 n 1) 151 n 1)) → zCall (d - 1) 284 [.ref n, .int 1, .int (zbo PZ), .int (zbo ((ot = 1) ∧ (on = 1))), .int 0, .int 1, .int 1] S pst8 := by
      intro pst8 k11
      have ht10 : ztab 284 = ztb284 := rfl
      show zEv (d - 1) 284 0 [.ref n, .int 1, .int (zbo PZ), .int (zbo ((ot = 1) ∧ (on = 1))), .int 0, .int 1, .int 1] [] S pst8
      refine zv_c1 ht10 rfl rfl (zv_c1 ht10 rfl rfl ?_)
      refine zv_ci (S' := sI S 145 n 1) ht10 rfl rfl ⟨(zhas_of (htn) rfl), (show n < gN S from by omega)⟩ ?_
      refine zv_c1 ht10 rfl rfl (zv_c1 ht10 rfl rfl ?_)
      refine zv_ci (S' := sI (sI S 145 n 1) 147 n (zbo PZ)) ht10 rfl rfl ⟨⟨(zhas_of (htn) rfl), (show n < gN S from by omega)⟩, zbo_rng⟩ ?_
      refine zv_c1 ht10 rfl rfl (zv_c1 ht10 rfl rfl ?_)
      refine zv_ci (S' := sI (sI (sI S 145 n 1) 147 n (zbo PZ)) 148 n (zbo ((ot = 1) ∧ (on = 1)))) ht10 rfl rfl ⟨⟨(zhas_of (htn) rfl), (show n < gN S from by omega)⟩, zbo_rng⟩ ?_
      refine zv_c1 ht10 rfl rfl (zv_c1 ht10 rfl rfl ?_)
      refine zv_ci (S' := sI (sI (sI (sI S 145 n 1) 147 n (zbo PZ)) 148 n (zbo ((ot = 1) ∧ (on = 1)))) 149 n 0) ht10 rfl rfl ⟨⟨(zhas_of (htn) rfl), (show n < gN S from by omega)⟩, (by decide)⟩ ?_
      refine zv_c1 ht10 rfl rfl (zv_c1 ht10 rfl rfl ?_)
      refine zv_ci (S' := sI (sI (sI (sI (sI S 145 n 1) 147 n (zbo PZ)) 148 n (zbo ((ot = 1) ∧ (on = 1)))) 149 n 0) 150 n 1) ht10 rfl rfl ⟨⟨(zhas_of (htn) rfl), (show n < gN S from by omega)⟩, (by decide)⟩ ?_
      refine zv_c1 ht10 rfl rfl (zv_c1 ht10 rfl rfl ?_)
      refine zv_ci (S' := sI (sI (sI (sI (sI (sI S 145 n 1) 147 n (zbo PZ)) 148 n (zbo ((ot = 1) ∧ (on = 1)))) 149 n 0) 150 n 1) 151 n 1) ht10 rfl rfl ⟨⟨(zhas_of (htn) rfl), (show n < gN S from by omega)⟩, (by decide)⟩ ?_
      exact zv_rt ht10 rfl rfl rfl rfl k11
    refine zv_cl ht rfl rfl rfl (zv_tgv (htn) rfl) (by omega) (Nat.le_of_ble_eq_true rfl) (C9 _ ?_)
    show zEv d 348 232 [.ref n, .retAddr 0, .int (zbo PE), .int (zbo PM), .retAddr 0, .retAddr 0, .int (Int32.ofNat un), .retAddr 0, .retAddr 0] [] (sI (sI (sI (sI (sI (sI S 145 n 1) 147 n (zbo PZ)) 148 n (zbo ((ot = 1) ∧ (on = 1)))) 149 n 0) 150 n 1) 151 n 1) post
    refine zv_c1 ht rfl rfl (zv_c1 ht rfl rfl (zv_c1 ht rfl rfl ?_))
    refine zv_ei (x := Int32.ofNat v) ht rfl rfl (zhas_of (htn) rfl) hneed ?_
    refine zv_c1 ht rfl rfl ?_
    refine zv_e1 (x := Int32.ofNat (v - 1)) ht rfl rfl (zi_subE (a := v) (b := 1) rfl rfl (by omega)) ?_
    have J13 : zEv d 348 249 [.ref n, .retAddr 0, .int (zbo PE), .int (zbo PM), .retAddr 0, .retAddr 0, .int (Int32.ofNat un), .retAddr 0, .retAddr 0] [.int (zbo (¬ (v - 1 < un))), .ref n] (sI (sI (sI (sI (sI (sI S 145 n 1) 147 n (zbo PZ)) 148 n (zbo ((ot = 1) ∧ (on = 1)))) 149 n 0) 150 n 1) 151 n 1) post := by
      refine zv_c1 ht rfl rfl (zv_c1 ht rfl rfl ?_)
      have J16 : zEv d 348 260 [.ref n, .retAddr 0, .int (zbo PE), .int (zbo PM), .retAddr 0, .retAddr 0, .int (Int32.ofNat un), .retAddr 0, .retAddr 0] [.int (zbo (un = 0)), .int 0, .int (zbo (¬ (v - 1 < un))), .ref n] (sI (sI (sI (sI (sI (sI S 145 n 1) 147 n (zbo PZ)) 148 n (zbo ((ot = 1) ∧ (on = 1)))) 149 n 0) 150 n 1) 151 n 1) post := by
        refine zv_c1 ht rfl rfl ?_
        have J23 : zEv d 348 282 [.retAddr 0, .retAddr 0, .retAddr 0, .retAddr 0, .retAddr 0, .retAddr 0, .retAddr 0, .retAddr 0, .retAddr 0] [.int (zbo (PM ∧ PE ∧ (¬ (v < un)))), .int (zbo (un = 0)), .int 0, .int (zbo (¬ (v - 1 < un))), .ref n] (sI (sI (sI (sI (sI (sI S 145 n 1) 147 n (zbo PZ)) 148 n (zbo ((ot = 1) ∧ (on = 1)))) 149 n 0) 150 n 1) 151 n 1) post := by
          have C26 : ∀ (pst25 : Outcome × zS → Prop), (pst25 (.returned none, sI (sI (sI (sI (sI (sI (sI (sI (sI (sI S 145 n 1) 147 n (zbo PZ)) 148 n (zbo ((ot = 1) ∧ (on = 1)))) 149 n 0) 150 n 1) 151 n 1) 152 n (zbo (¬ (v - 1 < un)))) 153 n 0) 154 n (zbo (un = 0))) 155 n (zbo (PM ∧ PE ∧ (¬ (v < un)))))) → zCall (d - 1) 285 [.ref n, .int (zbo (¬ (v - 1 < un))), .int 0, .int (zbo (un = 0)), .int (zbo (PM ∧ PE ∧ (¬ (v < un))))] (sI (sI (sI (sI (sI (sI S 145 n 1) 147 n (zbo PZ)) 148 n (zbo ((ot = 1) ∧ (on = 1)))) 149 n 0) 150 n 1) 151 n 1) pst25 := by
            intro pst25 k28
            have ht27 : ztab 285 = ztb285 := rfl
            show zEv (d - 1) 285 0 [.ref n, .int (zbo (¬ (v - 1 < un))), .int 0, .int (zbo (un = 0)), .int (zbo (PM ∧ PE ∧ (¬ (v < un))))] [] (sI (sI (sI (sI (sI (sI S 145 n 1) 147 n (zbo PZ)) 148 n (zbo ((ot = 1) ∧ (on = 1)))) 149 n 0) 150 n 1) 151 n 1) pst25
            refine zv_c1 ht27 rfl rfl (zv_c1 ht27 rfl rfl ?_)
            refine zv_ci (S' := sI (sI (sI (sI (sI (sI (sI S 145 n 1) 147 n (zbo PZ)) 148 n (zbo ((ot = 1) ∧ (on = 1)))) 149 n 0) 150 n 1) 151 n 1) 152 n (zbo (¬ (v - 1 < un)))) ht27 rfl rfl ⟨⟨(zhas_of (htn) rfl), (show n < gN S from by omega)⟩, zbo_rng⟩ ?_
            refine zv_c1 ht27 rfl rfl (zv_c1 ht27 rfl rfl ?_)
            refine zv_ci (S' := sI (sI (sI (sI (sI (sI (sI (sI S 145 n 1) 147 n (zbo PZ)) 148 n (zbo ((ot = 1) ∧ (on = 1)))) 149 n 0) 150 n 1) 151 n 1) 152 n (zbo (¬ (v - 1 < un)))) 153 n 0) ht27 rfl rfl ⟨⟨(zhas_of (htn) rfl), (show n < gN S from by omega)⟩, (by decide)⟩ ?_
            refine zv_c1 ht27 rfl rfl (zv_c1 ht27 rfl rfl ?_)
            refine zv_ci (S' := sI (sI (sI (sI (sI (sI (sI (sI (sI S 145 n 1) 147 n (zbo PZ)) 148 n (zbo ((ot = 1) ∧ (on = 1)))) 149 n 0) 150 n 1) 151 n 1) 152 n (zbo (¬ (v - 1 < un)))) 153 n 0) 154 n (zbo (un = 0))) ht27 rfl rfl ⟨⟨(zhas_of (htn) rfl), (show n < gN S from by omega)⟩, zbo_rng⟩ ?_
            refine zv_c1 ht27 rfl rfl (zv_c1 ht27 rfl rfl ?_)
            refine zv_ci (S' := sI (sI (sI (sI (sI (sI (sI (sI (sI (sI S 145 n 1) 147 n (zbo PZ)) 148 n (zbo ((ot = 1) ∧ (on = 1)))) 149 n 0) 150 n 1) 151 n 1) 152 n (zbo (¬ (v - 1 < un)))) 153 n 0) 154 n (zbo (un = 0))) 155 n (zbo (PM ∧ PE ∧ (¬ (v < un))))) ht27 rfl rfl ⟨⟨(zhas_of (htn) rfl), (show n < gN S from by omega)⟩, zbo_rng⟩ ?_
            exact zv_rt ht27 rfl rfl rfl rfl k28
          refine zv_cl ht rfl rfl rfl (zv_tgv (htn) rfl) (by omega) (Nat.le_of_ble_eq_true rfl) (C26 _ ?_)
          show zEv d 348 285 [.retAddr 0, .retAddr 0, .retAddr 0, .retAddr 0, .retAddr 0, .retAddr 0, .retAddr 0, .retAddr 0, .retAddr 0] [] (sI (sI (sI (sI (sI (sI (sI (sI (sI (sI S 145 n 1) 147 n (zbo PZ)) 148 n (zbo ((ot = 1) ∧ (on = 1)))) 149 n 0) 150 n 1) 151 n 1) 152 n (zbo (¬ (v - 1 < un)))) 153 n 0) 154 n (zbo (un = 0))) 155 n (zbo (PM ∧ PE ∧ (¬ (v < un))))) post
          exact zv_rt ht rfl rfl rfl rfl h1
        have J21 : ((¬ PM) ∨ (¬ PE) ∨ (v < un)) → zEv d 348 281 [.retAddr 0, .retAddr 0, .retAddr 0, .retAddr 0, .retAddr 0, .retAddr 0, .retAddr 0, .retAddr 0, .retAddr 0] [.int (zbo (un = 0)), .int 0, .int (zbo (¬ (v - 1 < un))), .ref n] (sI (sI (sI (sI (sI (sI S 145 n 1) 147 n (zbo PZ)) 148 n (zbo ((ot = 1) ∧ (on = 1)))) 149 n 0) 150 n 1) 151 n 1) post := by
          intro b22
          refine zv_c1 ht rfl rfl ?_
          exact (zv_sub (zz := zbo (PM ∧ PE ∧ (¬ (v < un)))) (zy := 0) (p := fun zz => zEv d 348 282 [.retAddr 0, .retAddr 0, .retAddr 0, .retAddr 0, .retAddr 0, .retAddr 0, .retAddr 0, .retAddr 0, .retAddr 0] [.int zz, .int (zbo (un = 0)), .int 0, .int (zbo (¬ (v - 1 < un))), .ref n] (sI (sI (sI (sI (sI (sI S 145 n 1) 147 n (zbo PZ)) 148 n (zbo ((ot = 1) ∧ (on = 1)))) 149 n 0) 150 n 1) 151 n 1) post) (zbo_neg (b22.elim (fun y1 => (fun h => y1 h.1)) (fun y1 => (y1.elim (fun y2 => (fun h => (fun h => y2 h.1) h.2)) (fun y2 => (fun h => (fun h => (fun h => h y2) h.2) h.2)))))) J23)
        refine zv_br ht rfl rfl rfl (fun b18 => ?_) (fun b18 => ?_)
        · replace b18 : ¬ PM := (zbo_eq0 : (zbo PM) = 0 ↔ ¬ PM).mp b18
          exact zEv.wk (L := [.retAddr 0, .retAddr 0, .retAddr 0, .retAddr 0, .retAddr 0, .retAddr 0, .retAddr 0, .retAddr 0, .retAddr 0]) (L' := [.ref n, .retAddr 0, .int (zbo PE), .int (zbo PM), .retAddr 0, .retAddr 0, .int (Int32.ofNat un), .retAddr 0, .retAddr 0]) (And.intro (Or.inr rfl) (And.intro (Or.inl rfl) (And.intro (Or.inr rfl) (And.intro (Or.inr rfl) (And.intro (Or.inl rfl) (And.intro (Or.inl rfl) (And.intro (Or.inr rfl) (And.intro (Or.inl rfl) (And.intro (Or.inl rfl) trivial))))))))) (J21 (Or.inl b18))
        · replace b18 : PM := Classical.byContradiction (fun h => b18 ((zbo_eq0 : (zbo PM) = 0 ↔ ¬ PM).mpr h))
          refine zv_c1 ht rfl rfl ?_
          refine zv_br ht rfl rfl rfl (fun b19 => ?_) (fun b19 => ?_)
          · replace b19 : ¬ PE := (zbo_eq0 : (zbo PE) = 0 ↔ ¬ PE).mp b19
            exact zEv.wk (L := [.retAddr 0, .retAddr 0, .retAddr 0, .retAddr 0, .retAddr 0, .retAddr 0, .retAddr 0, .retAddr 0, .retAddr 0]) (L' := [.ref n, .retAddr 0, .int (zbo PE), .int (zbo PM), .retAddr 0, .retAddr 0, .int (Int32.ofNat un), .retAddr 0, .retAddr 0]) (And.intro (Or.inr rfl) (And.intro (Or.inl rfl) (And.intro (Or.inr rfl) (And.intro (Or.inr rfl) (And.intro (Or.inl rfl) (And.intro (Or.inl rfl) (And.intro (Or.inr rfl) (And.intro (Or.inl rfl) (And.intro (Or.inl rfl) trivial))))))))) (J21 (Or.inr (Or.inl b19)))
          · replace b19 : PE := Classical.byContradiction (fun h => b19 ((zbo_eq0 : (zbo PE) = 0 ↔ ¬ PE).mpr h))
            refine zv_c1 ht rfl rfl (zv_c1 ht rfl rfl ?_)
            refine zv_ei (x := Int32.ofNat v) ht rfl rfl (zhas_of (htn) rfl) hneed ?_
            refine zv_br ht rfl rfl rfl (fun b20 => ?_) (fun b20 => ?_)
            · replace b20 : v < un := (zi_ltE (a := v) (b := un) rfl rfl (by omega) (by omega)).mp b20
              exact zEv.wk (L := [.retAddr 0, .retAddr 0, .retAddr 0, .retAddr 0, .retAddr 0, .retAddr 0, .retAddr 0, .retAddr 0, .retAddr 0]) (L' := [.ref n, .retAddr 0, .int (zbo PE), .int (zbo PM), .retAddr 0, .retAddr 0, .int (Int32.ofNat un), .retAddr 0, .retAddr 0]) (And.intro (Or.inr rfl) (And.intro (Or.inl rfl) (And.intro (Or.inr rfl) (And.intro (Or.inr rfl) (And.intro (Or.inl rfl) (And.intro (Or.inl rfl) (And.intro (Or.inr rfl) (And.intro (Or.inl rfl) (And.intro (Or.inl rfl) trivial))))))))) (J21 (Or.inr (Or.inr b20)))
            · replace b20 : ¬ (v < un) := fun h => b20 ((zi_ltE (a := v) (b := un) rfl rfl (by omega) (by omega)).mpr h)
              refine zv_c1 ht rfl rfl (zv_c1 ht rfl rfl ?_)
              exact zEv.wk (L := [.retAddr 0, .retAddr 0, .retAddr 0, .retAddr 0, .retAddr 0, .retAddr 0, .retAddr 0, .retAddr 0, .retAddr 0]) (L' := [.ref n, .retAddr 0, .int (zbo PE), .int (zbo PM), .retAddr 0, .retAddr 0, .int (Int32.ofNat un), .retAddr 0, .retAddr 0]) (And.intro (Or.inr rfl) (And.intro (Or.inl rfl) (And.intro (Or.inr rfl) (And.intro (Or.inr rfl) (And.intro (Or.inl rfl) (And.intro (Or.inl rfl) (And.intro (Or.inr rfl) (And.intro (Or.inl rfl) (And.intro (Or.inl rfl) trivial))))))))) (zv_sub (zz := zbo (PM ∧ PE ∧ (¬ (v < un)))) (zy := 1) (p := fun zz => zEv d 348 282 [.retAddr 0, .retAddr 0, .retAddr 0, .retAddr 0, .retAddr 0, .retAddr 0, .retAddr 0, .retAddr 0, .retAddr 0] [.int zz, .int (zbo (un = 0)), .int 0, .int (zbo (¬ (v - 1 < un))), .ref n] (sI (sI (sI (sI (sI (sI S 145 n 1) 147 n (zbo PZ)) 148 n (zbo ((ot = 1) ∧ (on = 1)))) 149 n 0) 150 n 1) 151 n 1) post) (zbo_pos ⟨b18, ⟨b19, b20⟩⟩) J23)
      refine zv_br ht rfl rfl rfl (fun b15 => ?_) (fun b15 => ?_)
      · replace b15 : ¬ (un = 0) := fun h => b15 ((zi_eqE (a := un) (b := 0) rfl rfl (by omega) (by omega)).mpr h)
        refine zv_c1 ht rfl rfl ?_
        exact (zv_sub (zz := zbo (un = 0)) (zy := 0) (p := fun zz => zEv d 348 260 [.ref n, .retAddr 0, .int (zbo PE), .int (zbo PM), .retAddr 0, .retAddr 0, .int (Int32.ofNat un), .retAddr 0, .retAddr 0] [.int zz, .int 0, .int (zbo (¬ (v - 1 < un))), .ref n] (sI (sI (sI (sI (sI (sI S 145 n 1) 147 n (zbo PZ)) 148 n (zbo ((ot = 1) ∧ (on = 1)))) 149 n 0) 150 n 1) 151 n 1) post) (zbo_neg b15) J16)
      · replace b15 : un = 0 := (zi_eqE (a := un) (b := 0) rfl rfl (by omega) (by omega)).mp (Classical.not_not.mp b15)
        refine zv_c1 ht rfl rfl (zv_c1 ht rfl rfl ?_)
        exact (zv_sub (zz := zbo (un = 0)) (zy := 1) (p := fun zz => zEv d 348 260 [.ref n, .retAddr 0, .int (zbo PE), .int (zbo PM), .retAddr 0, .retAddr 0, .int (Int32.ofNat un), .retAddr 0, .retAddr 0] [.int zz, .int 0, .int (zbo (¬ (v - 1 < un))), .ref n] (sI (sI (sI (sI (sI (sI S 145 n 1) 147 n (zbo PZ)) 148 n (zbo ((ot = 1) ∧ (on = 1)))) 149 n 0) 150 n 1) 151 n 1) post) (zbo_pos b15) J16)
    refine zv_br ht rfl rfl rfl (fun b12 => ?_) (fun b12 => ?_)
    · replace b12 : v - 1 < un := (zi_ltE (a := (v - 1)) (b := un) rfl rfl (by omega) (by omega)).mp b12
      refine zv_c1 ht rfl rfl ?_
      exact (zv_sub (zz := zbo (¬ (v - 1 < un))) (zy := 0) (p := fun zz => zEv d 348 249 [.ref n, .retAddr 0, .int (zbo PE), .int (zbo PM), .retAddr 0, .retAddr 0, .int (Int32.ofNat un), .retAddr 0, .retAddr 0] [.int zz, .ref n] (sI (sI (sI (sI (sI (sI S 145 n 1) 147 n (zbo PZ)) 148 n (zbo ((ot = 1) ∧ (on = 1)))) 149 n 0) 150 n 1) 151 n 1) post) (zbo_neg (fun h => h b12)) J13)
    · replace b12 : ¬ (v - 1 < un) := fun h => b12 ((zi_ltE (a := (v - 1)) (b := un) rfl rfl (by omega) (by omega)).mpr h)
      refine zv_c1 ht rfl rfl (zv_c1 ht rfl rfl ?_)
      exact (zv_sub (zz := zbo (¬ (v - 1 < un))) (zy := 1) (p := fun zz => zEv d 348 249 [.ref n, .retAddr 0, .int (zbo PE), .int (zbo PM), .retAddr 0, .retAddr 0, .int (Int32.ofNat un), .retAddr 0, .retAddr 0] [.int zz, .ref n] (sI (sI (sI (sI (sI (sI S 145 n 1) 147 n (zbo PZ)) 148 n (zbo ((ot = 1) ∧ (on = 1)))) 149 n 0) 150 n 1) 151 n 1) post) (zbo_pos b12) J13)
  have J4 : ((¬ (ot = 1)) ∨ (¬ (on = 1))) → zEv d 348 225 [.ref n, .retAddr 0, .int (zbo PE), .int (zbo PM), .retAddr 0, .retAddr 0, .int (Int32.ofNat un), .retAddr 0, .retAddr 0] [.int (zbo PZ), .int 1, .ref n] S post := by
    intro b5
    refine zv_c1 ht rfl rfl ?_
    exact (zv_sub (zz := zbo ((ot = 1) ∧ (on = 1))) (zy := 0) (p := fun zz => zEv d 348 226 [.ref n, .retAddr 0, .int (zbo PE), .int (zbo PM), .retAddr 0, .retAddr 0, .int (Int32.ofNat un), .retAddr 0, .retAddr 0] [.int zz, .int (zbo PZ), .int 1, .ref n] S post) (zbo_neg (b5.elim (fun y1 => (fun h => y1 h.1)) (fun y1 => (fun h => y1 h.2)))) J6)
  refine zv_br ht rfl rfl rfl (fun b2 => ?_) (fun b2 => ?_)
  · replace b2 : ¬ (ot = 1) := fun h => b2 ((zi_eqE (a := ot) (b := 1) rfl rfl (by omega) (by omega)).mpr h)
    exact zEv.wk (L := [.ref n, .retAddr 0, .int (zbo PE), .int (zbo PM), .retAddr 0, .retAddr 0, .int (Int32.ofNat un), .retAddr 0, .retAddr 0]) (L' := [.ref n, .int (zbo PZ), .int (zbo PE), .int (zbo PM), .int (Int32.ofNat on), .int (Int32.ofNat ot), .int (Int32.ofNat un), .int (Int32.ofNat k), .retAddr 0]) (And.intro (Or.inl rfl) (And.intro (Or.inr rfl) (And.intro (Or.inl rfl) (And.intro (Or.inl rfl) (And.intro (Or.inr rfl) (And.intro (Or.inr rfl) (And.intro (Or.inl rfl) (And.intro (Or.inr rfl) (And.intro (Or.inl rfl) trivial))))))))) (J4 (Or.inl b2))
  · replace b2 : ot = 1 := (zi_eqE (a := ot) (b := 1) rfl rfl (by omega) (by omega)).mp (Classical.not_not.mp b2)
    refine zv_c1 ht rfl rfl (zv_c1 ht rfl rfl ?_)
    refine zv_br ht rfl rfl rfl (fun b3 => ?_) (fun b3 => ?_)
    · replace b3 : ¬ (on = 1) := fun h => b3 ((zi_eqE (a := on) (b := 1) rfl rfl (by omega) (by omega)).mpr h)
      exact zEv.wk (L := [.ref n, .retAddr 0, .int (zbo PE), .int (zbo PM), .retAddr 0, .retAddr 0, .int (Int32.ofNat un), .retAddr 0, .retAddr 0]) (L' := [.ref n, .int (zbo PZ), .int (zbo PE), .int (zbo PM), .int (Int32.ofNat on), .int (Int32.ofNat ot), .int (Int32.ofNat un), .int (Int32.ofNat k), .retAddr 0]) (And.intro (Or.inl rfl) (And.intro (Or.inr rfl) (And.intro (Or.inl rfl) (And.intro (Or.inl rfl) (And.intro (Or.inr rfl) (And.intro (Or.inr rfl) (And.intro (Or.inl rfl) (And.intro (Or.inr rfl) (And.intro (Or.inl rfl) trivial))))))))) (J4 (Or.inr b3))
    · replace b3 : on = 1 := (zi_eqE (a := on) (b := 1) rfl rfl (by omega) (by omega)).mp (Classical.not_not.mp b3)
      refine zv_c1 ht rfl rfl (zv_c1 ht rfl rfl ?_)
      exact zEv.wk (L := [.ref n, .retAddr 0, .int (zbo PE), .int (zbo PM), .retAddr 0, .retAddr 0, .int (Int32.ofNat un), .retAddr 0, .retAddr 0]) (L' := [.ref n, .int (zbo PZ), .int (zbo PE), .int (zbo PM), .int (Int32.ofNat on), .int (Int32.ofNat ot), .int (Int32.ofNat un), .int (Int32.ofNat k), .retAddr 0]) (And.intro (Or.inl rfl) (And.intro (Or.inr rfl) (And.intro (Or.inl rfl) (And.intro (Or.inl rfl) (And.intro (Or.inr rfl) (And.intro (Or.inr rfl) (And.intro (Or.inl rfl) (And.intro (Or.inr rfl) (And.intro (Or.inl rfl) trivial))))))))) (zv_sub (zz := zbo ((ot = 1) ∧ (on = 1))) (zy := 1) (p := fun zz => zEv d 348 226 [.ref n, .retAddr 0, .int (zbo PE), .int (zbo PM), .retAddr 0, .retAddr 0, .int (Int32.ofNat un), .retAddr 0, .retAddr 0] [.int zz, .int (zbo PZ), .int 1, .ref n] S post) (zbo_pos ⟨b2, b3⟩) J6)

theorem hjb {d : Nat} {S : zS} (hF : zFin true S) (n : Nat) (hn0 : 1639 ≤ n) (hn : n < gN S) (htn : ztyp S n = 18) {post : Outcome × zS → Prop} (h1 : zEv d 348 18 [.ref n, .int (Int32.ofNat 1), .int (Int32.ofNat 1), .int (Int32.ofNat 1), .int (Int32.ofNat 0), .int (Int32.ofNat 0), .int (Int32.ofNat 0), .int (Int32.ofNat 0), .retAddr 0] [] S post) : zCall d 348 [.ref n] S post := by
  have ht : ztab 348 = ztb348 := rfl
  show zEv d 348 0 [.ref n, .retAddr 0, .retAddr 0, .retAddr 0, .retAddr 0, .retAddr 0, .retAddr 0, .retAddr 0, .retAddr 0] [] S post
  refine zv_c1 ht rfl rfl ?_
  refine zv_c2 (L' := [.ref n, .int 1, .retAddr 0, .retAddr 0, .retAddr 0, .retAddr 0, .retAddr 0, .retAddr 0, .retAddr 0]) ht rfl rfl ?_
  refine zv_c1 ht rfl rfl ?_
  refine zv_c2 (L' := [.ref n, .int 1, .int 1, .retAddr 0, .retAddr 0, .retAddr 0, .retAddr 0, .retAddr 0, .retAddr 0]) ht rfl rfl ?_
  refine zv_c1 ht rfl rfl ?_
  refine zv_c2 (L' := [.ref n, .int 1, .int 1, .int 1, .retAddr 0, .retAddr 0, .retAddr 0, .retAddr 0, .retAddr 0]) ht rfl rfl ?_
  refine zv_c1 ht rfl rfl ?_
  refine zv_c2 (L' := [.ref n, .int 1, .int 1, .int 1, .int 0, .retAddr 0, .retAddr 0, .retAddr 0, .retAddr 0]) ht rfl rfl ?_
  refine zv_c1 ht rfl rfl ?_
  refine zv_c2 (L' := [.ref n, .int 1, .int 1, .int 1, .int 0, .int 0, .retAddr 0, .retAddr 0, .retAddr 0]) ht rfl rfl ?_
  refine zv_c1 ht rfl rfl ?_
  refine zv_c2 (L' := [.ref n, .int 1, .int 1, .int 1, .int 0, .int 0, .int 0, .retAddr 0, .retAddr 0]) ht rfl rfl ?_
  refine zv_c1 ht rfl rfl ?_
  refine zv_c2 (L' := [.ref n, .int 1, .int 1, .int 1, .int 0, .int 0, .int 0, .int 0, .retAddr 0]) ht rfl rfl ?_
  exact h1


