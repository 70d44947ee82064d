set_option maxRecDepth 100000
/-! ===== the twin judges ===== -/
/-- the types along a chain -/
def chT (S : zS) : List Nat → List t3 → Prop
  | [], [] => True
  | i :: is, t :: l => mTy S i t ∧ (∃ kc, kc < 30 ∧ gA S 1610 i = Int32.ofNat kc) ∧ chT S is l
  | _, _ => False
theorem chT.len {S : zS} : ∀ {is : List Nat} {l : List t3}, chT S is l → is.length = l.length := by
  intro is
  induction is with
  | nil => intro l h; cases l with | nil => rfl | cons => exact h.elim
  | cons i is ih => intro l h; cases l with | nil => exact h.elim | cons t l => rw [List.length_cons, List.length_cons, ih h.2.2]
theorem tt0 {d : Nat} {S : zS} (hF : zFin true S) (n : Nat)  (hn : n < 3000) {post : Outcome × zS → Prop} (h1 : zEv d 138 20 [.ref 1592, .int (Int32.ofNat n), .int (Int32.ofNat 0), .int (Int32.ofNat 0), .int (Int32.ofNat 0), .int (Int32.ofNat 384), .int (gA S 1612 n)] [] S post) : zCall d 138 [.ref 1592, .int (Int32.ofNat n)] S post := by
  have ht : ztab 138 = ztb138 := rfl
  show zEv d 138 0 [.ref 1592, .int (Int32.ofNat n), .retAddr 0, .retAddr 0, .retAddr 0, .retAddr 0, .retAddr 0] [] S post
  refine zv_c1 ht rfl rfl ?_
  refine zv_c2 (L' := [.ref 1592, .int (Int32.ofNat n), .int 0, .retAddr 0, .retAddr 0, .retAddr 0, .retAddr 0]) ht rfl rfl ?_
  refine zv_c1 ht rfl rfl ?_
  refine zv_c2 (L' := [.ref 1592, .int (Int32.ofNat n), .int 0, .int 0, .retAddr 0, .retAddr 0, .retAddr 0]) ht rfl rfl ?_
  refine zv_c1 ht rfl rfl ?_
  refine zv_c2 (L' := [.ref 1592, .int (Int32.ofNat n), .int 0, .int 0, .int 0, .retAddr 0, .retAddr 0]) ht rfl rfl ?_
  refine zv_c1 ht rfl rfl ?_
  refine zv_c2 (L' := [.ref 1592, .int (Int32.ofNat n), .int 0, .int 0, .int 0, .int 384, .retAddr 0]) ht rfl rfl ?_
  refine zv_c1 ht rfl rfl ?_
  refine zv_gl (st' := [.ref 1612]) ht rfl hF rfl rfl rfl ?_
  refine zv_c1 ht rfl rfl ?_
  refine zv_iaE (j := n) (x := gA S 1612 n) ht rfl rfl rfl rfl (zi_natE (a := n) rfl (by omega)) ⟨(Or.inl rfl), zi_inE (a := n) (n := 3000) rfl (by omega) (by omega)⟩ rfl ?_
  refine zv_c2 (L' := [.ref 1592, .int (Int32.ofNat n), .int 0, .int 0, .int 0, .int 384, .int (gA S 1612 n)]) ht rfl rfl ?_
  exact h1

theorem tt1 {d : Nat} {S : zS} (hF : zFin true S) (hd : 1 ≤ d) (n zs os wo c c0 : Nat) (f b g nx : Int32)  (hn : n < 3000) (hz : zs < 20) (ho : os < 20) (hw : wo < 20) (hc : c < 3000) (hc1 : c0 < 3000) (hc0 : gA S 1612 n = Int32.ofNat c0) (hb : gA S 1616 c = b) (hg : gA S 1617 c = g) (hnx : gA S 1613 c = nx) {post : Outcome × zS → Prop} (h1 : (b = (Int32.ofNat (znt (c = c0) 0 3))) → ((g &&& (24 : Int32)) = 24) → zEv d 138 20 [.ref 1592, .int (Int32.ofNat n), .int (Int32.ofNat (zs + (zbn ((g &&& (1 : Int32)) = 1)))), .int (Int32.ofNat (os + (zbn ((g &&& (2 : Int32)) = 2)))), .int (Int32.ofNat (wo + (zbn (¬ ((g &&& (32 : Int32)) = 32))))), .int (f &&& g), .int nx] [] S post) (h2 : ((¬ (b = (Int32.ofNat (znt (c = c0) 0 3)))) ∨ (¬ ((g &&& (24 : Int32)) = 24))) → post (.returned none, S)) : zEv d 138 20 [.ref 1592, .int (Int32.ofNat n), .int (Int32.ofNat zs), .int (Int32.ofNat os), .int (Int32.ofNat wo), .int f, .int (Int32.ofNat c)] [] S post := by
  have ht : ztab 138 = ztb138 := rfl
  refine zv_c1 ht rfl rfl (zv_c1 ht rfl rfl ?_)
  refine zv_br ht rfl rfl rfl (fun b1 => ((zi_nneg rfl (by omega) (by decide)) b1).elim) (fun b1 => ?_)
  refine zv_c1 ht rfl rfl ?_
  refine zv_gl (st' := [.ref 1616]) ht rfl hF rfl rfl rfl ?_
  refine zv_c1 ht rfl rfl ?_
  refine zv_iaE (j := c) (x := b) ht rfl rfl rfl rfl (zi_natE (a := c) rfl (by omega)) ⟨(Or.inl rfl), zi_inE (a := c) (n := 3000) rfl (by omega) (by omega)⟩ hb ?_
  refine zv_c1 ht rfl rfl (zv_c1 ht rfl rfl ?_)
  refine zv_gl (st' := [.ref 1612, .int (Int32.ofNat c), .int b]) ht rfl hF rfl rfl rfl ?_
  refine zv_c1 ht rfl rfl ?_
  refine zv_iaE (j := n) (x := Int32.ofNat c0) ht rfl rfl rfl rfl (zi_natE (a := n) rfl (by omega)) ⟨(Or.inl rfl), zi_inE (a := n) (n := 3000) rfl (by omega) (by omega)⟩ hc0 ?_
  have J3 : zEv d 138 49 [.ref 1592, .int (Int32.ofNat n), .int (Int32.ofNat zs), .int (Int32.ofNat os), .int (Int32.ofNat wo), .int f, .int (Int32.ofNat c)] [.int (Int32.ofNat (znt (c = c0) 0 3)), .int b] S post := by
    have J44 : ((¬ (b = (Int32.ofNat (znt (c = c0) 0 3)))) ∨ (¬ ((g &&& (24 : Int32)) = 24))) → zEv d 138 67 [.retAddr 0, .retAddr 0, .retAddr 0, .retAddr 0, .retAddr 0, .retAddr 0, .retAddr 0] [] S post := by
      intro b45
      exact zv_rt ht rfl rfl rfl rfl (h2 b45)
    refine zv_br ht rfl rfl rfl (fun b5 => ?_) (fun b5 => ?_)
    · exact zEv.wk (L := [.retAddr 0, .retAddr 0, .retAddr 0, .retAddr 0, .retAddr 0, .retAddr 0, .retAddr 0]) (L' := [.ref 1592, .int (Int32.ofNat n), .int (Int32.ofNat zs), .int (Int32.ofNat os), .int (Int32.ofNat wo), .int f, .int (Int32.ofNat c)]) (And.intro (Or.inr rfl) (And.intro (Or.inr rfl) (And.intro (Or.inr rfl) (And.intro (Or.inr rfl) (And.intro (Or.inr rfl) (And.intro (Or.inr rfl) (And.intro (Or.inr rfl) trivial))))))) (J44 (Or.inl b5))
    · replace b5 : b = (Int32.ofNat (znt (c = c0) 0 3)) := Classical.not_not.mp b5
      refine zv_c1 ht rfl rfl ?_
      refine zv_gl (st' := [.ref 1617]) ht rfl hF rfl rfl rfl ?_
      refine zv_c1 ht rfl rfl ?_
      refine zv_iaE (j := c) (x := g) ht rfl rfl rfl rfl (zi_natE (a := c) rfl (by omega)) ⟨(Or.inl rfl), zi_inE (a := c) (n := 3000) rfl (by omega) (by omega)⟩ hg ?_
      refine zv_c1 ht rfl rfl ?_
      have C7 : ∀ (pst6 : Outcome × zS → Prop), (pst6 (.returned (some (.int (zbo ((g &&& (24 : Int32)) = 24)))), S)) → zCall (d - 1) 139 [.int g, .int 24] S pst6 := by
        intro pst6 k12
        have ht8 : ztab 139 = ztb139 := rfl
        show zEv (d - 1) 139 0 [.int g, .int 24] [] S pst6
        refine zv_c1 ht8 rfl rfl (zv_c1 ht8 rfl rfl ?_)
        refine zv_c1 (st' := [.int (g &&& (24 : Int32))]) (S' := S) ht8 rfl rfl ?_
        refine zv_c1 ht8 rfl rfl ?_
        have J10 : zEv (d - 1) 139 12 [.retAddr 0, .retAddr 0] [.int (zbo ((g &&& (24 : Int32)) = 24))] S pst6 := by
          exact zv_rc ht8 rfl rfl rfl rfl zbo_rng k12
        refine zv_br ht8 rfl rfl rfl (fun b9 => ?_) (fun b9 => ?_)
        · refine zv_c1 ht8 rfl rfl ?_
          exact zEv.wk (L := [.retAddr 0, .retAddr 0]) (L' := [.int g, .int 24]) (And.intro (Or.inr rfl) (And.intro (Or.inr rfl) trivial)) (zv_sub (zz := zbo ((g &&& (24 : Int32)) = 24)) (zy := 0) (p := fun zz => zEv (d - 1) 139 12 [.retAddr 0, .retAddr 0] [.int zz] S pst6) (zbo_neg b9) J10)
        · replace b9 : (g &&& (24 : Int32)) = 24 := Classical.not_not.mp b9
          refine zv_c1 ht8 rfl rfl (zv_c1 ht8 rfl rfl ?_)
          exact zEv.wk (L := [.retAddr 0, .retAddr 0]) (L' := [.int g, .int 24]) (And.intro (Or.inr rfl) (And.intro (Or.inr rfl) trivial)) (zv_sub (zz := zbo ((g &&& (24 : Int32)) = 24)) (zy := 1) (p := fun zz => zEv (d - 1) 139 12 [.retAddr 0, .retAddr 0] [.int zz] S pst6) (zbo_pos b9) J10)
      refine zv_cl ht rfl rfl rfl rfl (by omega) (Nat.le_of_ble_eq_true rfl) (C7 _ ?_)
      show zEv d 138 64 [.ref 1592, .int (Int32.ofNat n), .int (Int32.ofNat zs), .int (Int32.ofNat os), .int (Int32.ofNat wo), .int f, .int (Int32.ofNat c)] [.int (zbo ((g &&& (24 : Int32)) = 24))] S post
      refine zv_br ht rfl rfl rfl (fun b13 => ?_) (fun b13 => ?_)
      · replace b13 : (g &&& (24 : Int32)) = 24 := Classical.byContradiction (fun h => b13 ((zbo_eq0 : (zbo ((g &&& (24 : Int32)) = 24)) = 0 ↔ ¬ ((g &&& (24 : Int32)) = 24)).mpr h))
        refine zv_c1 ht rfl rfl (zv_c1 ht rfl rfl ?_)
        refine zv_gl (st' := [.ref 1617, .int (Int32.ofNat zs)]) ht rfl hF rfl rfl rfl ?_
        refine zv_c1 ht rfl rfl ?_
        refine zv_iaE (j := c) (x := g) ht rfl rfl rfl rfl (zi_natE (a := c) rfl (by omega)) ⟨(Or.inl rfl), zi_inE (a := c) (n := 3000) rfl (by omega) (by omega)⟩ hg ?_
        refine zv_c1 ht rfl rfl ?_
        have C15 : ∀ (pst14 : Outcome × zS → Prop), (pst14 (.returned (some (.int (zbo ((g &&& (1 : Int32)) = 1)))), S)) → zCall (d - 1) 139 [.int g, .int 1] S pst14 := by
          intro pst14 k20
          have ht16 : ztab 139 = ztb139 := rfl
          show zEv (d - 1) 139 0 [.int g, .int 1] [] S pst14
          refine zv_c1 ht16 rfl rfl (zv_c1 ht16 rfl rfl ?_)
          refine zv_c1 (st' := [.int (g &&& (1 : Int32))]) (S' := S) ht16 rfl rfl ?_
          refine zv_c1 ht16 rfl rfl ?_
          have J18 : zEv (d - 1) 139 12 [.retAddr 0, .retAddr 0] [.int (zbo ((g &&& (1 : Int32)) = 1))] S pst14 := by
            exact zv_rc ht16 rfl rfl rfl rfl zbo_rng k20
          refine zv_br ht16 rfl rfl rfl (fun b17 => ?_) (fun b17 => ?_)
          · refine zv_c1 ht16 rfl rfl ?_
            exact zEv.wk (L := [.retAddr 0, .retAddr 0]) (L' := [.int g, .int 1]) (And.intro (Or.inr rfl) (And.intro (Or.inr rfl) trivial)) (zv_sub (zz := zbo ((g &&& (1 : Int32)) = 1)) (zy := 0) (p := fun zz => zEv (d - 1) 139 12 [.retAddr 0, .retAddr 0] [.int zz] S pst14) (zbo_neg b17) J18)
          · replace b17 : (g &&& (1 : Int32)) = 1 := Classical.not_not.mp b17
            refine zv_c1 ht16 rfl rfl (zv_c1 ht16 rfl rfl ?_)
            exact zEv.wk (L := [.retAddr 0, .retAddr 0]) (L' := [.int g, .int 1]) (And.intro (Or.inr rfl) (And.intro (Or.inr rfl) trivial)) (zv_sub (zz := zbo ((g &&& (1 : Int32)) = 1)) (zy := 1) (p := fun zz => zEv (d - 1) 139 12 [.retAddr 0, .retAddr 0] [.int zz] S pst14) (zbo_pos b17) J18)
        refine zv_cl ht rfl rfl rfl rfl (by omega) (Nat.le_of_ble_eq_true rfl) (C15 _ ?_)
        show zEv d 138 80 [.ref 1592, .int (Int32.ofNat n), .int (Int32.ofNat zs), .int (Int32.ofNat os), .int (Int32.ofNat wo), .int f, .int (Int32.ofNat c)] [.int (zbo ((g &&& (1 : Int32)) = 1)), .int (Int32.ofNat zs)] S post
        have J22 : zEv d 138 88 [.ref 1592, .int (Int32.ofNat n), .retAddr 0, .int (Int32.ofNat os), .int (Int32.ofNat wo), .int f, .int (Int32.ofNat c)] [.int (zbo ((g &&& (1 : Int32)) = 1)), .int (Int32.ofNat zs)] S post := by
          refine zv_e1 (x := Int32.ofNat (zs + (zbn ((g &&& (1 : Int32)) = 1)))) ht rfl rfl (zi_addE (a := zs) (b := zbn ((g &&& (1 : Int32)) = 1)) rfl zbo_nat) ?_
          refine zv_c2 (L' := [.ref 1592, .int (Int32.ofNat n), .int (Int32.ofNat (zs + (zbn ((g &&& (1 : Int32)) = 1)))), .int (Int32.ofNat os), .int (Int32.ofNat wo), .int f, .int (Int32.ofNat c)]) ht rfl rfl ?_
          refine zv_c1 ht rfl rfl (zv_c1 ht rfl rfl ?_)
          refine zv_gl (st' := [.ref 1617, .int (Int32.ofNat os)]) ht rfl hF rfl rfl rfl ?_
          refine zv_c1 ht rfl rfl ?_
          refine zv_iaE (j := c) (x := g) ht rfl rfl rfl rfl (zi_natE (a := c) rfl (by omega)) ⟨(Or.inl rfl), zi_inE (a := c) (n := 3000) rfl (by omega) (by omega)⟩ hg ?_
          refine zv_c1 ht rfl rfl ?_
          have C25 : ∀ (pst24 : Outcome × zS → Prop), (pst24 (.returned (some (.int (zbo ((g &&& (2 : Int32)) = 2)))), S)) → zCall (d - 1) 139 [.int g, .int 2] S pst24 := by
            intro pst24 k30
            have ht26 : ztab 139 = ztb139 := rfl
            show zEv (d - 1) 139 0 [.int g, .int 2] [] S pst24
            refine zv_c1 ht26 rfl rfl (zv_c1 ht26 rfl rfl ?_)
            refine zv_c1 (st' := [.int (g &&& (2 : Int32))]) (S' := S) ht26 rfl rfl ?_
            refine zv_c1 ht26 rfl rfl ?_
            have J28 : zEv (d - 1) 139 12 [.retAddr 0, .retAddr 0] [.int (zbo ((g &&& (2 : Int32)) = 2))] S pst24 := by
              exact zv_rc ht26 rfl rfl rfl rfl zbo_rng k30
            refine zv_br ht26 rfl rfl rfl (fun b27 => ?_) (fun b27 => ?_)
            · refine zv_c1 ht26 rfl rfl ?_
              exact zEv.wk (L := [.retAddr 0, .retAddr 0]) (L' := [.int g, .int 2]) (And.intro (Or.inr rfl) (And.intro (Or.inr rfl) trivial)) (zv_sub (zz := zbo ((g &&& (2 : Int32)) = 2)) (zy := 0) (p := fun zz => zEv (d - 1) 139 12 [.retAddr 0, .retAddr 0] [.int zz] S pst24) (zbo_neg b27) J28)
            · replace b27 : (g &&& (2 : Int32)) = 2 := Classical.not_not.mp b27
              refine zv_c1 ht26 rfl rfl (zv_c1 ht26 rfl rfl ?_)
              exact zEv.wk (L := [.retAddr 0, .retAddr 0]) (L' := [.int g, .int 2]) (And.intro (Or.inr rfl) (And.intro (Or.inr rfl) trivial)) (zv_sub (zz := zbo ((g &&& (2 : Int32)) = 2)) (zy := 1) (p := fun zz => zEv (d - 1) 139 12 [.retAddr 0, .retAddr 0] [.int zz] S pst24) (zbo_pos b27) J28)
          refine zv_cl ht rfl rfl rfl rfl (by omega) (Nat.le_of_ble_eq_true rfl) (C25 _ ?_)
          show zEv d 138 102 [.ref 1592, .int (Int32.ofNat n), .int (Int32.ofNat (zs + (zbn ((g &&& (1 : Int32)) = 1)))), .int (Int32.ofNat os), .int (Int32.ofNat wo), .int f, .int (Int32.ofNat c)] [.int (zbo ((g &&& (2 : Int32)) = 2)), .int (Int32.ofNat os)] S post
          have J32 : zEv d 138 110 [.ref 1592, .int (Int32.ofNat n), .int (Int32.ofNat (zs + (zbn ((g &&& (1 : Int32)) = 1)))), .retAddr 0, .int (Int32.ofNat wo), .int f, .int (Int32.ofNat c)] [.int (zbo ((g &&& (2 : Int32)) = 2)), .int (Int32.ofNat os)] S post := by
            refine zv_e1 (x := Int32.ofNat (os + (zbn ((g &&& (2 : Int32)) = 2)))) ht rfl rfl (zi_addE (a := os) (b := zbn ((g &&& (2 : Int32)) = 2)) rfl zbo_nat) ?_
            refine zv_c2 (L' := [.ref 1592, .int (Int32.ofNat n), .int (Int32.ofNat (zs + (zbn ((g &&& (1 : Int32)) = 1)))), .int (Int32.ofNat (os + (zbn ((g &&& (2 : Int32)) = 2)))), .int (Int32.ofNat wo), .int f, .int (Int32.ofNat c)]) ht rfl rfl ?_
            refine zv_c1 ht rfl rfl (zv_c1 ht rfl rfl ?_)
            refine zv_gl (st' := [.ref 1617, .int (Int32.ofNat wo)]) ht rfl hF rfl rfl rfl ?_
            refine zv_c1 ht rfl rfl ?_
            refine zv_iaE (j := c) (x := g) ht rfl rfl rfl rfl (zi_natE (a := c) rfl (by omega)) ⟨(Or.inl rfl), zi_inE (a := c) (n := 3000) rfl (by omega) (by omega)⟩ hg ?_
            refine zv_c1 ht rfl rfl ?_
            have C35 : ∀ (pst34 : Outcome × zS → Prop), (pst34 (.returned (some (.int (zbo ((g &&& (32 : Int32)) = 32)))), S)) → zCall (d - 1) 139 [.int g, .int 32] S pst34 := by
              intro pst34 k40
              have ht36 : ztab 139 = ztb139 := rfl
              show zEv (d - 1) 139 0 [.int g, .int 32] [] S pst34
              refine zv_c1 ht36 rfl rfl (zv_c1 ht36 rfl rfl ?_)
              refine zv_c1 (st' := [.int (g &&& (32 : Int32))]) (S' := S) ht36 rfl rfl ?_
              refine zv_c1 ht36 rfl rfl ?_
              have J38 : zEv (d - 1) 139 12 [.retAddr 0, .retAddr 0] [.int (zbo ((g &&& (32 : Int32)) = 32))] S pst34 := by
                exact zv_rc ht36 rfl rfl rfl rfl zbo_rng k40
              refine zv_br ht36 rfl rfl rfl (fun b37 => ?_) (fun b37 => ?_)
              · refine zv_c1 ht36 rfl rfl ?_
                exact zEv.wk (L := [.retAddr 0, .retAddr 0]) (L' := [.int g, .int 32]) (And.intro (Or.inr rfl) (And.intro (Or.inr rfl) trivial)) (zv_sub (zz := zbo ((g &&& (32 : Int32)) = 32)) (zy := 0) (p := fun zz => zEv (d - 1) 139 12 [.retAddr 0, .retAddr 0] [.int zz] S pst34) (zbo_neg b37) J38)
              · replace b37 : (g &&& (32 : Int32)) = 32 := Classical.not_not.mp b37
                refine zv_c1 ht36 rfl rfl (zv_c1 ht36 rfl rfl ?_)
                exact zEv.wk (L := [.retAddr 0, .retAddr 0]) (L' := [.int g, .int 32]) (And.intro (Or.inr rfl) (And.intro (Or.inr rfl) trivial)) (zv_sub (zz := zbo ((g &&& (32 : Int32)) = 32)) (zy := 1) (p := fun zz => zEv (d - 1) 139 12 [.retAddr 0, .retAddr 0] [.int zz] S pst34) (zbo_pos b37) J38)
            refine zv_cl ht rfl rfl rfl rfl (by omega) (Nat.le_of_ble_eq_true rfl) (C35 _ ?_)
            show zEv d 138 126 [.ref 1592, .int (Int32.ofNat n), .int (Int32.ofNat (zs + (zbn ((g &&& (1 : Int32)) = 1)))), .int (Int32.ofNat (os + (zbn ((g &&& (2 : Int32)) = 2)))), .int (Int32.ofNat wo), .int f, .int (Int32.ofNat c)] [.int (zbo ((g &&& (32 : Int32)) = 32)), .int (Int32.ofNat wo)] S post
            have J42 : zEv d 138 134 [.ref 1592, .int (Int32.ofNat n), .int (Int32.ofNat (zs + (zbn ((g &&& (1 : Int32)) = 1)))), .int (Int32.ofNat (os + (zbn ((g &&& (2 : Int32)) = 2)))), .retAddr 0, .int f, .int (Int32.ofNat c)] [.int (zbo (¬ ((g &&& (32 : Int32)) = 32))), .int (Int32.ofNat wo)] S post := by
              refine zv_e1 (x := Int32.ofNat (wo + (zbn (¬ ((g &&& (32 : Int32)) = 32))))) ht rfl rfl (zi_addE (a := wo) (b := zbn (¬ ((g &&& (32 : Int32)) = 32))) rfl zbo_nat) ?_
              refine zv_c2 (L' := [.ref 1592, .int (Int32.ofNat n), .int (Int32.ofNat (zs + (zbn ((g &&& (1 : Int32)) = 1)))), .int (Int32.ofNat (os + (zbn ((g &&& (2 : Int32)) = 2)))), .int (Int32.ofNat (wo + (zbn (¬ ((g &&& (32 : Int32)) = 32))))), .int f, .int (Int32.ofNat c)]) ht rfl rfl ?_
              refine zv_c1 ht rfl rfl (zv_c1 ht rfl rfl ?_)
              refine zv_gl (st' := [.ref 1617, .int f]) ht rfl hF rfl rfl rfl ?_
              refine zv_c1 ht rfl rfl ?_
              refine zv_iaE (j := c) (x := g) ht rfl rfl rfl rfl (zi_natE (a := c) rfl (by omega)) ⟨(Or.inl rfl), zi_inE (a := c) (n := 3000) rfl (by omega) (by omega)⟩ hg ?_
              refine zv_c1 (st' := [.int (f &&& g)]) (S' := S) ht rfl rfl ?_
              refine zv_c2 (L' := [.ref 1592, .int (Int32.ofNat n), .int (Int32.ofNat (zs + (zbn ((g &&& (1 : Int32)) = 1)))), .int (Int32.ofNat (os + (zbn ((g &&& (2 : Int32)) = 2)))), .int (Int32.ofNat (wo + (zbn (¬ ((g &&& (32 : Int32)) = 32))))), .int (f &&& g), .int (Int32.ofNat c)]) ht rfl rfl ?_
              refine zv_c1 ht rfl rfl ?_
              refine zv_gl (st' := [.ref 1613]) ht rfl hF rfl rfl rfl ?_
              refine zv_c1 ht rfl rfl ?_
              refine zv_iaE (j := c) (x := nx) ht rfl rfl rfl rfl (zi_natE (a := c) rfl (by omega)) ⟨(Or.inl rfl), zi_inE (a := c) (n := 3000) rfl (by omega) (by omega)⟩ hnx ?_
              refine zv_c2 (L' := [.ref 1592, .int (Int32.ofNat n), .int (Int32.ofNat (zs + (zbn ((g &&& (1 : Int32)) = 1)))), .int (Int32.ofNat (os + (zbn ((g &&& (2 : Int32)) = 2)))), .int (Int32.ofNat (wo + (zbn (¬ ((g &&& (32 : Int32)) = 32))))), .int (f &&& g), .int nx]) ht rfl rfl ?_
              refine zv_c1 ht rfl rfl ?_
              exact (h1 b5 b13)
            refine zv_br ht rfl rfl rfl (fun b41 => ?_) (fun b41 => ?_)
            · replace b41 : ¬ ((g &&& (32 : Int32)) = 32) := (zbo_eq0 : (zbo ((g &&& (32 : Int32)) = 32)) = 0 ↔ ¬ ((g &&& (32 : Int32)) = 32)).mp b41
              refine zv_c1 ht rfl rfl ?_
              exact zEv.wk (L := [.ref 1592, .int (Int32.ofNat n), .int (Int32.ofNat (zs + (zbn ((g &&& (1 : Int32)) = 1)))), .int (Int32.ofNat (os + (zbn ((g &&& (2 : Int32)) = 2)))), .retAddr 0, .int f, .int (Int32.ofNat c)]) (L' := [.ref 1592, .int (Int32.ofNat n), .int (Int32.ofNat (zs + (zbn ((g &&& (1 : Int32)) = 1)))), .int (Int32.ofNat (os + (zbn ((g &&& (2 : Int32)) = 2)))), .int (Int32.ofNat wo), .int f, .int (Int32.ofNat c)]) (And.intro (Or.inl rfl) (And.intro (Or.inl rfl) (And.intro (Or.inl rfl) (And.intro (Or.inl rfl) (And.intro (Or.inr rfl) (And.intro (Or.inl rfl) (And.intro (Or.inl rfl) trivial))))))) (zv_sub (zz := zbo (¬ ((g &&& (32 : Int32)) = 32))) (zy := 1) (p := fun zz => zEv d 138 134 [.ref 1592, .int (Int32.ofNat n), .int (Int32.ofNat (zs + (zbn ((g &&& (1 : Int32)) = 1)))), .int (Int32.ofNat (os + (zbn ((g &&& (2 : Int32)) = 2)))), .retAddr 0, .int f, .int (Int32.ofNat c)] [.int zz, .int (Int32.ofNat wo)] S post) (zbo_pos b41) J42)
            · replace b41 : (g &&& (32 : Int32)) = 32 := Classical.byContradiction (fun h => b41 ((zbo_eq0 : (zbo ((g &&& (32 : Int32)) = 32)) = 0 ↔ ¬ ((g &&& (32 : Int32)) = 32)).mpr h))
              refine zv_c1 ht rfl rfl (zv_c1 ht rfl rfl ?_)
              exact zEv.wk (L := [.ref 1592, .int (Int32.ofNat n), .int (Int32.ofNat (zs + (zbn ((g &&& (1 : Int32)) = 1)))), .int (Int32.ofNat (os + (zbn ((g &&& (2 : Int32)) = 2)))), .retAddr 0, .int f, .int (Int32.ofNat c)]) (L' := [.ref 1592, .int (Int32.ofNat n), .int (Int32.ofNat (zs + (zbn ((g &&& (1 : Int32)) = 1)))), .int (Int32.ofNat (os + (zbn ((g &&& (2 : Int32)) = 2)))), .int (Int32.ofNat wo), .int f, .int (Int32.ofNat c)]) (And.intro (Or.inl rfl) (And.intro (Or.inl rfl) (And.intro (Or.inl rfl) (And.intro (Or.inl rfl) (And.intro (Or.inr rfl) (And.intro (Or.inl rfl) (And.intro (Or.inl rfl) trivial))))))) (zv_sub (zz := zbo (¬ ((g &&& (32 : Int32)) = 32))) (zy := 0) (p := fun zz => zEv d 138 134 [.ref 1592, .int (Int32.ofNat n), .int (Int32.ofNat (zs + (zbn ((g &&& (1 : Int32)) = 1)))), .int (Int32.ofNat (os + (zbn ((g &&& (2 : Int32)) = 2)))), .retAddr 0, .int f, .int (Int32.ofNat c)] [.int zz, .int (Int32.ofNat wo)] S post) (zbo_neg (fun h => h b41)) J42)
          refine zv_br ht rfl rfl rfl (fun b31 => ?_) (fun b31 => ?_)
          · replace b31 : ¬ ((g &&& (2 : Int32)) = 2) := (zbo_eq0 : (zbo ((g &&& (2 : Int32)) = 2)) = 0 ↔ ¬ ((g &&& (2 : Int32)) = 2)).mp b31
            refine zv_c1 ht rfl rfl ?_
            exact zEv.wk (L := [.ref 1592, .int (Int32.ofNat n), .int (Int32.ofNat (zs + (zbn ((g &&& (1 : Int32)) = 1)))), .retAddr 0, .int (Int32.ofNat wo), .int f, .int (Int32.ofNat c)]) (L' := [.ref 1592, .int (Int32.ofNat n), .int (Int32.ofNat (zs + (zbn ((g &&& (1 : Int32)) = 1)))), .int (Int32.ofNat os), .int (Int32.ofNat wo), .int f, .int (Int32.ofNat c)]) (And.intro (Or.inl rfl) (And.intro (Or.inl rfl) (And.intro (Or.inl rfl) (And.intro (Or.inr rfl) (And.intro (Or.inl rfl) (And.intro (Or.inl rfl) (And.intro (Or.inl rfl) trivial))))))) (zv_sub (zz := zbo ((g &&& (2 : Int32)) = 2)) (zy := 0) (p := fun zz => zEv d 138 110 [.ref 1592, .int (Int32.ofNat n), .int (Int32.ofNat (zs + (zbn ((g &&& (1 : Int32)) = 1)))), .retAddr 0, .int (Int32.ofNat wo), .int f, .int (Int32.ofNat c)] [.int zz, .int (Int32.ofNat os)] S post) (zbo_neg b31) J32)
          · replace b31 : (g &&& (2 : Int32)) = 2 := Classical.byContradiction (fun h => b31 ((zbo_eq0 : (zbo ((g &&& (2 : Int32)) = 2)) = 0 ↔ ¬ ((g &&& (2 : Int32)) = 2)).mpr h))
            refine zv_c1 ht rfl rfl (zv_c1 ht rfl rfl ?_)
            exact zEv.wk (L := [.ref 1592, .int (Int32.ofNat n), .int (Int32.ofNat (zs + (zbn ((g &&& (1 : Int32)) = 1)))), .retAddr 0, .int (Int32.ofNat wo), .int f, .int (Int32.ofNat c)]) (L' := [.ref 1592, .int (Int32.ofNat n), .int (Int32.ofNat (zs + (zbn ((g &&& (1 : Int32)) = 1)))), .int (Int32.ofNat os), .int (Int32.ofNat wo), .int f, .int (Int32.ofNat c)]) (And.intro (Or.inl rfl) (And.intro (Or.inl rfl) (And.intro (Or.inl rfl) (And.intro (Or.inr rfl) (And.intro (Or.inl rfl) (And.intro (Or.inl rfl) (And.intro (Or.inl rfl) trivial))))))) (zv_sub (zz := zbo ((g &&& (2 : Int32)) = 2)) (zy := 1) (p := fun zz => zEv d 138 110 [.ref 1592, .int (Int32.ofNat n), .int (Int32.ofNat (zs + (zbn ((g &&& (1 : Int32)) = 1)))), .retAddr 0, .int (Int32.ofNat wo), .int f, .int (Int32.ofNat c)] [.int zz, .int (Int32.ofNat os)] S post) (zbo_pos b31) J32)
        refine zv_br ht rfl rfl rfl (fun b21 => ?_) (fun b21 => ?_)
        · replace b21 : ¬ ((g &&& (1 : Int32)) = 1) := (zbo_eq0 : (zbo ((g &&& (1 : Int32)) = 1)) = 0 ↔ ¬ ((g &&& (1 : Int32)) = 1)).mp b21
          refine zv_c1 ht rfl rfl ?_
          exact zEv.wk (L := [.ref 1592, .int (Int32.ofNat n), .retAddr 0, .int (Int32.ofNat os), .int (Int32.ofNat wo), .int f, .int (Int32.ofNat c)]) (L' := [.ref 1592, .int (Int32.ofNat n), .int (Int32.ofNat zs), .int (Int32.ofNat os), .int (Int32.ofNat wo), .int f, .int (Int32.ofNat c)]) (And.intro (Or.inl rfl) (And.intro (Or.inl rfl) (And.intro (Or.inr rfl) (And.intro (Or.inl rfl) (And.intro (Or.inl rfl) (And.intro (Or.inl rfl) (And.intro (Or.inl rfl) trivial))))))) (zv_sub (zz := zbo ((g &&& (1 : Int32)) = 1)) (zy := 0) (p := fun zz => zEv d 138 88 [.ref 1592, .int (Int32.ofNat n), .retAddr 0, .int (Int32.ofNat os), .int (Int32.ofNat wo), .int f, .int (Int32.ofNat c)] [.int zz, .int (Int32.ofNat zs)] S post) (zbo_neg b21) J22)
        · replace b21 : (g &&& (1 : Int32)) = 1 := Classical.byContradiction (fun h => b21 ((zbo_eq0 : (zbo ((g &&& (1 : Int32)) = 1)) = 0 ↔ ¬ ((g &&& (1 : Int32)) = 1)).mpr h))
          refine zv_c1 ht rfl rfl (zv_c1 ht rfl rfl ?_)
          exact zEv.wk (L := [.ref 1592, .int (Int32.ofNat n), .retAddr 0, .int (Int32.ofNat os), .int (Int32.ofNat wo), .int f, .int (Int32.ofNat c)]) (L' := [.ref 1592, .int (Int32.ofNat n), .int (Int32.ofNat zs), .int (Int32.ofNat os), .int (Int32.ofNat wo), .int f, .int (Int32.ofNat c)]) (And.intro (Or.inl rfl) (And.intro (Or.inl rfl) (And.intro (Or.inr rfl) (And.intro (Or.inl rfl) (And.intro (Or.inl rfl) (And.intro (Or.inl rfl) (And.intro (Or.inl rfl) trivial))))))) (zv_sub (zz := zbo ((g &&& (1 : Int32)) = 1)) (zy := 1) (p := fun zz => zEv d 138 88 [.ref 1592, .int (Int32.ofNat n), .retAddr 0, .int (Int32.ofNat os), .int (Int32.ofNat wo), .int f, .int (Int32.ofNat c)] [.int zz, .int (Int32.ofNat zs)] S post) (zbo_pos b21) J22)
      · replace b13 : ¬ ((g &&& (24 : Int32)) = 24) := (zbo_eq0 : (zbo ((g &&& (24 : Int32)) = 24)) = 0 ↔ ¬ ((g &&& (24 : Int32)) = 24)).mp (Classical.not_not.mp b13)
        exact zEv.wk (L := [.retAddr 0, .retAddr 0, .retAddr 0, .retAddr 0, .retAddr 0, .retAddr 0, .retAddr 0]) (L' := [.ref 1592, .int (Int32.ofNat n), .int (Int32.ofNat zs), .int (Int32.ofNat os), .int (Int32.ofNat wo), .int f, .int (Int32.ofNat c)]) (And.intro (Or.inr rfl) (And.intro (Or.inr rfl) (And.intro (Or.inr rfl) (And.intro (Or.inr rfl) (And.intro (Or.inr rfl) (And.intro (Or.inr rfl) (And.intro (Or.inr rfl) trivial))))))) (J44 (Or.inr b13))
  refine zv_br ht rfl rfl rfl (fun b2 => ?_) (fun b2 => ?_)
  · replace b2 : ¬ (c = c0) := fun h => b2 ((zi_eqE (a := c) (b := c0) rfl rfl (by omega) (by omega)).mpr h)
    refine zv_c1 ht rfl rfl ?_
    exact (zv_sub (zz := Int32.ofNat (znt (c = c0) 0 3)) (zy := 3) (p := fun zz => zEv d 138 49 [.ref 1592, .int (Int32.ofNat n), .int (Int32.ofNat zs), .int (Int32.ofNat os), .int (Int32.ofNat wo), .int f, .int (Int32.ofNat c)] [.int zz, .int b] S post) (congrArg Int32.ofNat (znt_neg b2)) J3)
  · replace b2 : c = c0 := (zi_eqE (a := c) (b := c0) rfl rfl (by omega) (by omega)).mp (Classical.not_not.mp b2)
    refine zv_c1 ht rfl rfl (zv_c1 ht rfl rfl ?_)
    exact (zv_sub (zz := Int32.ofNat (znt (c = c0) 0 3)) (zy := 0) (p := fun zz => zEv d 138 49 [.ref 1592, .int (Int32.ofNat n), .int (Int32.ofNat zs), .int (Int32.ofNat os), .int (Int32.ofNat wo), .int f, .int (Int32.ofNat c)] [.int zz, .int b] S post) (congrArg Int32.ofNat (znt_pos b2)) J3)

noncomputable def tt2_s1 (S : zS) (n : Nat) (zs : Nat) (os : Nat) (wo : Nat) (mn : Nat) (v : Nat) (f : Int32) : zS := sA (sA S 1616 n 0) 1617 n ((((24 : Int32) ||| (zbo (zs = mn))) ||| (Int32.ofNat (znt ((zs = mn - 1) ∧ (os = 1)) 2 0))) ||| (((Int32.ofNat (znt (((f &&& (384 : Int32)) = 384) ∧ (¬ (v < wo))) 256 0)) ||| (Int32.ofNat (znt (¬ (¬ (v - 1 < wo))) 0 32))) ||| (Int32.ofNat (znt (wo = 0) 128 0))))
theorem tt2 {d : Nat} {S : zS} (hF : zFin true S) (hd : 1 ≤ d) (n zs os wo mn v : Nat) (f : Int32)  (hn : n < 3000) (hz : zs < 20) (ho : os < 20) (hw : wo < 20) (hmn1 : mn < 20) (hv1 : v < 2147483648) (hv0 : 1 ≤ v) (hm0 : 1 ≤ mn) (hmn : gA S 1614 n = Int32.ofNat mn) (hv : gA S 1611 n = Int32.ofNat v) {post : Outcome × zS → Prop} (h1 : post (.returned none, tt2_s1 S n zs os wo mn v f)) : zEv d 138 20 [.ref 1592, .int (Int32.ofNat n), .int (Int32.ofNat zs), .int (Int32.ofNat os), .int (Int32.ofNat wo), .int f, .int (-1)] [] S post := by
  have ht : ztab 138 = ztb138 := rfl
  refine zv_c1 ht rfl rfl (zv_c1 ht rfl rfl ?_)
  refine zv_br ht rfl rfl rfl (fun _ => ?_) (fun h => absurd (by decide) h)
  refine zv_c1 ht rfl rfl (zv_c1 ht rfl rfl (zv_c1 ht rfl rfl ?_))
  refine zv_gl (st' := [.ref 1614, .int (Int32.ofNat zs), .int 24]) ht rfl hF rfl rfl rfl ?_
  refine zv_c1 ht rfl rfl ?_
  refine zv_iaE (j := n) (x := Int32.ofNat mn) ht rfl rfl rfl rfl (zi_natE (a := n) rfl (by omega)) ⟨(Or.inl rfl), zi_inE (a := n) (n := 3000) rfl (by omega) (by omega)⟩ hmn ?_
  have J2 : zEv d 138 178 [.ref 1592, .int (Int32.ofNat n), .int (Int32.ofNat zs), .int (Int32.ofNat os), .int (Int32.ofNat wo), .int f, .retAddr 0] [.int (zbo (zs = mn)), .int 24] S post := by
    refine zv_c1 ht rfl rfl ?_
    have C5 : ∀ (pst4 : Outcome × zS → Prop), (pst4 (.returned (some (.int (zbo (zs = mn)))), S)) → zCall (d - 1) 140 [.int (zbo (zs = mn)), .int 1] S pst4 := by
      intro pst4 k10
      have ht6 : ztab 140 = ztb140 := rfl
      show zEv (d - 1) 140 0 [.int (zbo (zs = mn)), .int 1] [] S pst4
      refine zv_c1 ht6 rfl rfl ?_
      have J8 : zEv (d - 1) 140 9 [.retAddr 0, .retAddr 0] [.int (zbo (zs = mn))] S pst4 := by
        exact zv_rt ht6 rfl rfl rfl rfl k10
      refine zv_br ht6 rfl rfl rfl (fun b7 => ?_) (fun b7 => ?_)
      · replace b7 : ¬ (zs = mn) := (zbo_eq0 : (zbo (zs = mn)) = 0 ↔ ¬ (zs = mn)).mp b7
        refine zv_c1 ht6 rfl rfl ?_
        exact zEv.wk (L := [.retAddr 0, .retAddr 0]) (L' := [.int (zbo (zs = mn)), .int 1]) (And.intro (Or.inr rfl) (And.intro (Or.inr rfl) trivial)) (zv_sub (zz := zbo (zs = mn)) (zy := 0) (p := fun zz => zEv (d - 1) 140 9 [.retAddr 0, .retAddr 0] [.int zz] S pst4) (zbo_neg b7) J8)
      · replace b7 : zs = mn := Classical.byContradiction (fun h => b7 ((zbo_eq0 : (zbo (zs = mn)) = 0 ↔ ¬ (zs = mn)).mpr h))
        refine zv_c1 ht6 rfl rfl (zv_c1 ht6 rfl rfl ?_)
        exact zEv.wk (L := [.retAddr 0, .retAddr 0]) (L' := [.int (zbo (zs = mn)), .int 1]) (And.intro (Or.inr rfl) (And.intro (Or.inr rfl) trivial)) (zv_sub (zz := zbo (zs = mn)) (zy := 1) (p := fun zz => zEv (d - 1) 140 9 [.retAddr 0, .retAddr 0] [.int zz] S pst4) (zbo_pos b7) J8)
    refine zv_cl ht rfl rfl rfl rfl (by omega) (Nat.le_of_ble_eq_true rfl) (C5 _ ?_)
    show zEv d 138 182 [.ref 1592, .int (Int32.ofNat n), .int (Int32.ofNat zs), .int (Int32.ofNat os), .int (Int32.ofNat wo), .int f, .retAddr 0] [.int (zbo (zs = mn)), .int 24] S post
    refine zv_c1 (st' := [.int ((24 : Int32) ||| (zbo (zs = mn)))]) (S' := S) ht rfl rfl ?_
    refine zv_c1 ht rfl rfl (zv_c1 ht rfl rfl ?_)
    refine zv_gl (st' := [.ref 1614, .int (Int32.ofNat zs), .int ((24 : Int32) ||| (zbo (zs = mn)))]) ht rfl hF rfl rfl rfl ?_
    refine zv_c1 ht rfl rfl ?_
    refine zv_iaE (j := n) (x := Int32.ofNat mn) ht rfl rfl rfl rfl (zi_natE (a := n) rfl (by omega)) ⟨(Or.inl rfl), zi_inE (a := n) (n := 3000) rfl (by omega) (by omega)⟩ hmn ?_
    refine zv_c1 ht rfl rfl ?_
    refine zv_e1 (x := Int32.ofNat (mn - 1)) ht rfl rfl (zi_subE (a := mn) (b := 1) rfl rfl (by omega)) ?_
    have J15 : zEv d 138 205 [.ref 1592, .int (Int32.ofNat n), .retAddr 0, .retAddr 0, .int (Int32.ofNat wo), .int f, .retAddr 0] [.int (zbo ((zs = mn - 1) ∧ (os = 1))), .int ((24 : Int32) ||| (zbo (zs = mn)))] S post := by
      refine zv_c1 ht rfl rfl ?_
      have C18 : ∀ (pst17 : Outcome × zS → Prop), (pst17 (.returned (some (.int (Int32.ofNat (znt ((zs = mn - 1) ∧ (os = 1)) 2 0)))), S)) → zCall (d - 1) 140 [.int (zbo ((zs = mn - 1) ∧ (os = 1))), .int 2] S pst17 := by
        intro pst17 k23
        have ht19 : ztab 140 = ztb140 := rfl
        show zEv (d - 1) 140 0 [.int (zbo ((zs = mn - 1) ∧ (os = 1))), .int 2] [] S pst17
        refine zv_c1 ht19 rfl rfl ?_
        have J21 : zEv (d - 1) 140 9 [.retAddr 0, .retAddr 0] [.int (Int32.ofNat (znt ((zs = mn - 1) ∧ (os = 1)) 2 0))] S pst17 := by
          exact zv_rt ht19 rfl rfl rfl rfl k23
        refine zv_br ht19 rfl rfl rfl (fun b20 => ?_) (fun b20 => ?_)
        · replace b20 : ¬ ((zs = mn - 1) ∧ (os = 1)) := (zbo_eq0 : (zbo ((zs = mn - 1) ∧ (os = 1))) = 0 ↔ ¬ ((zs = mn - 1) ∧ (os = 1))).mp b20
          refine zv_c1 ht19 rfl rfl ?_
          exact zEv.wk (L := [.retAddr 0, .retAddr 0]) (L' := [.int (zbo ((zs = mn - 1) ∧ (os = 1))), .int 2]) (And.intro (Or.inr rfl) (And.intro (Or.inr rfl) trivial)) (zv_sub (zz := Int32.ofNat (znt ((zs = mn - 1) ∧ (os = 1)) 2 0)) (zy := 0) (p := fun zz => zEv (d - 1) 140 9 [.retAddr 0, .retAddr 0] [.int zz] S pst17) (congrArg Int32.ofNat (znt_neg b20)) J21)
        · replace b20 : (zs = mn - 1) ∧ (os = 1) := Classical.byContradiction (fun h => b20 ((zbo_eq0 : (zbo ((zs = mn - 1) ∧ (os = 1))) = 0 ↔ ¬ ((zs = mn - 1) ∧ (os = 1))).mpr h))
          refine zv_c1 ht19 rfl rfl (zv_c1 ht19 rfl rfl ?_)
          exact zEv.wk (L := [.retAddr 0, .retAddr 0]) (L' := [.int (zbo ((zs = mn - 1) ∧ (os = 1))), .int 2]) (And.intro (Or.inr rfl) (And.intro (Or.inr rfl) trivial)) (zv_sub (zz := Int32.ofNat (znt ((zs = mn - 1) ∧ (os = 1)) 2 0)) (zy := 2) (p := fun zz => zEv (d - 1) 140 9 [.retAddr 0, .retAddr 0] [.int zz] S pst17) (congrArg Int32.ofNat (znt_pos b20)) J21)
      refine zv_cl ht rfl rfl rfl rfl (by omega) (Nat.le_of_ble_eq_true rfl) (C18 _ ?_)
      show zEv d 138 209 [.ref 1592, .int (Int32.ofNat n), .retAddr 0, .retAddr 0, .int (Int32.ofNat wo), .int f, .retAddr 0] [.int (Int32.ofNat (znt ((zs = mn - 1) ∧ (os = 1)) 2 0)), .int ((24 : Int32) ||| (zbo (zs = mn)))] S post
      refine zv_c1 (st' := [.int (((24 : Int32) ||| (zbo (zs = mn))) ||| (Int32.ofNat (znt ((zs = mn - 1) ∧ (os = 1)) 2 0)))]) (S' := S) ht rfl rfl ?_
      refine zv_c2 (L' := [.ref 1592, .int (Int32.ofNat n), .retAddr 0, .retAddr 0, .int (Int32.ofNat wo), .int f, .int (((24 : Int32) ||| (zbo (zs = mn))) ||| (Int32.ofNat (znt ((zs = mn - 1) ∧ (os = 1)) 2 0)))]) ht rfl rfl ?_
      refine zv_c1 ht rfl rfl (zv_c1 ht rfl rfl (zv_c1 ht rfl rfl ?_))
      have C25 : ∀ (pst24 : Outcome × zS → Prop), (pst24 (.returned (some (.int (zbo ((f &&& (384 : Int32)) = 384)))), S)) → zCall (d - 1) 139 [.int f, .int 384] S pst24 := by
        intro pst24 k30
        have ht26 : ztab 139 = ztb139 := rfl
        show zEv (d - 1) 139 0 [.int f, .int 384] [] S pst24
        refine zv_c1 ht26 rfl rfl (zv_c1 ht26 rfl rfl ?_)
        refine zv_c1 (st' := [.int (f &&& (384 : Int32))]) (S' := S) ht26 rfl rfl ?_
        refine zv_c1 ht26 rfl rfl ?_
        have J28 : zEv (d - 1) 139 12 [.retAddr 0, .retAddr 0] [.int (zbo ((f &&& (384 : Int32)) = 384))] S pst24 := by
          exact zv_rc ht26 rfl rfl rfl rfl zbo_rng k30
        refine zv_br ht26 rfl rfl rfl (fun b27 => ?_) (fun b27 => ?_)
        · refine zv_c1 ht26 rfl rfl ?_
          exact zEv.wk (L := [.retAddr 0, .retAddr 0]) (L' := [.int f, .int 384]) (And.intro (Or.inr rfl) (And.intro (Or.inr rfl) trivial)) (zv_sub (zz := zbo ((f &&& (384 : Int32)) = 384)) (zy := 0) (p := fun zz => zEv (d - 1) 139 12 [.retAddr 0, .retAddr 0] [.int zz] S pst24) (zbo_neg b27) J28)
        · replace b27 : (f &&& (384 : Int32)) = 384 := Classical.not_not.mp b27
          refine zv_c1 ht26 rfl rfl (zv_c1 ht26 rfl rfl ?_)
          exact zEv.wk (L := [.retAddr 0, .retAddr 0]) (L' := [.int f, .int 384]) (And.intro (Or.inr rfl) (And.intro (Or.inr rfl) trivial)) (zv_sub (zz := zbo ((f &&& (384 : Int32)) = 384)) (zy := 1) (p := fun zz => zEv (d - 1) 139 12 [.retAddr 0, .retAddr 0] [.int zz] S pst24) (zbo_pos b27) J28)
      refine zv_cl ht rfl rfl rfl rfl (by omega) (Nat.le_of_ble_eq_true rfl) (C25 _ ?_)
      show zEv d 138 222 [.ref 1592, .int (Int32.ofNat n), .retAddr 0, .retAddr 0, .int (Int32.ofNat wo), .int f, .int (((24 : Int32) ||| (zbo (zs = mn))) ||| (Int32.ofNat (znt ((zs = mn - 1) ∧ (os = 1)) 2 0)))] [.int (zbo ((f &&& (384 : Int32)) = 384)), .int (((24 : Int32) ||| (zbo (zs = mn))) ||| (Int32.ofNat (znt ((zs = mn - 1) ∧ (os = 1)) 2 0)))] S post
      have J35 : zEv d 138 241 [.ref 1592, .int (Int32.ofNat n), .retAddr 0, .retAddr 0, .int (Int32.ofNat wo), .retAddr 0, .retAddr 0] [.int (zbo (((f &&& (384 : Int32)) = 384) ∧ (¬ (v < wo)))), .int (((24 : Int32) ||| (zbo (zs = mn))) ||| (Int32.ofNat (znt ((zs = mn - 1) ∧ (os = 1)) 2 0)))] S post := by
        refine zv_c1 ht rfl rfl ?_
        have C38 : ∀ (pst37 : Outcome × zS → Prop), (pst37 (.returned (some (.int (Int32.ofNat (znt (((f &&& (384 : Int32)) = 384) ∧ (¬ (v < wo))) 256 0)))), S)) → zCall (d - 1) 140 [.int (zbo (((f &&& (384 : Int32)) = 384) ∧ (¬ (v < wo)))), .int 256] S pst37 := by
          intro pst37 k43
          have ht39 : ztab 140 = ztb140 := rfl
          show zEv (d - 1) 140 0 [.int (zbo (((f &&& (384 : Int32)) = 384) ∧ (¬ (v < wo)))), .int 256] [] S pst37
          refine zv_c1 ht39 rfl rfl ?_
          have J41 : zEv (d - 1) 140 9 [.retAddr 0, .retAddr 0] [.int (Int32.ofNat (znt (((f &&& (384 : Int32)) = 384) ∧ (¬ (v < wo))) 256 0))] S pst37 := by
            exact zv_rt ht39 rfl rfl rfl rfl k43
          refine zv_br ht39 rfl rfl rfl (fun b40 => ?_) (fun b40 => ?_)
          · replace b40 : ¬ (((f &&& (384 : Int32)) = 384) ∧ (¬ (v < wo))) := (zbo_eq0 : (zbo (((f &&& (384 : Int32)) = 384) ∧ (¬ (v < wo)))) = 0 ↔ ¬ (((f &&& (384 : Int32)) = 384) ∧ (¬ (v < wo)))).mp b40
            refine zv_c1 ht39 rfl rfl ?_
            exact zEv.wk (L := [.retAddr 0, .retAddr 0]) (L' := [.int (zbo (((f &&& (384 : Int32)) = 384) ∧ (¬ (v < wo)))), .int 256]) (And.intro (Or.inr rfl) (And.intro (Or.inr rfl) trivial)) (zv_sub (zz := Int32.ofNat (znt (((f &&& (384 : Int32)) = 384) ∧ (¬ (v < wo))) 256 0)) (zy := 0) (p := fun zz => zEv (d - 1) 140 9 [.retAddr 0, .retAddr 0] [.int zz] S pst37) (congrArg Int32.ofNat (znt_neg b40)) J41)
          · replace b40 : ((f &&& (384 : Int32)) = 384) ∧ (¬ (v < wo)) := Classical.byContradiction (fun h => b40 ((zbo_eq0 : (zbo (((f &&& (384 : Int32)) = 384) ∧ (¬ (v < wo)))) = 0 ↔ ¬ (((f &&& (384 : Int32)) = 384) ∧ (¬ (v < wo)))).mpr h))
            refine zv_c1 ht39 rfl rfl (zv_c1 ht39 rfl rfl ?_)
            exact zEv.wk (L := [.retAddr 0, .retAddr 0]) (L' := [.int (zbo (((f &&& (384 : Int32)) = 384) ∧ (¬ (v < wo)))), .int 256]) (And.intro (Or.inr rfl) (And.intro (Or.inr rfl) trivial)) (zv_sub (zz := Int32.ofNat (znt (((f &&& (384 : Int32)) = 384) ∧ (¬ (v < wo))) 256 0)) (zy := 256) (p := fun zz => zEv (d - 1) 140 9 [.retAddr 0, .retAddr 0] [.int zz] S pst37) (congrArg Int32.ofNat (znt_pos b40)) J41)
        refine zv_cl ht rfl rfl rfl rfl (by omega) (Nat.le_of_ble_eq_true rfl) (C38 _ ?_)
        show zEv d 138 247 [.ref 1592, .int (Int32.ofNat n), .retAddr 0, .retAddr 0, .int (Int32.ofNat wo), .retAddr 0, .retAddr 0] [.int (Int32.ofNat (znt (((f &&& (384 : Int32)) = 384) ∧ (¬ (v < wo))) 256 0)), .int (((24 : Int32) ||| (zbo (zs = mn))) ||| (Int32.ofNat (znt ((zs = mn - 1) ∧ (os = 1)) 2 0)))] S post
        refine zv_c1 ht rfl rfl (zv_c1 ht rfl rfl ?_)
        refine zv_gl (st' := [.ref 1611, .int (Int32.ofNat wo), .int (Int32.ofNat (znt (((f &&& (384 : Int32)) = 384) ∧ (¬ (v < wo))) 256 0)), .int (((24 : Int32) ||| (zbo (zs = mn))) ||| (Int32.ofNat (znt ((zs = mn - 1) ∧ (os = 1)) 2 0)))]) ht rfl hF rfl rfl rfl ?_
        refine zv_c1 ht rfl rfl ?_
        refine zv_iaE (j := n) (x := Int32.ofNat v) ht rfl rfl rfl rfl (zi_natE (a := n) rfl (by omega)) ⟨(Or.inl rfl), zi_inE (a := n) (n := 3000) rfl (by omega) (by omega)⟩ hv ?_
        refine zv_c1 ht rfl rfl ?_
        refine zv_e1 (x := Int32.ofNat (v - 1)) ht rfl rfl (zi_subE (a := v) (b := 1) rfl rfl (by omega)) ?_
        have J45 : zEv d 138 265 [.ref 1592, .int (Int32.ofNat n), .retAddr 0, .retAddr 0, .int (Int32.ofNat wo), .retAddr 0, .retAddr 0] [.int (zbo (¬ (v - 1 < wo))), .int (Int32.ofNat (znt (((f &&& (384 : Int32)) = 384) ∧ (¬ (v < wo))) 256 0)), .int (((24 : Int32) ||| (zbo (zs = mn))) ||| (Int32.ofNat (znt ((zs = mn - 1) ∧ (os = 1)) 2 0)))] S post := by
          refine zv_c1 ht rfl rfl ?_
          have C48 : ∀ (pst47 : Outcome × zS → Prop), (pst47 (.returned (some (.int (Int32.ofNat (znt (¬ (¬ (v - 1 < wo))) 0 32)))), S)) → zCall (d - 1) 140 [.int (zbo (¬ (v - 1 < wo))), .int 32] S pst47 := by
            intro pst47 k53
            have ht49 : ztab 140 = ztb140 := rfl
            show zEv (d - 1) 140 0 [.int (zbo (¬ (v - 1 < wo))), .int 32] [] S pst47
            refine zv_c1 ht49 rfl rfl ?_
            have J51 : zEv (d - 1) 140 9 [.retAddr 0, .retAddr 0] [.int (Int32.ofNat (znt (¬ (¬ (v - 1 < wo))) 0 32))] S pst47 := by
              exact zv_rt ht49 rfl rfl rfl rfl k53
            refine zv_br ht49 rfl rfl rfl (fun b50 => ?_) (fun b50 => ?_)
            · replace b50 : ¬ (¬ (v - 1 < wo)) := (zbo_eq0 : (zbo (¬ (v - 1 < wo))) = 0 ↔ ¬ (¬ (v - 1 < wo))).mp b50
              refine zv_c1 ht49 rfl rfl ?_
              exact zEv.wk (L := [.retAddr 0, .retAddr 0]) (L' := [.int (zbo (¬ (v - 1 < wo))), .int 32]) (And.intro (Or.inr rfl) (And.intro (Or.inr rfl) trivial)) (zv_sub (zz := Int32.ofNat (znt (¬ (¬ (v - 1 < wo))) 0 32)) (zy := 0) (p := fun zz => zEv (d - 1) 140 9 [.retAddr 0, .retAddr 0] [.int zz] S pst47) (congrArg Int32.ofNat (znt_pos b50)) J51)
            · replace b50 : ¬ (v - 1 < wo) := Classical.byContradiction (fun h => b50 ((zbo_eq0 : (zbo (¬ (v - 1 < wo))) = 0 ↔ ¬ (¬ (v - 1 < wo))).mpr h))
              refine zv_c1 ht49 rfl rfl (zv_c1 ht49 rfl rfl ?_)
              exact zEv.wk (L := [.retAddr 0, .retAddr 0]) (L' := [.int (zbo (¬ (v - 1 < wo))), .int 32]) (And.intro (Or.inr rfl) (And.intro (Or.inr rfl) trivial)) (zv_sub (zz := Int32.ofNat (znt (¬ (¬ (v - 1 < wo))) 0 32)) (zy := 32) (p := fun zz => zEv (d - 1) 140 9 [.retAddr 0, .retAddr 0] [.int zz] S pst47) (congrArg Int32.ofNat (znt_neg (fun h => h b50))) J51)
          refine zv_cl ht rfl rfl rfl rfl (by omega) (Nat.le_of_ble_eq_true rfl) (C48 _ ?_)
          show zEv d 138 270 [.ref 1592, .int (Int32.ofNat n), .retAddr 0, .retAddr 0, .int (Int32.ofNat wo), .retAddr 0, .retAddr 0] [.int (Int32.ofNat (znt (¬ (¬ (v - 1 < wo))) 0 32)), .int (Int32.ofNat (znt (((f &&& (384 : Int32)) = 384) ∧ (¬ (v < wo))) 256 0)), .int (((24 : Int32) ||| (zbo (zs = mn))) ||| (Int32.ofNat (znt ((zs = mn - 1) ∧ (os = 1)) 2 0)))] S post
          refine zv_c1 (st' := [.int ((Int32.ofNat (znt (((f &&& (384 : Int32)) = 384) ∧ (¬ (v < wo))) 256 0)) ||| (Int32.ofNat (znt (¬ (¬ (v - 1 < wo))) 0 32))), .int (((24 : Int32) ||| (zbo (zs = mn))) ||| (Int32.ofNat (znt ((zs = mn - 1) ∧ (os = 1)) 2 0)))]) (S' := S) ht rfl rfl ?_
          refine zv_c1 ht rfl rfl ?_
          have J55 : zEv d 138 281 [.ref 1592, .int (Int32.ofNat n), .retAddr 0, .retAddr 0, .retAddr 0, .retAddr 0, .retAddr 0] [.int (zbo (wo = 0)), .int ((Int32.ofNat (znt (((f &&& (384 : Int32)) = 384) ∧ (¬ (v < wo))) 256 0)) ||| (Int32.ofNat (znt (¬ (¬ (v - 1 < wo))) 0 32))), .int (((24 : Int32) ||| (zbo (zs = mn))) ||| (Int32.ofNat (znt ((zs = mn - 1) ∧ (os = 1)) 2 0)))] S post := by
            refine zv_c1 ht rfl rfl ?_
            have C58 : ∀ (pst57 : Outcome × zS → Prop), (pst57 (.returned (some (.int (Int32.ofNat (znt (wo = 0) 128 0)))), S)) → zCall (d - 1) 140 [.int (zbo (wo = 0)), .int 128] S pst57 := by
              intro pst57 k63
              have ht59 : ztab 140 = ztb140 := rfl
              show zEv (d - 1) 140 0 [.int (zbo (wo = 0)), .int 128] [] S pst57
              refine zv_c1 ht59 rfl rfl ?_
              have J61 : zEv (d - 1) 140 9 [.retAddr 0, .retAddr 0] [.int (Int32.ofNat (znt (wo = 0) 128 0))] S pst57 := by
                exact zv_rt ht59 rfl rfl rfl rfl k63
              refine zv_br ht59 rfl rfl rfl (fun b60 => ?_) (fun b60 => ?_)
              · replace b60 : ¬ (wo = 0) := (zbo_eq0 : (zbo (wo = 0)) = 0 ↔ ¬ (wo = 0)).mp b60
                refine zv_c1 ht59 rfl rfl ?_
                exact zEv.wk (L := [.retAddr 0, .retAddr 0]) (L' := [.int (zbo (wo = 0)), .int 128]) (And.intro (Or.inr rfl) (And.intro (Or.inr rfl) trivial)) (zv_sub (zz := Int32.ofNat (znt (wo = 0) 128 0)) (zy := 0) (p := fun zz => zEv (d - 1) 140 9 [.retAddr 0, .retAddr 0] [.int zz] S pst57) (congrArg Int32.ofNat (znt_neg b60)) J61)
              · replace b60 : wo = 0 := Classical.byContradiction (fun h => b60 ((zbo_eq0 : (zbo (wo = 0)) = 0 ↔ ¬ (wo = 0)).mpr h))
                refine zv_c1 ht59 rfl rfl (zv_c1 ht59 rfl rfl ?_)
                exact zEv.wk (L := [.retAddr 0, .retAddr 0]) (L' := [.int (zbo (wo = 0)), .int 128]) (And.intro (Or.inr rfl) (And.intro (Or.inr rfl) trivial)) (zv_sub (zz := Int32.ofNat (znt (wo = 0) 128 0)) (zy := 128) (p := fun zz => zEv (d - 1) 140 9 [.retAddr 0, .retAddr 0] [.int zz] S pst57) (congrArg Int32.ofNat (znt_pos b60)) J61)
            refine zv_cl ht rfl rfl rfl rfl (by omega) (Nat.le_of_ble_eq_true rfl) (C58 _ ?_)
            show zEv d 138 287 [.ref 1592, .int (Int32.ofNat n), .retAddr 0, .retAddr 0, .retAddr 0, .retAddr 0, .retAddr 0] [.int (Int32.ofNat (znt (wo = 0) 128 0)), .int ((Int32.ofNat (znt (((f &&& (384 : Int32)) = 384) ∧ (¬ (v < wo))) 256 0)) ||| (Int32.ofNat (znt (¬ (¬ (v - 1 < wo))) 0 32))), .int (((24 : Int32) ||| (zbo (zs = mn))) ||| (Int32.ofNat (znt ((zs = mn - 1) ∧ (os = 1)) 2 0)))] S post
            refine zv_c1 (st' := [.int (((Int32.ofNat (znt (((f &&& (384 : Int32)) = 384) ∧ (¬ (v < wo))) 256 0)) ||| (Int32.ofNat (znt (¬ (¬ (v - 1 < wo))) 0 32))) ||| (Int32.ofNat (znt (wo = 0) 128 0))), .int (((24 : Int32) ||| (zbo (zs = mn))) ||| (Int32.ofNat (znt ((zs = mn - 1) ∧ (os = 1)) 2 0)))]) (S' := S) ht rfl rfl ?_
            refine zv_c1 (st' := [.int ((((24 : Int32) ||| (zbo (zs = mn))) ||| (Int32.ofNat (znt ((zs = mn - 1) ∧ (os = 1)) 2 0))) ||| (((Int32.ofNat (znt (((f &&& (384 : Int32)) = 384) ∧ (¬ (v < wo))) 256 0)) ||| (Int32.ofNat (znt (¬ (¬ (v - 1 < wo))) 0 32))) ||| (Int32.ofNat (znt (wo = 0) 128 0))))]) (S' := S) ht rfl rfl ?_
            refine zv_c2 (L' := [.ref 1592, .int (Int32.ofNat n), .retAddr 0, .retAddr 0, .retAddr 0, .retAddr 0, .int ((((24 : Int32) ||| (zbo (zs = mn))) ||| (Int32.ofNat (znt ((zs = mn - 1) ∧ (os = 1)) 2 0))) ||| (((Int32.ofNat (znt (((f &&& (384 : Int32)) = 384) ∧ (¬ (v < wo))) 256 0)) ||| (Int32.ofNat (znt (¬ (¬ (v - 1 < wo))) 0 32))) ||| (Int32.ofNat (znt (wo = 0) 128 0))))]) ht rfl rfl ?_
            refine zv_c1 ht rfl rfl (zv_c1 ht rfl rfl (zv_c1 ht rfl rfl (zv_c1 ht rfl rfl ?_)))
            have C65 : ∀ (pst64 : Outcome × zS → Prop), (pst64 (.returned none, tt2_s1 S n zs os wo mn v f)) → zCall (d - 1) 137 [.ref 1592, .int (Int32.ofNat n), .int 0, .int ((((24 : Int32) ||| (zbo (zs = mn))) ||| (Int32.ofNat (znt ((zs = mn - 1) ∧ (os = 1)) 2 0))) ||| (((Int32.ofNat (znt (((f &&& (384 : Int32)) = 384) ∧ (¬ (v < wo))) 256 0)) ||| (Int32.ofNat (znt (¬ (¬ (v - 1 < wo))) 0 32))) ||| (Int32.ofNat (znt (wo = 0) 128 0))))] S pst64 := by
              intro pst64 k67
              have ht66 : ztab 137 = ztb137 := rfl
              show zEv (d - 1) 137 0 [.ref 1592, .int (Int32.ofNat n), .int 0, .int ((((24 : Int32) ||| (zbo (zs = mn))) ||| (Int32.ofNat (znt ((zs = mn - 1) ∧ (os = 1)) 2 0))) ||| (((Int32.ofNat (znt (((f &&& (384 : Int32)) = 384) ∧ (¬ (v < wo))) 256 0)) ||| (Int32.ofNat (znt (¬ (¬ (v - 1 < wo))) 0 32))) ||| (Int32.ofNat (znt (wo = 0) 128 0))))] [] S pst64
              refine zv_c1 ht66 rfl rfl ?_
              refine zv_gl (st' := [.ref 1616]) ht66 rfl hF rfl rfl rfl ?_
              refine zv_c1 ht66 rfl rfl (zv_c1 ht66 rfl rfl ?_)
              refine zv_is (j := n) (x := 0) ht66 rfl rfl rfl rfl (zi_natE (a := n) rfl (by omega)) ⟨rfl, zi_inE (a := n) (n := 3000) rfl (by omega) (by omega)⟩ ?_
              refine zv_c1 ht66 rfl rfl ?_
              refine zv_gl (st' := [.ref 1617]) ht66 rfl hF rfl rfl rfl ?_
              refine zv_c1 ht66 rfl rfl (zv_c1 ht66 rfl rfl ?_)
              refine zv_is (j := n) (x := (((24 : Int32) ||| (zbo (zs = mn))) ||| (Int32.ofNat (znt ((zs = mn - 1) ∧ (os = 1)) 2 0))) ||| (((Int32.ofNat (znt (((f &&& (384 : Int32)) = 384) ∧ (¬ (v < wo))) 256 0)) ||| (Int32.ofNat (znt (¬ (¬ (v - 1 < wo))) 0 32))) ||| (Int32.ofNat (znt (wo = 0) 128 0)))) ht66 rfl rfl rfl rfl (zi_natE (a := n) rfl (by omega)) ⟨rfl, zi_inE (a := n) (n := 3000) rfl (by omega) (by omega)⟩ ?_
              exact zv_rt ht66 rfl rfl rfl rfl k67
            refine zv_cl ht rfl rfl rfl rfl (by omega) (Nat.le_of_ble_eq_true rfl) (C65 _ ?_)
            show zEv d 138 299 [.ref 1592, .int (Int32.ofNat n), .retAddr 0, .retAddr 0, .retAddr 0, .retAddr 0, .int ((((24 : Int32) ||| (zbo (zs = mn))) ||| (Int32.ofNat (znt ((zs = mn - 1) ∧ (os = 1)) 2 0))) ||| (((Int32.ofNat (znt (((f &&& (384 : Int32)) = 384) ∧ (¬ (v < wo))) 256 0)) ||| (Int32.ofNat (znt (¬ (¬ (v - 1 < wo))) 0 32))) ||| (Int32.ofNat (znt (wo = 0) 128 0))))] [] (tt2_s1 S n zs os wo mn v f) post
            exact zv_rt ht rfl rfl rfl rfl h1
          refine zv_br ht rfl rfl rfl (fun b54 => ?_) (fun b54 => ?_)
          · replace b54 : ¬ (wo = 0) := fun h => b54 ((zi_eqE (a := wo) (b := 0) rfl rfl (by omega) (by omega)).mpr h)
            refine zv_c1 ht rfl rfl ?_
            exact zEv.wk (L := [.ref 1592, .int (Int32.ofNat n), .retAddr 0, .retAddr 0, .retAddr 0, .retAddr 0, .retAddr 0]) (L' := [.ref 1592, .int (Int32.ofNat n), .retAddr 0, .retAddr 0, .int (Int32.ofNat wo), .retAddr 0, .retAddr 0]) (And.intro (Or.inl rfl) (And.intro (Or.inl rfl) (And.intro (Or.inl rfl) (And.intro (Or.inl rfl) (And.intro (Or.inr rfl) (And.intro (Or.inl rfl) (And.intro (Or.inl rfl) trivial))))))) (zv_sub (zz := zbo (wo = 0)) (zy := 0) (p := fun zz => zEv d 138 281 [.ref 1592, .int (Int32.ofNat n), .retAddr 0, .retAddr 0, .retAddr 0, .retAddr 0, .retAddr 0] [.int zz, .int ((Int32.ofNat (znt (((f &&& (384 : Int32)) = 384) ∧ (¬ (v < wo))) 256 0)) ||| (Int32.ofNat (znt (¬ (¬ (v - 1 < wo))) 0 32))), .int (((24 : Int32) ||| (zbo (zs = mn))) ||| (Int32.ofNat (znt ((zs = mn - 1) ∧ (os = 1)) 2 0)))] S post) (zbo_neg b54) J55)
          · replace b54 : wo = 0 := (zi_eqE (a := wo) (b := 0) rfl rfl (by omega) (by omega)).mp (Classical.not_not.mp b54)
            refine zv_c1 ht rfl rfl (zv_c1 ht rfl rfl ?_)
            exact zEv.wk (L := [.ref 1592, .int (Int32.ofNat n), .retAddr 0, .retAddr 0, .retAddr 0, .retAddr 0, .retAddr 0]) (L' := [.ref 1592, .int (Int32.ofNat n), .retAddr 0, .retAddr 0, .int (Int32.ofNat wo), .retAddr 0, .retAddr 0]) (And.intro (Or.inl rfl) (And.intro (Or.inl rfl) (And.intro (Or.inl rfl) (And.intro (Or.inl rfl) (And.intro (Or.inr rfl) (And.intro (Or.inl rfl) (And.intro (Or.inl rfl) trivial))))))) (zv_sub (zz := zbo (wo = 0)) (zy := 1) (p := fun zz => zEv d 138 281 [.ref 1592, .int (Int32.ofNat n), .retAddr 0, .retAddr 0, .retAddr 0, .retAddr 0, .retAddr 0] [.int zz, .int ((Int32.ofNat (znt (((f &&& (384 : Int32)) = 384) ∧ (¬ (v < wo))) 256 0)) ||| (Int32.ofNat (znt (¬ (¬ (v - 1 < wo))) 0 32))), .int (((24 : Int32) ||| (zbo (zs = mn))) ||| (Int32.ofNat (znt ((zs = mn - 1) ∧ (os = 1)) 2 0)))] S post) (zbo_pos b54) J55)
        refine zv_br ht rfl rfl rfl (fun b44 => ?_) (fun b44 => ?_)
        · replace b44 : v - 1 < wo := (zi_ltE (a := (v - 1)) (b := wo) rfl rfl (by omega) (by omega)).mp b44
          refine zv_c1 ht rfl rfl ?_
          exact (zv_sub (zz := zbo (¬ (v - 1 < wo))) (zy := 0) (p := fun zz => zEv d 138 265 [.ref 1592, .int (Int32.ofNat n), .retAddr 0, .retAddr 0, .int (Int32.ofNat wo), .retAddr 0, .retAddr 0] [.int zz, .int (Int32.ofNat (znt (((f &&& (384 : Int32)) = 384) ∧ (¬ (v < wo))) 256 0)), .int (((24 : Int32) ||| (zbo (zs = mn))) ||| (Int32.ofNat (znt ((zs = mn - 1) ∧ (os = 1)) 2 0)))] S post) (zbo_neg (fun h => h b44)) J45)
        · replace b44 : ¬ (v - 1 < wo) := fun h => b44 ((zi_ltE (a := (v - 1)) (b := wo) rfl rfl (by omega) (by omega)).mpr h)
          refine zv_c1 ht rfl rfl (zv_c1 ht rfl rfl ?_)
          exact (zv_sub (zz := zbo (¬ (v - 1 < wo))) (zy := 1) (p := fun zz => zEv d 138 265 [.ref 1592, .int (Int32.ofNat n), .retAddr 0, .retAddr 0, .int (Int32.ofNat wo), .retAddr 0, .retAddr 0] [.int zz, .int (Int32.ofNat (znt (((f &&& (384 : Int32)) = 384) ∧ (¬ (v < wo))) 256 0)), .int (((24 : Int32) ||| (zbo (zs = mn))) ||| (Int32.ofNat (znt ((zs = mn - 1) ∧ (os = 1)) 2 0)))] S post) (zbo_pos b44) J45)
      have J33 : ((¬ ((f &&& (384 : Int32)) = 384)) ∨ (v < wo)) → zEv d 138 240 [.ref 1592, .int (Int32.ofNat n), .retAddr 0, .retAddr 0, .int (Int32.ofNat wo), .retAddr 0, .retAddr 0] [.int (((24 : Int32) ||| (zbo (zs = mn))) ||| (Int32.ofNat (znt ((zs = mn - 1) ∧ (os = 1)) 2 0)))] S post := by
        intro b34
        refine zv_c1 ht rfl rfl ?_
        exact (zv_sub (zz := zbo (((f &&& (384 : Int32)) = 384) ∧ (¬ (v < wo)))) (zy := 0) (p := fun zz => zEv d 138 241 [.ref 1592, .int (Int32.ofNat n), .retAddr 0, .retAddr 0, .int (Int32.ofNat wo), .retAddr 0, .retAddr 0] [.int zz, .int (((24 : Int32) ||| (zbo (zs = mn))) ||| (Int32.ofNat (znt ((zs = mn - 1) ∧ (os = 1)) 2 0)))] S post) (zbo_neg (b34.elim (fun y1 => (fun h => y1 h.1)) (fun y1 => (fun h => (fun h => h y1) h.2)))) J35)
      refine zv_br ht rfl rfl rfl (fun b31 => ?_) (fun b31 => ?_)
      · replace b31 : ¬ ((f &&& (384 : Int32)) = 384) := (zbo_eq0 : (zbo ((f &&& (384 : Int32)) = 384)) = 0 ↔ ¬ ((f &&& (384 : Int32)) = 384)).mp b31
        exact zEv.wk (L := [.ref 1592, .int (Int32.ofNat n), .retAddr 0, .retAddr 0, .int (Int32.ofNat wo), .retAddr 0, .retAddr 0]) (L' := [.ref 1592, .int (Int32.ofNat n), .retAddr 0, .retAddr 0, .int (Int32.ofNat wo), .int f, .int (((24 : Int32) ||| (zbo (zs = mn))) ||| (Int32.ofNat (znt ((zs = mn - 1) ∧ (os = 1)) 2 0)))]) (And.intro (Or.inl rfl) (And.intro (Or.inl rfl) (And.intro (Or.inl rfl) (And.intro (Or.inl rfl) (And.intro (Or.inl rfl) (And.intro (Or.inr rfl) (And.intro (Or.inr rfl) trivial))))))) (J33 (Or.inl b31))
      · replace b31 : (f &&& (384 : Int32)) = 384 := Classical.byContradiction (fun h => b31 ((zbo_eq0 : (zbo ((f &&& (384 : Int32)) = 384)) = 0 ↔ ¬ ((f &&& (384 : Int32)) = 384)).mpr h))
        refine zv_c1 ht rfl rfl (zv_c1 ht rfl rfl ?_)
        refine zv_gl (st' := [.ref 1611, .int (Int32.ofNat wo), .int (((24 : Int32) ||| (zbo (zs = mn))) ||| (Int32.ofNat (znt ((zs = mn - 1) ∧ (os = 1)) 2 0)))]) ht rfl hF rfl rfl rfl ?_
        refine zv_c1 ht rfl rfl ?_
        refine zv_iaE (j := n) (x := Int32.ofNat v) ht rfl rfl rfl rfl (zi_natE (a := n) rfl (by omega)) ⟨(Or.inl rfl), zi_inE (a := n) (n := 3000) rfl (by omega) (by omega)⟩ hv ?_
        refine zv_br ht rfl rfl rfl (fun b32 => ?_) (fun b32 => ?_)
        · replace b32 : v < wo := (zi_ltE (a := v) (b := wo) rfl rfl (by omega) (by omega)).mp b32
          exact zEv.wk (L := [.ref 1592, .int (Int32.ofNat n), .retAddr 0, .retAddr 0, .int (Int32.ofNat wo), .retAddr 0, .retAddr 0]) (L' := [.ref 1592, .int (Int32.ofNat n), .retAddr 0, .retAddr 0, .int (Int32.ofNat wo), .int f, .int (((24 : Int32) ||| (zbo (zs = mn))) ||| (Int32.ofNat (znt ((zs = mn - 1) ∧ (os = 1)) 2 0)))]) (And.intro (Or.inl rfl) (And.intro (Or.inl rfl) (And.intro (Or.inl rfl) (And.intro (Or.inl rfl) (And.intro (Or.inl rfl) (And.intro (Or.inr rfl) (And.intro (Or.inr rfl) trivial))))))) (J33 (Or.inr b32))
        · replace b32 : ¬ (v < wo) := fun h => b32 ((zi_ltE (a := v) (b := wo) rfl rfl (by omega) (by omega)).mpr h)
          refine zv_c1 ht rfl rfl (zv_c1 ht rfl rfl ?_)
          exact zEv.wk (L := [.ref 1592, .int (Int32.ofNat n), .retAddr 0, .retAddr 0, .int (Int32.ofNat wo), .retAddr 0, .retAddr 0]) (L' := [.ref 1592, .int (Int32.ofNat n), .retAddr 0, .retAddr 0, .int (Int32.ofNat wo), .int f, .int (((24 : Int32) ||| (zbo (zs = mn))) ||| (Int32.ofNat (znt ((zs = mn - 1) ∧ (os = 1)) 2 0)))]) (And.intro (Or.inl rfl) (And.intro (Or.inl rfl) (And.intro (Or.inl rfl) (And.intro (Or.inl rfl) (And.intro (Or.inl rfl) (And.intro (Or.inr rfl) (And.intro (Or.inr rfl) trivial))))))) (zv_sub (zz := zbo (((f &&& (384 : Int32)) = 384) ∧ (¬ (v < wo)))) (zy := 1) (p := fun zz => zEv d 138 241 [.ref 1592, .int (Int32.ofNat n), .retAddr 0, .retAddr 0, .int (Int32.ofNat wo), .retAddr 0, .retAddr 0] [.int zz, .int (((24 : Int32) ||| (zbo (zs = mn))) ||| (Int32.ofNat (znt ((zs = mn - 1) ∧ (os = 1)) 2 0)))] S post) (zbo_pos ⟨b31, b32⟩) J35)
    have J13 : ((¬ (zs = mn - 1)) ∨ (¬ (os = 1))) → zEv d 138 204 [.ref 1592, .int (Int32.ofNat n), .retAddr 0, .retAddr 0, .int (Int32.ofNat wo), .int f, .retAddr 0] [.int ((24 : Int32) ||| (zbo (zs = mn)))] S post := by
      intro b14
      refine zv_c1 ht rfl rfl ?_
      exact (zv_sub (zz := zbo ((zs = mn - 1) ∧ (os = 1))) (zy := 0) (p := fun zz => zEv d 138 205 [.ref 1592, .int (Int32.ofNat n), .retAddr 0, .retAddr 0, .int (Int32.ofNat wo), .int f, .retAddr 0] [.int zz, .int ((24 : Int32) ||| (zbo (zs = mn)))] S post) (zbo_neg (b14.elim (fun y1 => (fun h => y1 h.1)) (fun y1 => (fun h => y1 h.2)))) J15)
    refine zv_br ht rfl rfl rfl (fun b11 => ?_) (fun b11 => ?_)
    · replace b11 : ¬ (zs = mn - 1) := fun h => b11 ((zi_eqE (a := zs) (b := (mn - 1)) rfl rfl (by omega) (by omega)).mpr h)
      exact zEv.wk (L := [.ref 1592, .int (Int32.ofNat n), .retAddr 0, .retAddr 0, .int (Int32.ofNat wo), .int f, .retAddr 0]) (L' := [.ref 1592, .int (Int32.ofNat n), .int (Int32.ofNat zs), .int (Int32.ofNat os), .int (Int32.ofNat wo), .int f, .retAddr 0]) (And.intro (Or.inl rfl) (And.intro (Or.inl rfl) (And.intro (Or.inr rfl) (And.intro (Or.inr rfl) (And.intro (Or.inl rfl) (And.intro (Or.inl rfl) (And.intro (Or.inl rfl) trivial))))))) (J13 (Or.inl b11))
    · replace b11 : zs = mn - 1 := (zi_eqE (a := zs) (b := (mn - 1)) rfl rfl (by omega) (by omega)).mp (Classical.not_not.mp b11)
      refine zv_c1 ht rfl rfl (zv_c1 ht rfl rfl ?_)
      refine zv_br ht rfl rfl rfl (fun b12 => ?_) (fun b12 => ?_)
      · replace b12 : ¬ (os = 1) := fun h => b12 ((zi_eqE (a := os) (b := 1) rfl rfl (by omega) (by omega)).mpr h)
        exact zEv.wk (L := [.ref 1592, .int (Int32.ofNat n), .retAddr 0, .retAddr 0, .int (Int32.ofNat wo), .int f, .retAddr 0]) (L' := [.ref 1592, .int (Int32.ofNat n), .int (Int32.ofNat zs), .int (Int32.ofNat os), .int (Int32.ofNat wo), .int f, .retAddr 0]) (And.intro (Or.inl rfl) (And.intro (Or.inl rfl) (And.intro (Or.inr rfl) (And.intro (Or.inr rfl) (And.intro (Or.inl rfl) (And.intro (Or.inl rfl) (And.intro (Or.inl rfl) trivial))))))) (J13 (Or.inr b12))
      · replace b12 : os = 1 := (zi_eqE (a := os) (b := 1) rfl rfl (by omega) (by omega)).mp (Classical.not_not.mp b12)
        refine zv_c1 ht rfl rfl (zv_c1 ht rfl rfl ?_)
        exact zEv.wk (L := [.ref 1592, .int (Int32.ofNat n), .retAddr 0, .retAddr 0, .int (Int32.ofNat wo), .int f, .retAddr 0]) (L' := [.ref 1592, .int (Int32.ofNat n), .int (Int32.ofNat zs), .int (Int32.ofNat os), .int (Int32.ofNat wo), .int f, .retAddr 0]) (And.intro (Or.inl rfl) (And.intro (Or.inl rfl) (And.intro (Or.inr rfl) (And.intro (Or.inr rfl) (And.intro (Or.inl rfl) (And.intro (Or.inl rfl) (And.intro (Or.inl rfl) trivial))))))) (zv_sub (zz := zbo ((zs = mn - 1) ∧ (os = 1))) (zy := 1) (p := fun zz => zEv d 138 205 [.ref 1592, .int (Int32.ofNat n), .retAddr 0, .retAddr 0, .int (Int32.ofNat wo), .int f, .retAddr 0] [.int zz, .int ((24 : Int32) ||| (zbo (zs = mn)))] S post) (zbo_pos ⟨b11, b12⟩) J15)
  refine zv_br ht rfl rfl rfl (fun b1 => ?_) (fun b1 => ?_)
  · replace b1 : ¬ (zs = mn) := fun h => b1 ((zi_eqE (a := zs) (b := mn) rfl rfl (by omega) (by omega)).mpr h)
    refine zv_c1 ht rfl rfl ?_
    exact zEv.wk (L := [.ref 1592, .int (Int32.ofNat n), .int (Int32.ofNat zs), .int (Int32.ofNat os), .int (Int32.ofNat wo), .int f, .retAddr 0]) (L' := [.ref 1592, .int (Int32.ofNat n), .int (Int32.ofNat zs), .int (Int32.ofNat os), .int (Int32.ofNat wo), .int f, .int (-1)]) (And.intro (Or.inl rfl) (And.intro (Or.inl rfl) (And.intro (Or.inl rfl) (And.intro (Or.inl rfl) (And.intro (Or.inl rfl) (And.intro (Or.inl rfl) (And.intro (Or.inr rfl) trivial))))))) (zv_sub (zz := zbo (zs = mn)) (zy := 0) (p := fun zz => zEv d 138 178 [.ref 1592, .int (Int32.ofNat n), .int (Int32.ofNat zs), .int (Int32.ofNat os), .int (Int32.ofNat wo), .int f, .retAddr 0] [.int zz, .int 24] S post) (zbo_neg b1) J2)
  · replace b1 : zs = mn := (zi_eqE (a := zs) (b := mn) rfl rfl (by omega) (by omega)).mp (Classical.not_not.mp b1)
    refine zv_c1 ht rfl rfl (zv_c1 ht rfl rfl ?_)
    exact zEv.wk (L := [.ref 1592, .int (Int32.ofNat n), .int (Int32.ofNat zs), .int (Int32.ofNat os), .int (Int32.ofNat wo), .int f, .retAddr 0]) (L' := [.ref 1592, .int (Int32.ofNat n), .int (Int32.ofNat zs), .int (Int32.ofNat os), .int (Int32.ofNat wo), .int f, .int (-1)]) (And.intro (Or.inl rfl) (And.intro (Or.inl rfl) (And.intro (Or.inl rfl) (And.intro (Or.inl rfl) (And.intro (Or.inl rfl) (And.intro (Or.inl rfl) (And.intro (Or.inr rfl) trivial))))))) (zv_sub (zz := zbo (zs = mn)) (zy := 1) (p := fun zz => zEv d 138 178 [.ref 1592, .int (Int32.ofNat n), .int (Int32.ofNat zs), .int (Int32.ofNat os), .int (Int32.ofNat wo), .int f, .retAddr 0] [.int zz, .int 24] S post) (zbo_pos b1) J2)

theorem zbn_le {P : Prop} : zbn P ≤ 1 := by
  by_cases h : P
  · rw [zbn_pos h]; exact Nat.le_refl _
  · rw [zbn_neg h]; exact Nat.zero_le _
theorem sum_zbn {α : Type} (P : α → Prop) : ∀ l : List α, (l.map (fun t => zbn (P t))).sum ≤ l.length := by
  intro l
  induction l with
  | nil => exact Nat.le_refl _
  | cons t l ih => simp only [List.map_cons, List.sum_cons, List.length_cons]; have := @zbn_le (P t); omega
theorem cZ_app (l : List t3) (t : t3) : cZ (l ++ [t]) = cZ l + zbn ((t.2.1 &&& (1 : Int32)) = 1) := by simp [cZ]
theorem cO_app (l : List t3) (t : t3) : cO (l ++ [t]) = cO l + zbn ((t.2.1 &&& (2 : Int32)) = 2) := by simp [cO]
theorem cW_app (l : List t3) (t : t3) : cW (l ++ [t]) = cW l + zbn (¬ ((t.2.1 &&& (32 : Int32)) = 32)) := by simp [cW]
theorem fAll_app (l : List t3) (t : t3) : fAll (l ++ [t]) = fAll l &&& t.2.1 := by simp [fAll]
theorem lkAll_app (l : List t3) (t : t3) : lkAll (l ++ [t]) = lkAll l ||| t.2.2 := by simp [lkAll]
theorem getD_pre {α : Type} (d0 : α) (l : List α) (t : α) (r : List α) : (l ++ t :: r).getD l.length d0 = t := by simp [List.getD_eq_getElem?_getD]
section T3
variable {d : Nat} {post : Outcome × zS → Prop}
theorem m_threshType {S : zS} (hF : zFin true S) (hd : 1 ≤ d) {n v : Nat} {is : List Nat} {l : List t3} (hn : n < 3000) (hch : mCh S (gA S 1612 n) is) (hT : chT S is l) (hnd : is.Nodup) (hv1 : v < 2147483648) (hv0 : 1 ≤ v) (hl : is.length ≤ 12) (hl0 : 1 ≤ is.length) (hmn : gA S 1614 n = Int32.ofNat is.length) (hv : gA S 1611 n = Int32.ofNat v)
    (h1 : ∀ q, tyT v l = some q → post (.returned none, sA (sA S 1616 n q.1) 1617 n q.2)) (h2 : tyT v l = none → post (.returned none, S)) : zCall d 138 [.ref 1592, .int (Int32.ofNat n)] S post := by
  refine tt0 hF n hn ?_
  have hlen := hT.len
  obtain ⟨c0, is0, rfl⟩ : ∃ c0 is0, is = c0 :: is0 := by
    cases is with
    | nil => simp at hl0
    | cons c0 is0 => exact ⟨c0, is0, rfl⟩
  have hc0 := hch.1
  have key : ∀ (suf pre : List Nat) (ls lp : List t3) (c : Int32), pre ++ suf = c0 :: is0 → lp ++ ls = l → pre.length = lp.length → mCh S c suf → chT S suf ls → (∀ i, i < lp.length → (l.getD i t0).1 = Int32.ofNat (znt (i = 0) 0 3) ∧ ((l.getD i t0).2.1 &&& (24 : Int32)) = 24) →
      zEv d 138 20 [.ref 1592, .int (Int32.ofNat n), .int (Int32.ofNat (cZ lp)), .int (Int32.ofNat (cO lp)), .int (Int32.ofNat (cW lp)), .int (fAll lp), .int c] [] S post := by
    intro suf
    induction suf with
    | nil =>
      intro pre ls lp c e1 e2 e3 g1 g2 g3
      cases ls with
      | cons => exact g2.elim
      | nil =>
        have g1 : c = -1 := g1
        subst g1
        rw [List.append_nil] at e2
        subst e2
        have b1 : cZ lp ≤ lp.length := sum_zbn _ lp
        have b2 : cO lp ≤ lp.length := sum_zbn _ lp
        have b3 : cW lp ≤ lp.length := sum_zbn _ lp
        refine tt2 hF hd n _ _ _ (c0 :: is0).length v _ hn (by omega) (by omega) (by omega) (by omega) hv1 hv0 hl0 hmn hv ?_
        have e9 : tyT v lp = some (0, tyTf (cZ lp) (cO lp) (cW lp) lp.length v (fAll lp)) := zop_pos g3
        have := h1 _ e9
        rw [← hlen] at this
        exact this
    | cons i suf ih =>
      intro pre ls lp c e1 e2 e3 g1 g2 g3
      cases ls with
      | nil => exact g2.elim
      | cons t ls =>
        obtain ⟨rfl, hi, g1⟩ := g1
        have b1 : cZ lp ≤ lp.length := sum_zbn _ lp
        have b2 : cO lp ≤ lp.length := sum_zbn _ lp
        have b3 : cW lp ≤ lp.length := sum_zbn _ lp
        have hll : lp.length < l.length := by rw [← e2]; simp
        have hget : l.getD lp.length t0 = t := by rw [← e2]; exact getD_pre _ _ _ _
        have hic : (i = c0 ↔ lp.length = 0) := by
          constructor
          · intro e
            cases pre with
            | nil => exact e3.symm
            | cons p0 pre =>
              exfalso
              have h9 : p0 :: (pre ++ i :: suf) = c0 :: is0 := e1
              injection h9 with h10 h11
              rw [← h11, ← e] at hnd
              have := (List.nodup_cons.mp hnd).1
              exact this (by simp)
          · intro e
            rw [e] at e3
            rw [List.length_eq_zero_iff.mp e3] at e1
            injection e1
        have hz : znt (i = c0) 0 3 = znt (lp.length = 0) 0 3 := by rw [propext hic]
        refine tt1 hF hd n _ _ _ i c0 _ _ _ _ hn (by omega) (by omega) (by omega) hi hch.2.1 hc0 g2.1.1 g2.1.2.1 rfl (fun q1 q2 => ?_) (fun q => ?_)
        · rw [← cZ_app, ← cO_app, ← cW_app, ← fAll_app]
          refine ih (pre ++ [i]) ls (lp ++ [t]) _ (by rw [List.append_assoc]; exact e1) (by rw [List.append_assoc]; exact e2) (by simp [e3]) g1 g2.2.2 (fun j hj => ?_)
          by_cases ej : j = lp.length
          · subst ej
            rw [hget, ← hz]
            exact ⟨q1, q2⟩
          · exact g3 j (by simp at hj; omega)
        · refine h2 (zop_neg (fun hok => ?_))
          have := hok lp.length hll
          rw [hget, ← hz] at this
          exact q.elim (fun x => x this.1) (fun x => x this.2)
  exact key (c0 :: is0) [] l [] _ rfl rfl rfl hch hT (fun i hi => absurd hi (by simp))
end T3

