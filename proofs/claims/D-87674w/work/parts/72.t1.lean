set_option maxRecDepth 100000
/-! ===== types ===== -/
noncomputable def zop {α : Type} (P : Prop) (x : α) : Option α := @ite _ P (Classical.propDecidable P) (some x) none
theorem zop_pos {α : Type} {P : Prop} {x : α} (h : P) : zop P x = some x := if_pos h
theorem zop_neg {α : Type} {P : Prop} {x : α} (h : ¬ P) : zop P x = none := if_neg h
/-- a bit -/
def bt (i : Nat) (f : Int32) : Prop := f.toBitVec.getLsbD i = true
theorem bt_or {i : Nat} {f g : Int32} : bt i (f ||| g) ↔ bt i f ∨ bt i g := by unfold bt; rw [Int32.toBitVec_or, BitVec.getLsbD_or, Bool.or_eq_true]
theorem bt_and {i : Nat} {f g : Int32} : bt i (f &&& g) ↔ bt i f ∧ bt i g := by unfold bt; rw [Int32.toBitVec_and, BitVec.getLsbD_and, Bool.and_eq_true]
theorem bt_znt {i : Nat} {P : Prop} {u w : Nat} : bt i (Int32.ofNat (znt P u w)) ↔ (P ∧ bt i (Int32.ofNat u)) ∨ (¬ P ∧ bt i (Int32.ofNat w)) := by
  by_cases h : P
  · rw [znt_pos h]; exact ⟨fun x => Or.inl ⟨h, x⟩, fun x => x.elim (fun y => y.2) (fun y => absurd h y.1)⟩
  · rw [znt_neg h]; exact ⟨fun x => Or.inr ⟨h, x⟩, fun x => x.elim (fun y => absurd y.1 h) (fun y => y.2)⟩
theorem bt_zit {i : Nat} {P : Prop} {u w : Int32} : bt i (zit P u w) ↔ (P ∧ bt i u) ∨ (¬ P ∧ bt i w) := by
  by_cases h : P
  · rw [zit_pos h]; exact ⟨fun x => Or.inl ⟨h, x⟩, fun x => x.elim (fun y => y.2) (fun y => absurd h y.1)⟩
  · rw [zit_neg h]; exact ⟨fun x => Or.inr ⟨h, x⟩, fun x => x.elim (fun y => absurd y.1 h) (fun y => y.2)⟩
theorem is_gen {a m : Int32} (l : List Nat) (h : ∀ i, i < 32 → m.toBitVec.getLsbD i = l.contains i) (hl : ∀ i ∈ l, i < 32) : a &&& m = m ↔ ∀ i ∈ l, bt i a := by
  constructor
  · intro e i hi
    have h1 : bt i (a &&& m) := by rw [e]; unfold bt; rw [h i (hl i hi)]; exact List.contains_iff_mem.mpr hi
    exact (bt_and.mp h1).1
  · intro e
    apply Int32.toBitVec_inj.mp
    apply BitVec.eq_of_getLsbD_eq
    intro i hi
    rw [Int32.toBitVec_and, BitVec.getLsbD_and, h i hi]
    by_cases hm : i ∈ l
    · have := e i hm
      unfold bt at this
      rw [this, List.contains_iff_mem.mpr hm]
      rfl
    · have : l.contains i = false := by
        cases hc : l.contains i with
        | false => rfl
        | true => exact absurd (List.contains_iff_mem.mp hc) hm
      rw [this, Bool.and_false]
theorem is_1 {a : Int32} : a &&& 1 = 1 ↔ bt 0 a := by
  rw [is_gen [0] (by decide) (by decide)]
  simp
theorem is_2 {a : Int32} : a &&& 2 = 2 ↔ bt 1 a := by
  rw [is_gen [1] (by decide) (by decide)]
  simp
theorem is_4 {a : Int32} : a &&& 4 = 4 ↔ bt 2 a := by
  rw [is_gen [2] (by decide) (by decide)]
  simp
theorem is_8 {a : Int32} : a &&& 8 = 8 ↔ bt 3 a := by
  rw [is_gen [3] (by decide) (by decide)]
  simp
theorem is_16 {a : Int32} : a &&& 16 = 16 ↔ bt 4 a := by
  rw [is_gen [4] (by decide) (by decide)]
  simp
theorem is_20 {a : Int32} : a &&& 20 = 20 ↔ bt 2 a ∧ bt 4 a := by
  rw [is_gen [2, 4] (by decide) (by decide)]
  simp
theorem is_24 {a : Int32} : a &&& 24 = 24 ↔ bt 3 a ∧ bt 4 a := by
  rw [is_gen [3, 4] (by decide) (by decide)]
  simp
theorem is_32 {a : Int32} : a &&& 32 = 32 ↔ bt 5 a := by
  rw [is_gen [5] (by decide) (by decide)]
  simp
theorem is_64 {a : Int32} : a &&& 64 = 64 ↔ bt 6 a := by
  rw [is_gen [6] (by decide) (by decide)]
  simp
theorem is_96 {a : Int32} : a &&& 96 = 96 ↔ bt 5 a ∧ bt 6 a := by
  rw [is_gen [5, 6] (by decide) (by decide)]
  simp
theorem is_128 {a : Int32} : a &&& 128 = 128 ↔ bt 7 a := by
  rw [is_gen [7] (by decide) (by decide)]
  simp
theorem is_152 {a : Int32} : a &&& 152 = 152 ↔ bt 3 a ∧ bt 4 a ∧ bt 7 a := by
  rw [is_gen [3, 4, 7] (by decide) (by decide)]
  simp
theorem is_160 {a : Int32} : a &&& 160 = 160 ↔ bt 5 a ∧ bt 7 a := by
  rw [is_gen [5, 7] (by decide) (by decide)]
  simp
theorem is_256 {a : Int32} : a &&& 256 = 256 ↔ bt 8 a := by
  rw [is_gen [8] (by decide) (by decide)]
  simp
theorem is_288 {a : Int32} : a &&& 288 = 288 ↔ bt 5 a ∧ bt 8 a := by
  rw [is_gen [5, 8] (by decide) (by decide)]
  simp
theorem is_384 {a : Int32} : a &&& 384 = 384 ↔ bt 7 a ∧ bt 8 a := by
  rw [is_gen [7, 8] (by decide) (by decide)]
  simp
theorem is_512 {a : Int32} : a &&& 512 = 512 ↔ bt 9 a := by
  rw [is_gen [9] (by decide) (by decide)]
  simp
theorem bl_0_0 : bt 0 0 ↔ False := by unfold bt; decide
theorem bm_0_0 : bt 0 (Int32.ofNat 0) ↔ False := by unfold bt; decide
theorem bl_0_1 : bt 1 0 ↔ False := by unfold bt; decide
theorem bm_0_1 : bt 1 (Int32.ofNat 0) ↔ False := by unfold bt; decide
theorem bl_0_2 : bt 2 0 ↔ False := by unfold bt; decide
theorem bm_0_2 : bt 2 (Int32.ofNat 0) ↔ False := by unfold bt; decide
theorem bl_0_3 : bt 3 0 ↔ False := by unfold bt; decide
theorem bm_0_3 : bt 3 (Int32.ofNat 0) ↔ False := by unfold bt; decide
theorem bl_0_4 : bt 4 0 ↔ False := by unfold bt; decide
theorem bm_0_4 : bt 4 (Int32.ofNat 0) ↔ False := by unfold bt; decide
theorem bl_0_5 : bt 5 0 ↔ False := by unfold bt; decide
theorem bm_0_5 : bt 5 (Int32.ofNat 0) ↔ False := by unfold bt; decide
theorem bl_0_6 : bt 6 0 ↔ False := by unfold bt; decide
theorem bm_0_6 : bt 6 (Int32.ofNat 0) ↔ False := by unfold bt; decide
theorem bl_0_7 : bt 7 0 ↔ False := by unfold bt; decide
theorem bm_0_7 : bt 7 (Int32.ofNat 0) ↔ False := by unfold bt; decide
theorem bl_0_8 : bt 8 0 ↔ False := by unfold bt; decide
theorem bm_0_8 : bt 8 (Int32.ofNat 0) ↔ False := by unfold bt; decide
theorem bl_0_9 : bt 9 0 ↔ False := by unfold bt; decide
theorem bm_0_9 : bt 9 (Int32.ofNat 0) ↔ False := by unfold bt; decide
theorem bl_1_0 : bt 0 1 ↔ True := by unfold bt; decide
theorem bm_1_0 : bt 0 (Int32.ofNat 1) ↔ True := by unfold bt; decide
theorem bl_1_1 : bt 1 1 ↔ False := by unfold bt; decide
theorem bm_1_1 : bt 1 (Int32.ofNat 1) ↔ False := by unfold bt; decide
theorem bl_1_2 : bt 2 1 ↔ False := by unfold bt; decide
theorem bm_1_2 : bt 2 (Int32.ofNat 1) ↔ False := by unfold bt; decide
theorem bl_1_3 : bt 3 1 ↔ False := by unfold bt; decide
theorem bm_1_3 : bt 3 (Int32.ofNat 1) ↔ False := by unfold bt; decide
theorem bl_1_4 : bt 4 1 ↔ False := by unfold bt; decide
theorem bm_1_4 : bt 4 (Int32.ofNat 1) ↔ False := by unfold bt; decide
theorem bl_1_5 : bt 5 1 ↔ False := by unfold bt; decide
theorem bm_1_5 : bt 5 (Int32.ofNat 1) ↔ False := by unfold bt; decide
theorem bl_1_6 : bt 6 1 ↔ False := by unfold bt; decide
theorem bm_1_6 : bt 6 (Int32.ofNat 1) ↔ False := by unfold bt; decide
theorem bl_1_7 : bt 7 1 ↔ False := by unfold bt; decide
theorem bm_1_7 : bt 7 (Int32.ofNat 1) ↔ False := by unfold bt; decide
theorem bl_1_8 : bt 8 1 ↔ False := by unfold bt; decide
theorem bm_1_8 : bt 8 (Int32.ofNat 1) ↔ False := by unfold bt; decide
theorem bl_1_9 : bt 9 1 ↔ False := by unfold bt; decide
theorem bm_1_9 : bt 9 (Int32.ofNat 1) ↔ False := by unfold bt; decide
theorem bl_2_0 : bt 0 2 ↔ False := by unfold bt; decide
theorem bm_2_0 : bt 0 (Int32.ofNat 2) ↔ False := by unfold bt; decide
theorem bl_2_1 : bt 1 2 ↔ True := by unfold bt; decide
theorem bm_2_1 : bt 1 (Int32.ofNat 2) ↔ True := by unfold bt; decide
theorem bl_2_2 : bt 2 2 ↔ False := by unfold bt; decide
theorem bm_2_2 : bt 2 (Int32.ofNat 2) ↔ False := by unfold bt; decide
theorem bl_2_3 : bt 3 2 ↔ False := by unfold bt; decide
theorem bm_2_3 : bt 3 (Int32.ofNat 2) ↔ False := by unfold bt; decide
theorem bl_2_4 : bt 4 2 ↔ False := by unfold bt; decide
theorem bm_2_4 : bt 4 (Int32.ofNat 2) ↔ False := by unfold bt; decide
theorem bl_2_5 : bt 5 2 ↔ False := by unfold bt; decide
theorem bm_2_5 : bt 5 (Int32.ofNat 2) ↔ False := by unfold bt; decide
theorem bl_2_6 : bt 6 2 ↔ False := by unfold bt; decide
theorem bm_2_6 : bt 6 (Int32.ofNat 2) ↔ False := by unfold bt; decide
theorem bl_2_7 : bt 7 2 ↔ False := by unfold bt; decide
theorem bm_2_7 : bt 7 (Int32.ofNat 2) ↔ False := by unfold bt; decide
theorem bl_2_8 : bt 8 2 ↔ False := by unfold bt; decide
theorem bm_2_8 : bt 8 (Int32.ofNat 2) ↔ False := by unfold bt; decide
theorem bl_2_9 : bt 9 2 ↔ False := by unfold bt; decide
theorem bm_2_9 : bt 9 (Int32.ofNat 2) ↔ False := by unfold bt; decide
theorem bl_4_0 : bt 0 4 ↔ False := by unfold bt; decide
theorem bm_4_0 : bt 0 (Int32.ofNat 4) ↔ False := by unfold bt; decide
theorem bl_4_1 : bt 1 4 ↔ False := by unfold bt; decide
theorem bm_4_1 : bt 1 (Int32.ofNat 4) ↔ False := by unfold bt; decide
theorem bl_4_2 : bt 2 4 ↔ True := by unfold bt; decide
theorem bm_4_2 : bt 2 (Int32.ofNat 4) ↔ True := by unfold bt; decide
theorem bl_4_3 : bt 3 4 ↔ False := by unfold bt; decide
theorem bm_4_3 : bt 3 (Int32.ofNat 4) ↔ False := by unfold bt; decide
theorem bl_4_4 : bt 4 4 ↔ False := by unfold bt; decide
theorem bm_4_4 : bt 4 (Int32.ofNat 4) ↔ False := by unfold bt; decide
theorem bl_4_5 : bt 5 4 ↔ False := by unfold bt; decide
theorem bm_4_5 : bt 5 (Int32.ofNat 4) ↔ False := by unfold bt; decide
theorem bl_4_6 : bt 6 4 ↔ False := by unfold bt; decide
theorem bm_4_6 : bt 6 (Int32.ofNat 4) ↔ False := by unfold bt; decide
theorem bl_4_7 : bt 7 4 ↔ False := by unfold bt; decide
theorem bm_4_7 : bt 7 (Int32.ofNat 4) ↔ False := by unfold bt; decide
theorem bl_4_8 : bt 8 4 ↔ False := by unfold bt; decide
theorem bm_4_8 : bt 8 (Int32.ofNat 4) ↔ False := by unfold bt; decide
theorem bl_4_9 : bt 9 4 ↔ False := by unfold bt; decide
theorem bm_4_9 : bt 9 (Int32.ofNat 4) ↔ False := by unfold bt; decide
theorem bl_7_0 : bt 0 7 ↔ True := by unfold bt; decide
theorem bm_7_0 : bt 0 (Int32.ofNat 7) ↔ True := by unfold bt; decide
theorem bl_7_1 : bt 1 7 ↔ True := by unfold bt; decide
theorem bm_7_1 : bt 1 (Int32.ofNat 7) ↔ True := by unfold bt; decide
theorem bl_7_2 : bt 2 7 ↔ True := by unfold bt; decide
theorem bm_7_2 : bt 2 (Int32.ofNat 7) ↔ True := by unfold bt; decide
theorem bl_7_3 : bt 3 7 ↔ False := by unfold bt; decide
theorem bm_7_3 : bt 3 (Int32.ofNat 7) ↔ False := by unfold bt; decide
theorem bl_7_4 : bt 4 7 ↔ False := by unfold bt; decide
theorem bm_7_4 : bt 4 (Int32.ofNat 7) ↔ False := by unfold bt; decide
theorem bl_7_5 : bt 5 7 ↔ False := by unfold bt; decide
theorem bm_7_5 : bt 5 (Int32.ofNat 7) ↔ False := by unfold bt; decide
theorem bl_7_6 : bt 6 7 ↔ False := by unfold bt; decide
theorem bm_7_6 : bt 6 (Int32.ofNat 7) ↔ False := by unfold bt; decide
theorem bl_7_7 : bt 7 7 ↔ False := by unfold bt; decide
theorem bm_7_7 : bt 7 (Int32.ofNat 7) ↔ False := by unfold bt; decide
theorem bl_7_8 : bt 8 7 ↔ False := by unfold bt; decide
theorem bm_7_8 : bt 8 (Int32.ofNat 7) ↔ False := by unfold bt; decide
theorem bl_7_9 : bt 9 7 ↔ False := by unfold bt; decide
theorem bm_7_9 : bt 9 (Int32.ofNat 7) ↔ False := by unfold bt; decide
theorem bl_8_0 : bt 0 8 ↔ False := by unfold bt; decide
theorem bm_8_0 : bt 0 (Int32.ofNat 8) ↔ False := by unfold bt; decide
theorem bl_8_1 : bt 1 8 ↔ False := by unfold bt; decide
theorem bm_8_1 : bt 1 (Int32.ofNat 8) ↔ False := by unfold bt; decide
theorem bl_8_2 : bt 2 8 ↔ False := by unfold bt; decide
theorem bm_8_2 : bt 2 (Int32.ofNat 8) ↔ False := by unfold bt; decide
theorem bl_8_3 : bt 3 8 ↔ True := by unfold bt; decide
theorem bm_8_3 : bt 3 (Int32.ofNat 8) ↔ True := by unfold bt; decide
theorem bl_8_4 : bt 4 8 ↔ False := by unfold bt; decide
theorem bm_8_4 : bt 4 (Int32.ofNat 8) ↔ False := by unfold bt; decide
theorem bl_8_5 : bt 5 8 ↔ False := by unfold bt; decide
theorem bm_8_5 : bt 5 (Int32.ofNat 8) ↔ False := by unfold bt; decide
theorem bl_8_6 : bt 6 8 ↔ False := by unfold bt; decide
theorem bm_8_6 : bt 6 (Int32.ofNat 8) ↔ False := by unfold bt; decide
theorem bl_8_7 : bt 7 8 ↔ False := by unfold bt; decide
theorem bm_8_7 : bt 7 (Int32.ofNat 8) ↔ False := by unfold bt; decide
theorem bl_8_8 : bt 8 8 ↔ False := by unfold bt; decide
theorem bm_8_8 : bt 8 (Int32.ofNat 8) ↔ False := by unfold bt; decide
theorem bl_8_9 : bt 9 8 ↔ False := by unfold bt; decide
theorem bm_8_9 : bt 9 (Int32.ofNat 8) ↔ False := by unfold bt; decide
theorem bl_14_0 : bt 0 14 ↔ False := by unfold bt; decide
theorem bm_14_0 : bt 0 (Int32.ofNat 14) ↔ False := by unfold bt; decide
theorem bl_14_1 : bt 1 14 ↔ True := by unfold bt; decide
theorem bm_14_1 : bt 1 (Int32.ofNat 14) ↔ True := by unfold bt; decide
theorem bl_14_2 : bt 2 14 ↔ True := by unfold bt; decide
theorem bm_14_2 : bt 2 (Int32.ofNat 14) ↔ True := by unfold bt; decide
theorem bl_14_3 : bt 3 14 ↔ True := by unfold bt; decide
theorem bm_14_3 : bt 3 (Int32.ofNat 14) ↔ True := by unfold bt; decide
theorem bl_14_4 : bt 4 14 ↔ False := by unfold bt; decide
theorem bm_14_4 : bt 4 (Int32.ofNat 14) ↔ False := by unfold bt; decide
theorem bl_14_5 : bt 5 14 ↔ False := by unfold bt; decide
theorem bm_14_5 : bt 5 (Int32.ofNat 14) ↔ False := by unfold bt; decide
theorem bl_14_6 : bt 6 14 ↔ False := by unfold bt; decide
theorem bm_14_6 : bt 6 (Int32.ofNat 14) ↔ False := by unfold bt; decide
theorem bl_14_7 : bt 7 14 ↔ False := by unfold bt; decide
theorem bm_14_7 : bt 7 (Int32.ofNat 14) ↔ False := by unfold bt; decide
theorem bl_14_8 : bt 8 14 ↔ False := by unfold bt; decide
theorem bm_14_8 : bt 8 (Int32.ofNat 14) ↔ False := by unfold bt; decide
theorem bl_14_9 : bt 9 14 ↔ False := by unfold bt; decide
theorem bm_14_9 : bt 9 (Int32.ofNat 14) ↔ False := by unfold bt; decide
theorem bl_15_0 : bt 0 15 ↔ True := by unfold bt; decide
theorem bm_15_0 : bt 0 (Int32.ofNat 15) ↔ True := by unfold bt; decide
theorem bl_15_1 : bt 1 15 ↔ True := by unfold bt; decide
theorem bm_15_1 : bt 1 (Int32.ofNat 15) ↔ True := by unfold bt; decide
theorem bl_15_2 : bt 2 15 ↔ True := by unfold bt; decide
theorem bm_15_2 : bt 2 (Int32.ofNat 15) ↔ True := by unfold bt; decide
theorem bl_15_3 : bt 3 15 ↔ True := by unfold bt; decide
theorem bm_15_3 : bt 3 (Int32.ofNat 15) ↔ True := by unfold bt; decide
theorem bl_15_4 : bt 4 15 ↔ False := by unfold bt; decide
theorem bm_15_4 : bt 4 (Int32.ofNat 15) ↔ False := by unfold bt; decide
theorem bl_15_5 : bt 5 15 ↔ False := by unfold bt; decide
theorem bm_15_5 : bt 5 (Int32.ofNat 15) ↔ False := by unfold bt; decide
theorem bl_15_6 : bt 6 15 ↔ False := by unfold bt; decide
theorem bm_15_6 : bt 6 (Int32.ofNat 15) ↔ False := by unfold bt; decide
theorem bl_15_7 : bt 7 15 ↔ False := by unfold bt; decide
theorem bm_15_7 : bt 7 (Int32.ofNat 15) ↔ False := by unfold bt; decide
theorem bl_15_8 : bt 8 15 ↔ False := by unfold bt; decide
theorem bm_15_8 : bt 8 (Int32.ofNat 15) ↔ False := by unfold bt; decide
theorem bl_15_9 : bt 9 15 ↔ False := by unfold bt; decide
theorem bm_15_9 : bt 9 (Int32.ofNat 15) ↔ False := by unfold bt; decide
theorem bl_16_0 : bt 0 16 ↔ False := by unfold bt; decide
theorem bm_16_0 : bt 0 (Int32.ofNat 16) ↔ False := by unfold bt; decide
theorem bl_16_1 : bt 1 16 ↔ False := by unfold bt; decide
theorem bm_16_1 : bt 1 (Int32.ofNat 16) ↔ False := by unfold bt; decide
theorem bl_16_2 : bt 2 16 ↔ False := by unfold bt; decide
theorem bm_16_2 : bt 2 (Int32.ofNat 16) ↔ False := by unfold bt; decide
theorem bl_16_3 : bt 3 16 ↔ False := by unfold bt; decide
theorem bm_16_3 : bt 3 (Int32.ofNat 16) ↔ False := by unfold bt; decide
theorem bl_16_4 : bt 4 16 ↔ True := by unfold bt; decide
theorem bm_16_4 : bt 4 (Int32.ofNat 16) ↔ True := by unfold bt; decide
theorem bl_16_5 : bt 5 16 ↔ False := by unfold bt; decide
theorem bm_16_5 : bt 5 (Int32.ofNat 16) ↔ False := by unfold bt; decide
theorem bl_16_6 : bt 6 16 ↔ False := by unfold bt; decide
theorem bm_16_6 : bt 6 (Int32.ofNat 16) ↔ False := by unfold bt; decide
theorem bl_16_7 : bt 7 16 ↔ False := by unfold bt; decide
theorem bm_16_7 : bt 7 (Int32.ofNat 16) ↔ False := by unfold bt; decide
theorem bl_16_8 : bt 8 16 ↔ False := by unfold bt; decide
theorem bm_16_8 : bt 8 (Int32.ofNat 16) ↔ False := by unfold bt; decide
theorem bl_16_9 : bt 9 16 ↔ False := by unfold bt; decide
theorem bm_16_9 : bt 9 (Int32.ofNat 16) ↔ False := by unfold bt; decide
theorem bl_18_0 : bt 0 18 ↔ False := by unfold bt; decide
theorem bm_18_0 : bt 0 (Int32.ofNat 18) ↔ False := by unfold bt; decide
theorem bl_18_1 : bt 1 18 ↔ True := by unfold bt; decide
theorem bm_18_1 : bt 1 (Int32.ofNat 18) ↔ True := by unfold bt; decide
theorem bl_18_2 : bt 2 18 ↔ False := by unfold bt; decide
theorem bm_18_2 : bt 2 (Int32.ofNat 18) ↔ False := by unfold bt; decide
theorem bl_18_3 : bt 3 18 ↔ False := by unfold bt; decide
theorem bm_18_3 : bt 3 (Int32.ofNat 18) ↔ False := by unfold bt; decide
theorem bl_18_4 : bt 4 18 ↔ True := by unfold bt; decide
theorem bm_18_4 : bt 4 (Int32.ofNat 18) ↔ True := by unfold bt; decide
theorem bl_18_5 : bt 5 18 ↔ False := by unfold bt; decide
theorem bm_18_5 : bt 5 (Int32.ofNat 18) ↔ False := by unfold bt; decide
theorem bl_18_6 : bt 6 18 ↔ False := by unfold bt; decide
theorem bm_18_6 : bt 6 (Int32.ofNat 18) ↔ False := by unfold bt; decide
theorem bl_18_7 : bt 7 18 ↔ False := by unfold bt; decide
theorem bm_18_7 : bt 7 (Int32.ofNat 18) ↔ False := by unfold bt; decide
theorem bl_18_8 : bt 8 18 ↔ False := by unfold bt; decide
theorem bm_18_8 : bt 8 (Int32.ofNat 18) ↔ False := by unfold bt; decide
theorem bl_18_9 : bt 9 18 ↔ False := by unfold bt; decide
theorem bm_18_9 : bt 9 (Int32.ofNat 18) ↔ False := by unfold bt; decide
theorem bl_24_0 : bt 0 24 ↔ False := by unfold bt; decide
theorem bm_24_0 : bt 0 (Int32.ofNat 24) ↔ False := by unfold bt; decide
theorem bl_24_1 : bt 1 24 ↔ False := by unfold bt; decide
theorem bm_24_1 : bt 1 (Int32.ofNat 24) ↔ False := by unfold bt; decide
theorem bl_24_2 : bt 2 24 ↔ False := by unfold bt; decide
theorem bm_24_2 : bt 2 (Int32.ofNat 24) ↔ False := by unfold bt; decide
theorem bl_24_3 : bt 3 24 ↔ True := by unfold bt; decide
theorem bm_24_3 : bt 3 (Int32.ofNat 24) ↔ True := by unfold bt; decide
theorem bl_24_4 : bt 4 24 ↔ True := by unfold bt; decide
theorem bm_24_4 : bt 4 (Int32.ofNat 24) ↔ True := by unfold bt; decide
theorem bl_24_5 : bt 5 24 ↔ False := by unfold bt; decide
theorem bm_24_5 : bt 5 (Int32.ofNat 24) ↔ False := by unfold bt; decide
theorem bl_24_6 : bt 6 24 ↔ False := by unfold bt; decide
theorem bm_24_6 : bt 6 (Int32.ofNat 24) ↔ False := by unfold bt; decide
theorem bl_24_7 : bt 7 24 ↔ False := by unfold bt; decide
theorem bm_24_7 : bt 7 (Int32.ofNat 24) ↔ False := by unfold bt; decide
theorem bl_24_8 : bt 8 24 ↔ False := by unfold bt; decide
theorem bm_24_8 : bt 8 (Int32.ofNat 24) ↔ False := by unfold bt; decide
theorem bl_24_9 : bt 9 24 ↔ False := by unfold bt; decide
theorem bm_24_9 : bt 9 (Int32.ofNat 24) ↔ False := by unfold bt; decide
theorem bl_32_0 : bt 0 32 ↔ False := by unfold bt; decide
theorem bm_32_0 : bt 0 (Int32.ofNat 32) ↔ False := by unfold bt; decide
theorem bl_32_1 : bt 1 32 ↔ False := by unfold bt; decide
theorem bm_32_1 : bt 1 (Int32.ofNat 32) ↔ False := by unfold bt; decide
theorem bl_32_2 : bt 2 32 ↔ False := by unfold bt; decide
theorem bm_32_2 : bt 2 (Int32.ofNat 32) ↔ False := by unfold bt; decide
theorem bl_32_3 : bt 3 32 ↔ False := by unfold bt; decide
theorem bm_32_3 : bt 3 (Int32.ofNat 32) ↔ False := by unfold bt; decide
theorem bl_32_4 : bt 4 32 ↔ False := by unfold bt; decide
theorem bm_32_4 : bt 4 (Int32.ofNat 32) ↔ False := by unfold bt; decide
theorem bl_32_5 : bt 5 32 ↔ True := by unfold bt; decide
theorem bm_32_5 : bt 5 (Int32.ofNat 32) ↔ True := by unfold bt; decide
theorem bl_32_6 : bt 6 32 ↔ False := by unfold bt; decide
theorem bm_32_6 : bt 6 (Int32.ofNat 32) ↔ False := by unfold bt; decide
theorem bl_32_7 : bt 7 32 ↔ False := by unfold bt; decide
theorem bm_32_7 : bt 7 (Int32.ofNat 32) ↔ False := by unfold bt; decide
theorem bl_32_8 : bt 8 32 ↔ False := by unfold bt; decide
theorem bm_32_8 : bt 8 (Int32.ofNat 32) ↔ False := by unfold bt; decide
theorem bl_32_9 : bt 9 32 ↔ False := by unfold bt; decide
theorem bm_32_9 : bt 9 (Int32.ofNat 32) ↔ False := by unfold bt; decide
theorem bl_64_0 : bt 0 64 ↔ False := by unfold bt; decide
theorem bm_64_0 : bt 0 (Int32.ofNat 64) ↔ False := by unfold bt; decide
theorem bl_64_1 : bt 1 64 ↔ False := by unfold bt; decide
theorem bm_64_1 : bt 1 (Int32.ofNat 64) ↔ False := by unfold bt; decide
theorem bl_64_2 : bt 2 64 ↔ False := by unfold bt; decide
theorem bm_64_2 : bt 2 (Int32.ofNat 64) ↔ False := by unfold bt; decide
theorem bl_64_3 : bt 3 64 ↔ False := by unfold bt; decide
theorem bm_64_3 : bt 3 (Int32.ofNat 64) ↔ False := by unfold bt; decide
theorem bl_64_4 : bt 4 64 ↔ False := by unfold bt; decide
theorem bm_64_4 : bt 4 (Int32.ofNat 64) ↔ False := by unfold bt; decide
theorem bl_64_5 : bt 5 64 ↔ False := by unfold bt; decide
theorem bm_64_5 : bt 5 (Int32.ofNat 64) ↔ False := by unfold bt; decide
theorem bl_64_6 : bt 6 64 ↔ True := by unfold bt; decide
theorem bm_64_6 : bt 6 (Int32.ofNat 64) ↔ True := by unfold bt; decide
theorem bl_64_7 : bt 7 64 ↔ False := by unfold bt; decide
theorem bm_64_7 : bt 7 (Int32.ofNat 64) ↔ False := by unfold bt; decide
theorem bl_64_8 : bt 8 64 ↔ False := by unfold bt; decide
theorem bm_64_8 : bt 8 (Int32.ofNat 64) ↔ False := by unfold bt; decide
theorem bl_64_9 : bt 9 64 ↔ False := by unfold bt; decide
theorem bm_64_9 : bt 9 (Int32.ofNat 64) ↔ False := by unfold bt; decide
theorem bl_96_0 : bt 0 96 ↔ False := by unfold bt; decide
theorem bm_96_0 : bt 0 (Int32.ofNat 96) ↔ False := by unfold bt; decide
theorem bl_96_1 : bt 1 96 ↔ False := by unfold bt; decide
theorem bm_96_1 : bt 1 (Int32.ofNat 96) ↔ False := by unfold bt; decide
theorem bl_96_2 : bt 2 96 ↔ False := by unfold bt; decide
theorem bm_96_2 : bt 2 (Int32.ofNat 96) ↔ False := by unfold bt; decide
theorem bl_96_3 : bt 3 96 ↔ False := by unfold bt; decide
theorem bm_96_3 : bt 3 (Int32.ofNat 96) ↔ False := by unfold bt; decide
theorem bl_96_4 : bt 4 96 ↔ False := by unfold bt; decide
theorem bm_96_4 : bt 4 (Int32.ofNat 96) ↔ False := by unfold bt; decide
theorem bl_96_5 : bt 5 96 ↔ True := by unfold bt; decide
theorem bm_96_5 : bt 5 (Int32.ofNat 96) ↔ True := by unfold bt; decide
theorem bl_96_6 : bt 6 96 ↔ True := by unfold bt; decide
theorem bm_96_6 : bt 6 (Int32.ofNat 96) ↔ True := by unfold bt; decide
theorem bl_96_7 : bt 7 96 ↔ False := by unfold bt; decide
theorem bm_96_7 : bt 7 (Int32.ofNat 96) ↔ False := by unfold bt; decide
theorem bl_96_8 : bt 8 96 ↔ False := by unfold bt; decide
theorem bm_96_8 : bt 8 (Int32.ofNat 96) ↔ False := by unfold bt; decide
theorem bl_96_9 : bt 9 96 ↔ False := by unfold bt; decide
theorem bm_96_9 : bt 9 (Int32.ofNat 96) ↔ False := by unfold bt; decide
theorem bl_128_0 : bt 0 128 ↔ False := by unfold bt; decide
theorem bm_128_0 : bt 0 (Int32.ofNat 128) ↔ False := by unfold bt; decide
theorem bl_128_1 : bt 1 128 ↔ False := by unfold bt; decide
theorem bm_128_1 : bt 1 (Int32.ofNat 128) ↔ False := by unfold bt; decide
theorem bl_128_2 : bt 2 128 ↔ False := by unfold bt; decide
theorem bm_128_2 : bt 2 (Int32.ofNat 128) ↔ False := by unfold bt; decide
theorem bl_128_3 : bt 3 128 ↔ False := by unfold bt; decide
theorem bm_128_3 : bt 3 (Int32.ofNat 128) ↔ False := by unfold bt; decide
theorem bl_128_4 : bt 4 128 ↔ False := by unfold bt; decide
theorem bm_128_4 : bt 4 (Int32.ofNat 128) ↔ False := by unfold bt; decide
theorem bl_128_5 : bt 5 128 ↔ False := by unfold bt; decide
theorem bm_128_5 : bt 5 (Int32.ofNat 128) ↔ False := by unfold bt; decide
theorem bl_128_6 : bt 6 128 ↔ False := by unfold bt; decide
theorem bm_128_6 : bt 6 (Int32.ofNat 128) ↔ False := by unfold bt; decide
theorem bl_128_7 : bt 7 128 ↔ True := by unfold bt; decide
theorem bm_128_7 : bt 7 (Int32.ofNat 128) ↔ True := by unfold bt; decide
theorem bl_128_8 : bt 8 128 ↔ False := by unfold bt; decide
theorem bm_128_8 : bt 8 (Int32.ofNat 128) ↔ False := by unfold bt; decide
theorem bl_128_9 : bt 9 128 ↔ False := by unfold bt; decide
theorem bm_128_9 : bt 9 (Int32.ofNat 128) ↔ False := by unfold bt; decide
theorem bl_216_0 : bt 0 216 ↔ False := by unfold bt; decide
theorem bm_216_0 : bt 0 (Int32.ofNat 216) ↔ False := by unfold bt; decide
theorem bl_216_1 : bt 1 216 ↔ False := by unfold bt; decide
theorem bm_216_1 : bt 1 (Int32.ofNat 216) ↔ False := by unfold bt; decide
theorem bl_216_2 : bt 2 216 ↔ False := by unfold bt; decide
theorem bm_216_2 : bt 2 (Int32.ofNat 216) ↔ False := by unfold bt; decide
theorem bl_216_3 : bt 3 216 ↔ True := by unfold bt; decide
theorem bm_216_3 : bt 3 (Int32.ofNat 216) ↔ True := by unfold bt; decide
theorem bl_216_4 : bt 4 216 ↔ True := by unfold bt; decide
theorem bm_216_4 : bt 4 (Int32.ofNat 216) ↔ True := by unfold bt; decide
theorem bl_216_5 : bt 5 216 ↔ False := by unfold bt; decide
theorem bm_216_5 : bt 5 (Int32.ofNat 216) ↔ False := by unfold bt; decide
theorem bl_216_6 : bt 6 216 ↔ True := by unfold bt; decide
theorem bm_216_6 : bt 6 (Int32.ofNat 216) ↔ True := by unfold bt; decide
theorem bl_216_7 : bt 7 216 ↔ True := by unfold bt; decide
theorem bm_216_7 : bt 7 (Int32.ofNat 216) ↔ True := by unfold bt; decide
theorem bl_216_8 : bt 8 216 ↔ False := by unfold bt; decide
theorem bm_216_8 : bt 8 (Int32.ofNat 216) ↔ False := by unfold bt; decide
theorem bl_216_9 : bt 9 216 ↔ False := by unfold bt; decide
theorem bm_216_9 : bt 9 (Int32.ofNat 216) ↔ False := by unfold bt; decide
theorem bl_256_0 : bt 0 256 ↔ False := by unfold bt; decide
theorem bm_256_0 : bt 0 (Int32.ofNat 256) ↔ False := by unfold bt; decide
theorem bl_256_1 : bt 1 256 ↔ False := by unfold bt; decide
theorem bm_256_1 : bt 1 (Int32.ofNat 256) ↔ False := by unfold bt; decide
theorem bl_256_2 : bt 2 256 ↔ False := by unfold bt; decide
theorem bm_256_2 : bt 2 (Int32.ofNat 256) ↔ False := by unfold bt; decide
theorem bl_256_3 : bt 3 256 ↔ False := by unfold bt; decide
theorem bm_256_3 : bt 3 (Int32.ofNat 256) ↔ False := by unfold bt; decide
theorem bl_256_4 : bt 4 256 ↔ False := by unfold bt; decide
theorem bm_256_4 : bt 4 (Int32.ofNat 256) ↔ False := by unfold bt; decide
theorem bl_256_5 : bt 5 256 ↔ False := by unfold bt; decide
theorem bm_256_5 : bt 5 (Int32.ofNat 256) ↔ False := by unfold bt; decide
theorem bl_256_6 : bt 6 256 ↔ False := by unfold bt; decide
theorem bm_256_6 : bt 6 (Int32.ofNat 256) ↔ False := by unfold bt; decide
theorem bl_256_7 : bt 7 256 ↔ False := by unfold bt; decide
theorem bm_256_7 : bt 7 (Int32.ofNat 256) ↔ False := by unfold bt; decide
theorem bl_256_8 : bt 8 256 ↔ True := by unfold bt; decide
theorem bm_256_8 : bt 8 (Int32.ofNat 256) ↔ True := by unfold bt; decide
theorem bl_256_9 : bt 9 256 ↔ False := by unfold bt; decide
theorem bm_256_9 : bt 9 (Int32.ofNat 256) ↔ False := by unfold bt; decide
theorem bl_286_0 : bt 0 286 ↔ False := by unfold bt; decide
theorem bm_286_0 : bt 0 (Int32.ofNat 286) ↔ False := by unfold bt; decide
theorem bl_286_1 : bt 1 286 ↔ True := by unfold bt; decide
theorem bm_286_1 : bt 1 (Int32.ofNat 286) ↔ True := by unfold bt; decide
theorem bl_286_2 : bt 2 286 ↔ True := by unfold bt; decide
theorem bm_286_2 : bt 2 (Int32.ofNat 286) ↔ True := by unfold bt; decide
theorem bl_286_3 : bt 3 286 ↔ True := by unfold bt; decide
theorem bm_286_3 : bt 3 (Int32.ofNat 286) ↔ True := by unfold bt; decide
theorem bl_286_4 : bt 4 286 ↔ True := by unfold bt; decide
theorem bm_286_4 : bt 4 (Int32.ofNat 286) ↔ True := by unfold bt; decide
theorem bl_286_5 : bt 5 286 ↔ False := by unfold bt; decide
theorem bm_286_5 : bt 5 (Int32.ofNat 286) ↔ False := by unfold bt; decide
theorem bl_286_6 : bt 6 286 ↔ False := by unfold bt; decide
theorem bm_286_6 : bt 6 (Int32.ofNat 286) ↔ False := by unfold bt; decide
theorem bl_286_7 : bt 7 286 ↔ False := by unfold bt; decide
theorem bm_286_7 : bt 7 (Int32.ofNat 286) ↔ False := by unfold bt; decide
theorem bl_286_8 : bt 8 286 ↔ True := by unfold bt; decide
theorem bm_286_8 : bt 8 (Int32.ofNat 286) ↔ True := by unfold bt; decide
theorem bl_286_9 : bt 9 286 ↔ False := by unfold bt; decide
theorem bm_286_9 : bt 9 (Int32.ofNat 286) ↔ False := by unfold bt; decide
theorem bl_288_0 : bt 0 288 ↔ False := by unfold bt; decide
theorem bm_288_0 : bt 0 (Int32.ofNat 288) ↔ False := by unfold bt; decide
theorem bl_288_1 : bt 1 288 ↔ False := by unfold bt; decide
theorem bm_288_1 : bt 1 (Int32.ofNat 288) ↔ False := by unfold bt; decide
theorem bl_288_2 : bt 2 288 ↔ False := by unfold bt; decide
theorem bm_288_2 : bt 2 (Int32.ofNat 288) ↔ False := by unfold bt; decide
theorem bl_288_3 : bt 3 288 ↔ False := by unfold bt; decide
theorem bm_288_3 : bt 3 (Int32.ofNat 288) ↔ False := by unfold bt; decide
theorem bl_288_4 : bt 4 288 ↔ False := by unfold bt; decide
theorem bm_288_4 : bt 4 (Int32.ofNat 288) ↔ False := by unfold bt; decide
theorem bl_288_5 : bt 5 288 ↔ True := by unfold bt; decide
theorem bm_288_5 : bt 5 (Int32.ofNat 288) ↔ True := by unfold bt; decide
theorem bl_288_6 : bt 6 288 ↔ False := by unfold bt; decide
theorem bm_288_6 : bt 6 (Int32.ofNat 288) ↔ False := by unfold bt; decide
theorem bl_288_7 : bt 7 288 ↔ False := by unfold bt; decide
theorem bm_288_7 : bt 7 (Int32.ofNat 288) ↔ False := by unfold bt; decide
theorem bl_288_8 : bt 8 288 ↔ True := by unfold bt; decide
theorem bm_288_8 : bt 8 (Int32.ofNat 288) ↔ True := by unfold bt; decide
theorem bl_288_9 : bt 9 288 ↔ False := by unfold bt; decide
theorem bm_288_9 : bt 9 (Int32.ofNat 288) ↔ False := by unfold bt; decide
theorem bl_321_0 : bt 0 321 ↔ True := by unfold bt; decide
theorem bm_321_0 : bt 0 (Int32.ofNat 321) ↔ True := by unfold bt; decide
theorem bl_321_1 : bt 1 321 ↔ False := by unfold bt; decide
theorem bm_321_1 : bt 1 (Int32.ofNat 321) ↔ False := by unfold bt; decide
theorem bl_321_2 : bt 2 321 ↔ False := by unfold bt; decide
theorem bm_321_2 : bt 2 (Int32.ofNat 321) ↔ False := by unfold bt; decide
theorem bl_321_3 : bt 3 321 ↔ False := by unfold bt; decide
theorem bm_321_3 : bt 3 (Int32.ofNat 321) ↔ False := by unfold bt; decide
theorem bl_321_4 : bt 4 321 ↔ False := by unfold bt; decide
theorem bm_321_4 : bt 4 (Int32.ofNat 321) ↔ False := by unfold bt; decide
theorem bl_321_5 : bt 5 321 ↔ False := by unfold bt; decide
theorem bm_321_5 : bt 5 (Int32.ofNat 321) ↔ False := by unfold bt; decide
theorem bl_321_6 : bt 6 321 ↔ True := by unfold bt; decide
theorem bm_321_6 : bt 6 (Int32.ofNat 321) ↔ True := by unfold bt; decide
theorem bl_321_7 : bt 7 321 ↔ False := by unfold bt; decide
theorem bm_321_7 : bt 7 (Int32.ofNat 321) ↔ False := by unfold bt; decide
theorem bl_321_8 : bt 8 321 ↔ True := by unfold bt; decide
theorem bm_321_8 : bt 8 (Int32.ofNat 321) ↔ True := by unfold bt; decide
theorem bl_321_9 : bt 9 321 ↔ False := by unfold bt; decide
theorem bm_321_9 : bt 9 (Int32.ofNat 321) ↔ False := by unfold bt; decide
theorem bl_337_0 : bt 0 337 ↔ True := by unfold bt; decide
theorem bm_337_0 : bt 0 (Int32.ofNat 337) ↔ True := by unfold bt; decide
theorem bl_337_1 : bt 1 337 ↔ False := by unfold bt; decide
theorem bm_337_1 : bt 1 (Int32.ofNat 337) ↔ False := by unfold bt; decide
theorem bl_337_2 : bt 2 337 ↔ False := by unfold bt; decide
theorem bm_337_2 : bt 2 (Int32.ofNat 337) ↔ False := by unfold bt; decide
theorem bl_337_3 : bt 3 337 ↔ False := by unfold bt; decide
theorem bm_337_3 : bt 3 (Int32.ofNat 337) ↔ False := by unfold bt; decide
theorem bl_337_4 : bt 4 337 ↔ True := by unfold bt; decide
theorem bm_337_4 : bt 4 (Int32.ofNat 337) ↔ True := by unfold bt; decide
theorem bl_337_5 : bt 5 337 ↔ False := by unfold bt; decide
theorem bm_337_5 : bt 5 (Int32.ofNat 337) ↔ False := by unfold bt; decide
theorem bl_337_6 : bt 6 337 ↔ True := by unfold bt; decide
theorem bm_337_6 : bt 6 (Int32.ofNat 337) ↔ True := by unfold bt; decide
theorem bl_337_7 : bt 7 337 ↔ False := by unfold bt; decide
theorem bm_337_7 : bt 7 (Int32.ofNat 337) ↔ False := by unfold bt; decide
theorem bl_337_8 : bt 8 337 ↔ True := by unfold bt; decide
theorem bm_337_8 : bt 8 (Int32.ofNat 337) ↔ True := by unfold bt; decide
theorem bl_337_9 : bt 9 337 ↔ False := by unfold bt; decide
theorem bm_337_9 : bt 9 (Int32.ofNat 337) ↔ False := by unfold bt; decide
theorem bl_441_0 : bt 0 441 ↔ True := by unfold bt; decide
theorem bm_441_0 : bt 0 (Int32.ofNat 441) ↔ True := by unfold bt; decide
theorem bl_441_1 : bt 1 441 ↔ False := by unfold bt; decide
theorem bm_441_1 : bt 1 (Int32.ofNat 441) ↔ False := by unfold bt; decide
theorem bl_441_2 : bt 2 441 ↔ False := by unfold bt; decide
theorem bm_441_2 : bt 2 (Int32.ofNat 441) ↔ False := by unfold bt; decide
theorem bl_441_3 : bt 3 441 ↔ True := by unfold bt; decide
theorem bm_441_3 : bt 3 (Int32.ofNat 441) ↔ True := by unfold bt; decide
theorem bl_441_4 : bt 4 441 ↔ True := by unfold bt; decide
theorem bm_441_4 : bt 4 (Int32.ofNat 441) ↔ True := by unfold bt; decide
theorem bl_441_5 : bt 5 441 ↔ True := by unfold bt; decide
theorem bm_441_5 : bt 5 (Int32.ofNat 441) ↔ True := by unfold bt; decide
theorem bl_441_6 : bt 6 441 ↔ False := by unfold bt; decide
theorem bm_441_6 : bt 6 (Int32.ofNat 441) ↔ False := by unfold bt; decide
theorem bl_441_7 : bt 7 441 ↔ True := by unfold bt; decide
theorem bm_441_7 : bt 7 (Int32.ofNat 441) ↔ True := by unfold bt; decide
theorem bl_441_8 : bt 8 441 ↔ True := by unfold bt; decide
theorem bm_441_8 : bt 8 (Int32.ofNat 441) ↔ True := by unfold bt; decide
theorem bl_441_9 : bt 9 441 ↔ False := by unfold bt; decide
theorem bm_441_9 : bt 9 (Int32.ofNat 441) ↔ False := by unfold bt; decide
theorem bl_444_0 : bt 0 444 ↔ False := by unfold bt; decide
theorem bm_444_0 : bt 0 (Int32.ofNat 444) ↔ False := by unfold bt; decide
theorem bl_444_1 : bt 1 444 ↔ False := by unfold bt; decide
theorem bm_444_1 : bt 1 (Int32.ofNat 444) ↔ False := by unfold bt; decide
theorem bl_444_2 : bt 2 444 ↔ True := by unfold bt; decide
theorem bm_444_2 : bt 2 (Int32.ofNat 444) ↔ True := by unfold bt; decide
theorem bl_444_3 : bt 3 444 ↔ True := by unfold bt; decide
theorem bm_444_3 : bt 3 (Int32.ofNat 444) ↔ True := by unfold bt; decide
theorem bl_444_4 : bt 4 444 ↔ True := by unfold bt; decide
theorem bm_444_4 : bt 4 (Int32.ofNat 444) ↔ True := by unfold bt; decide
theorem bl_444_5 : bt 5 444 ↔ True := by unfold bt; decide
theorem bm_444_5 : bt 5 (Int32.ofNat 444) ↔ True := by unfold bt; decide
theorem bl_444_6 : bt 6 444 ↔ False := by unfold bt; decide
theorem bm_444_6 : bt 6 (Int32.ofNat 444) ↔ False := by unfold bt; decide
theorem bl_444_7 : bt 7 444 ↔ True := by unfold bt; decide
theorem bm_444_7 : bt 7 (Int32.ofNat 444) ↔ True := by unfold bt; decide
theorem bl_444_8 : bt 8 444 ↔ True := by unfold bt; decide
theorem bm_444_8 : bt 8 (Int32.ofNat 444) ↔ True := by unfold bt; decide
theorem bl_444_9 : bt 9 444 ↔ False := by unfold bt; decide
theorem bm_444_9 : bt 9 (Int32.ofNat 444) ↔ False := by unfold bt; decide
theorem bl_446_0 : bt 0 446 ↔ False := by unfold bt; decide
theorem bm_446_0 : bt 0 (Int32.ofNat 446) ↔ False := by unfold bt; decide
theorem bl_446_1 : bt 1 446 ↔ True := by unfold bt; decide
theorem bm_446_1 : bt 1 (Int32.ofNat 446) ↔ True := by unfold bt; decide
theorem bl_446_2 : bt 2 446 ↔ True := by unfold bt; decide
theorem bm_446_2 : bt 2 (Int32.ofNat 446) ↔ True := by unfold bt; decide
theorem bl_446_3 : bt 3 446 ↔ True := by unfold bt; decide
theorem bm_446_3 : bt 3 (Int32.ofNat 446) ↔ True := by unfold bt; decide
theorem bl_446_4 : bt 4 446 ↔ True := by unfold bt; decide
theorem bm_446_4 : bt 4 (Int32.ofNat 446) ↔ True := by unfold bt; decide
theorem bl_446_5 : bt 5 446 ↔ True := by unfold bt; decide
theorem bm_446_5 : bt 5 (Int32.ofNat 446) ↔ True := by unfold bt; decide
theorem bl_446_6 : bt 6 446 ↔ False := by unfold bt; decide
theorem bm_446_6 : bt 6 (Int32.ofNat 446) ↔ False := by unfold bt; decide
theorem bl_446_7 : bt 7 446 ↔ True := by unfold bt; decide
theorem bm_446_7 : bt 7 (Int32.ofNat 446) ↔ True := by unfold bt; decide
theorem bl_446_8 : bt 8 446 ↔ True := by unfold bt; decide
theorem bm_446_8 : bt 8 (Int32.ofNat 446) ↔ True := by unfold bt; decide
theorem bl_446_9 : bt 9 446 ↔ False := by unfold bt; decide
theorem bm_446_9 : bt 9 (Int32.ofNat 446) ↔ False := by unfold bt; decide
theorem bl_480_0 : bt 0 480 ↔ False := by unfold bt; decide
theorem bm_480_0 : bt 0 (Int32.ofNat 480) ↔ False := by unfold bt; decide
theorem bl_480_1 : bt 1 480 ↔ False := by unfold bt; decide
theorem bm_480_1 : bt 1 (Int32.ofNat 480) ↔ False := by unfold bt; decide
theorem bl_480_2 : bt 2 480 ↔ False := by unfold bt; decide
theorem bm_480_2 : bt 2 (Int32.ofNat 480) ↔ False := by unfold bt; decide
theorem bl_480_3 : bt 3 480 ↔ False := by unfold bt; decide
theorem bm_480_3 : bt 3 (Int32.ofNat 480) ↔ False := by unfold bt; decide
theorem bl_480_4 : bt 4 480 ↔ False := by unfold bt; decide
theorem bm_480_4 : bt 4 (Int32.ofNat 480) ↔ False := by unfold bt; decide
theorem bl_480_5 : bt 5 480 ↔ True := by unfold bt; decide
theorem bm_480_5 : bt 5 (Int32.ofNat 480) ↔ True := by unfold bt; decide
theorem bl_480_6 : bt 6 480 ↔ True := by unfold bt; decide
theorem bm_480_6 : bt 6 (Int32.ofNat 480) ↔ True := by unfold bt; decide
theorem bl_480_7 : bt 7 480 ↔ True := by unfold bt; decide
theorem bm_480_7 : bt 7 (Int32.ofNat 480) ↔ True := by unfold bt; decide
theorem bl_480_8 : bt 8 480 ↔ True := by unfold bt; decide
theorem bm_480_8 : bt 8 (Int32.ofNat 480) ↔ True := by unfold bt; decide
theorem bl_480_9 : bt 9 480 ↔ False := by unfold bt; decide
theorem bm_480_9 : bt 9 (Int32.ofNat 480) ↔ False := by unfold bt; decide
theorem bl_512_0 : bt 0 512 ↔ False := by unfold bt; decide
theorem bm_512_0 : bt 0 (Int32.ofNat 512) ↔ False := by unfold bt; decide
theorem bl_512_1 : bt 1 512 ↔ False := by unfold bt; decide
theorem bm_512_1 : bt 1 (Int32.ofNat 512) ↔ False := by unfold bt; decide
theorem bl_512_2 : bt 2 512 ↔ False := by unfold bt; decide
theorem bm_512_2 : bt 2 (Int32.ofNat 512) ↔ False := by unfold bt; decide
theorem bl_512_3 : bt 3 512 ↔ False := by unfold bt; decide
theorem bm_512_3 : bt 3 (Int32.ofNat 512) ↔ False := by unfold bt; decide
theorem bl_512_4 : bt 4 512 ↔ False := by unfold bt; decide
theorem bm_512_4 : bt 4 (Int32.ofNat 512) ↔ False := by unfold bt; decide
theorem bl_512_5 : bt 5 512 ↔ False := by unfold bt; decide
theorem bm_512_5 : bt 5 (Int32.ofNat 512) ↔ False := by unfold bt; decide
theorem bl_512_6 : bt 6 512 ↔ False := by unfold bt; decide
theorem bm_512_6 : bt 6 (Int32.ofNat 512) ↔ False := by unfold bt; decide
theorem bl_512_7 : bt 7 512 ↔ False := by unfold bt; decide
theorem bm_512_7 : bt 7 (Int32.ofNat 512) ↔ False := by unfold bt; decide
theorem bl_512_8 : bt 8 512 ↔ False := by unfold bt; decide
theorem bm_512_8 : bt 8 (Int32.ofNat 512) ↔ False := by unfold bt; decide
theorem bl_512_9 : bt 9 512 ↔ True := by unfold bt; decide
theorem bm_512_9 : bt 9 (Int32.ofNat 512) ↔ True := by unfold bt; decide
noncomputable def pt11_e1 (a : Int32) (b : Int32) : Int32 := (((((((a &&& b) &&& (1 : Int32)) ||| (Int32.ofNat (znt ((((a &&& (2 : Int32)) = 2) ∧ ((b &&& (1 : Int32)) = 1)) ∨ (((a &&& (1 : Int32)) = 1) ∧ ((b &&& (2 : Int32)) = 2))) 2 0))) ||| (Int32.ofNat (znt (((a &&& (4 : Int32)) = 4) ∨ (((a &&& (1 : Int32)) = 1) ∧ ((b &&& (4 : Int32)) = 4))) 4 0))) ||| (b &&& (16 : Int32))) ||| ((a ||| b) &&& (32 : Int32))) ||| (Int32.ofNat (znt (((a &&& (32 : Int32)) = 32) ∨ ((b &&& (64 : Int32)) = 64)) 64 0))) ||| ((a &&& b) &&& (256 : Int32))
theorem pt11 {d : Nat} {S : zS} (hF : zFin true S) (hd : 2 ≤ d) (n : Nat) (p q a b : Int32)  (hn : n < 3000) {post : Outcome × zS → Prop} (h1 : (p = 1) → ((q = 0) ∨ (q = 2) ∨ (q = 1)) → post (.returned none, sA (sA S 1616 n q) 1617 n (pt11_e1 a b))) (h2 : ((¬ (p = 1)) ∨ (¬ ((q = 0) ∨ (q = 2) ∨ (q = 1)))) → post (.returned none, S)) : zCall d 144 [.ref 1592, .int (Int32.ofNat n), .int 11, .int p, .int q, .int a, .int b] S post := by
  have ht : ztab 144 = ztb144 := rfl
  show zEv d 144 0 [.ref 1592, .int (Int32.ofNat n), .int 11, .int p, .int q, .int a, .int b, .retAddr 0, .retAddr 0, .retAddr 0] [] S post
  refine zv_c1 ht rfl rfl (zv_c1 ht rfl rfl ?_)
  refine zv_c1 (st' := [.int (a &&& b)]) (S' := S) ht rfl rfl ?_
  refine zv_c1 ht rfl rfl ?_
  refine zv_c1 (st' := [.int ((a &&& b) &&& (1 : Int32))]) (S' := S) ht rfl rfl ?_
  refine zv_c2 (L' := [.ref 1592, .int (Int32.ofNat n), .int 11, .int p, .int q, .int a, .int b, .int ((a &&& b) &&& (1 : Int32)), .retAddr 0, .retAddr 0]) ht rfl rfl ?_
  refine zv_c1 ht rfl rfl (zv_c1 ht rfl rfl ?_)
  have C2 : ∀ (pst1 : Outcome × zS → Prop), (pst1 (.returned (some (.int (zbo ((a &&& (4 : Int32)) = 4)))), S)) → zCall (d - 1) 139 [.int a, .int 4] S pst1 := by
    intro pst1 k7
    have ht3 : ztab 139 = ztb139 := rfl
    show zEv (d - 1) 139 0 [.int a, .int 4] [] S pst1
    refine zv_c1 ht3 rfl rfl (zv_c1 ht3 rfl rfl ?_)
    refine zv_c1 (st' := [.int (a &&& (4 : Int32))]) (S' := S) ht3 rfl rfl ?_
    refine zv_c1 ht3 rfl rfl ?_
    have J5 : zEv (d - 1) 139 12 [.retAddr 0, .retAddr 0] [.int (zbo ((a &&& (4 : Int32)) = 4))] S pst1 := by
      exact zv_rc ht3 rfl rfl rfl rfl zbo_rng k7
    refine zv_br ht3 rfl rfl rfl (fun b4 => ?_) (fun b4 => ?_)
    · refine zv_c1 ht3 rfl rfl ?_
      exact zEv.wk (L := [.retAddr 0, .retAddr 0]) (L' := [.int a, .int 4]) (And.intro (Or.inr rfl) (And.intro (Or.inr rfl) trivial)) (zv_sub (zz := zbo ((a &&& (4 : Int32)) = 4)) (zy := 0) (p := fun zz => zEv (d - 1) 139 12 [.retAddr 0, .retAddr 0] [.int zz] S pst1) (zbo_neg b4) J5)
    · replace b4 : (a &&& (4 : Int32)) = 4 := Classical.not_not.mp b4
      refine zv_c1 ht3 rfl rfl (zv_c1 ht3 rfl rfl ?_)
      exact zEv.wk (L := [.retAddr 0, .retAddr 0]) (L' := [.int a, .int 4]) (And.intro (Or.inr rfl) (And.intro (Or.inr rfl) trivial)) (zv_sub (zz := zbo ((a &&& (4 : Int32)) = 4)) (zy := 1) (p := fun zz => zEv (d - 1) 139 12 [.retAddr 0, .retAddr 0] [.int zz] S pst1) (zbo_pos b4) J5)
  refine zv_cl ht rfl rfl rfl rfl (by omega) (Nat.le_of_ble_eq_true rfl) (C2 _ ?_)
  show zEv d 144 15 [.ref 1592, .int (Int32.ofNat n), .int 11, .int p, .int q, .int a, .int b, .int ((a &&& b) &&& (1 : Int32)), .retAddr 0, .retAddr 0] [.int (zbo ((a &&& (4 : Int32)) = 4))] S post
  have J29 : zEv d 144 41 [.ref 1592, .int (Int32.ofNat n), .int 11, .int p, .int q, .int a, .int b, .int ((a &&& b) &&& (1 : Int32)), .retAddr 0, .retAddr 0] [.int (zbo (((a &&& (4 : Int32)) = 4) ∨ (((a &&& (1 : Int32)) = 1) ∧ ((b &&& (4 : Int32)) = 4))))] S post := by
    refine zv_c1 ht rfl rfl ?_
    have C32 : ∀ (pst31 : Outcome × zS → Prop), (pst31 (.returned (some (.int (Int32.ofNat (znt (((a &&& (4 : Int32)) = 4) ∨ (((a &&& (1 : Int32)) = 1) ∧ ((b &&& (4 : Int32)) = 4))) 4 0)))), S)) → zCall (d - 1) 140 [.int (zbo (((a &&& (4 : Int32)) = 4) ∨ (((a &&& (1 : Int32)) = 1) ∧ ((b &&& (4 : Int32)) = 4)))), .int 4] S pst31 := by
      intro pst31 k37
      have ht33 : ztab 140 = ztb140 := rfl
      show zEv (d - 1) 140 0 [.int (zbo (((a &&& (4 : Int32)) = 4) ∨ (((a &&& (1 : Int32)) = 1) ∧ ((b &&& (4 : Int32)) = 4)))), .int 4] [] S pst31
      refine zv_c1 ht33 rfl rfl ?_
      have J35 : zEv (d - 1) 140 9 [.retAddr 0, .retAddr 0] [.int (Int32.ofNat (znt (((a &&& (4 : Int32)) = 4) ∨ (((a &&& (1 : Int32)) = 1) ∧ ((b &&& (4 : Int32)) = 4))) 4 0))] S pst31 := by
        exact zv_rt ht33 rfl rfl rfl rfl k37
      refine zv_br ht33 rfl rfl rfl (fun b34 => ?_) (fun b34 => ?_)
      · replace b34 : ¬ (((a &&& (4 : Int32)) = 4) ∨ (((a &&& (1 : Int32)) = 1) ∧ ((b &&& (4 : Int32)) = 4))) := (zbo_eq0 : (zbo (((a &&& (4 : Int32)) = 4) ∨ (((a &&& (1 : Int32)) = 1) ∧ ((b &&& (4 : Int32)) = 4)))) = 0 ↔ ¬ (((a &&& (4 : Int32)) = 4) ∨ (((a &&& (1 : Int32)) = 1) ∧ ((b &&& (4 : Int32)) = 4)))).mp b34
        refine zv_c1 ht33 rfl rfl ?_
        exact zEv.wk (L := [.retAddr 0, .retAddr 0]) (L' := [.int (zbo (((a &&& (4 : Int32)) = 4) ∨ (((a &&& (1 : Int32)) = 1) ∧ ((b &&& (4 : Int32)) = 4)))), .int 4]) (And.intro (Or.inr rfl) (And.intro (Or.inr rfl) trivial)) (zv_sub (zz := Int32.ofNat (znt (((a &&& (4 : Int32)) = 4) ∨ (((a &&& (1 : Int32)) = 1) ∧ ((b &&& (4 : Int32)) = 4))) 4 0)) (zy := 0) (p := fun zz => zEv (d - 1) 140 9 [.retAddr 0, .retAddr 0] [.int zz] S pst31) (congrArg Int32.ofNat (znt_neg b34)) J35)
      · replace b34 : ((a &&& (4 : Int32)) = 4) ∨ (((a &&& (1 : Int32)) = 1) ∧ ((b &&& (4 : Int32)) = 4)) := Classical.byContradiction (fun h => b34 ((zbo_eq0 : (zbo (((a &&& (4 : Int32)) = 4) ∨ (((a &&& (1 : Int32)) = 1) ∧ ((b &&& (4 : Int32)) = 4)))) = 0 ↔ ¬ (((a &&& (4 : Int32)) = 4) ∨ (((a &&& (1 : Int32)) = 1) ∧ ((b &&& (4 : Int32)) = 4)))).mpr h))
        refine zv_c1 ht33 rfl rfl (zv_c1 ht33 rfl rfl ?_)
        exact zEv.wk (L := [.retAddr 0, .retAddr 0]) (L' := [.int (zbo (((a &&& (4 : Int32)) = 4) ∨ (((a &&& (1 : Int32)) = 1) ∧ ((b &&& (4 : Int32)) = 4)))), .int 4]) (And.intro (Or.inr rfl) (And.intro (Or.inr rfl) trivial)) (zv_sub (zz := Int32.ofNat (znt (((a &&& (4 : Int32)) = 4) ∨ (((a &&& (1 : Int32)) = 1) ∧ ((b &&& (4 : Int32)) = 4))) 4 0)) (zy := 4) (p := fun zz => zEv (d - 1) 140 9 [.retAddr 0, .retAddr 0] [.int zz] S pst31) (congrArg Int32.ofNat (znt_pos b34)) J35)
    refine zv_cl ht rfl rfl rfl rfl (by omega) (Nat.le_of_ble_eq_true rfl) (C32 _ ?_)
    show zEv d 144 45 [.ref 1592, .int (Int32.ofNat n), .int 11, .int p, .int q, .int a, .int b, .int ((a &&& b) &&& (1 : Int32)), .retAddr 0, .retAddr 0] [.int (Int32.ofNat (znt (((a &&& (4 : Int32)) = 4) ∨ (((a &&& (1 : Int32)) = 1) ∧ ((b &&& (4 : Int32)) = 4))) 4 0))] S post
    refine zv_c2 (L' := [.ref 1592, .int (Int32.ofNat n), .int 11, .int p, .int q, .int a, .int b, .int ((a &&& b) &&& (1 : Int32)), .int (Int32.ofNat (znt (((a &&& (4 : Int32)) = 4) ∨ (((a &&& (1 : Int32)) = 1) ∧ ((b &&& (4 : Int32)) = 4))) 4 0)), .retAddr 0]) ht rfl rfl ?_
    refine zv_c1 ht rfl rfl (zv_c1 ht rfl rfl ?_)
    refine zv_c1 (st' := [.int (a ||| b)]) (S' := S) ht rfl rfl ?_
    refine zv_c1 ht rfl rfl ?_
    have C39 : ∀ (pst38 : Outcome × zS → Prop), (pst38 (.returned (some (.int (zbo (((a ||| b) &&& (32 : Int32)) = 32)))), S)) → zCall (d - 1) 139 [.int (a ||| b), .int 32] S pst38 := by
      intro pst38 k44
      have ht40 : ztab 139 = ztb139 := rfl
      show zEv (d - 1) 139 0 [.int (a ||| b), .int 32] [] S pst38
      refine zv_c1 ht40 rfl rfl (zv_c1 ht40 rfl rfl ?_)
      refine zv_c1 (st' := [.int ((a ||| b) &&& (32 : Int32))]) (S' := S) ht40 rfl rfl ?_
      refine zv_c1 ht40 rfl rfl ?_
      have J42 : zEv (d - 1) 139 12 [.retAddr 0, .retAddr 0] [.int (zbo (((a ||| b) &&& (32 : Int32)) = 32))] S pst38 := by
        exact zv_rc ht40 rfl rfl rfl rfl zbo_rng k44
      refine zv_br ht40 rfl rfl rfl (fun b41 => ?_) (fun b41 => ?_)
      · refine zv_c1 ht40 rfl rfl ?_
        exact zEv.wk (L := [.retAddr 0, .retAddr 0]) (L' := [.int (a ||| b), .int 32]) (And.intro (Or.inr rfl) (And.intro (Or.inr rfl) trivial)) (zv_sub (zz := zbo (((a ||| b) &&& (32 : Int32)) = 32)) (zy := 0) (p := fun zz => zEv (d - 1) 139 12 [.retAddr 0, .retAddr 0] [.int zz] S pst38) (zbo_neg b41) J42)
      · replace b41 : ((a ||| b) &&& (32 : Int32)) = 32 := Classical.not_not.mp b41
        refine zv_c1 ht40 rfl rfl (zv_c1 ht40 rfl rfl ?_)
        exact zEv.wk (L := [.retAddr 0, .retAddr 0]) (L' := [.int (a ||| b), .int 32]) (And.intro (Or.inr rfl) (And.intro (Or.inr rfl) trivial)) (zv_sub (zz := zbo (((a ||| b) &&& (32 : Int32)) = 32)) (zy := 1) (p := fun zz => zEv (d - 1) 139 12 [.retAddr 0, .retAddr 0] [.int zz] S pst38) (zbo_pos b41) J42)
    refine zv_cl ht rfl rfl rfl rfl (by omega) (Nat.le_of_ble_eq_true rfl) (C39 _ ?_)
    show zEv d 144 57 [.ref 1592, .int (Int32.ofNat n), .int 11, .int p, .int q, .int a, .int b, .int ((a &&& b) &&& (1 : Int32)), .int (Int32.ofNat (znt (((a &&& (4 : Int32)) = 4) ∨ (((a &&& (1 : Int32)) = 1) ∧ ((b &&& (4 : Int32)) = 4))) 4 0)), .retAddr 0] [.int (zbo (((a ||| b) &&& (32 : Int32)) = 32))] S post
    refine zv_c2 (L' := [.ref 1592, .int (Int32.ofNat n), .int 11, .int p, .int q, .int a, .int b, .int ((a &&& b) &&& (1 : Int32)), .int (Int32.ofNat (znt (((a &&& (4 : Int32)) = 4) ∨ (((a &&& (1 : Int32)) = 1) ∧ ((b &&& (4 : Int32)) = 4))) 4 0)), .int (zbo (((a ||| b) &&& (32 : Int32)) = 32))]) ht rfl rfl ?_
    refine zv_c1 ht rfl rfl ?_
    refine zv_sw ht rfl rfl rfl rfl rfl ?_
    refine And.intro (fun _ => ?_) (fun h => absurd (by decide) h)
    refine zv_c1 ht rfl rfl (zv_c1 ht rfl rfl ?_)
    have J140 : ((¬ (p = 1)) ∨ (¬ ((q = 0) ∨ (q = 2) ∨ (q = 1)))) → zEv d 144 109 [.retAddr 0, .retAddr 0, .retAddr 0, .retAddr 0, .retAddr 0, .retAddr 0, .retAddr 0, .retAddr 0, .retAddr 0, .retAddr 0] [] S post := by
      intro b141
      exact zv_rt ht rfl rfl rfl rfl (h2 b141)
    refine zv_br ht rfl rfl rfl (fun b45 => ?_) (fun b45 => ?_)
    · exact zEv.wk (L := [.retAddr 0, .retAddr 0, .retAddr 0, .retAddr 0, .retAddr 0, .retAddr 0, .retAddr 0, .retAddr 0, .retAddr 0, .retAddr 0]) (L' := [.ref 1592, .int (Int32.ofNat n), .int 11, .int p, .int q, .int a, .int b, .int ((a &&& b) &&& (1 : Int32)), .int (Int32.ofNat (znt (((a &&& (4 : Int32)) = 4) ∨ (((a &&& (1 : Int32)) = 1) ∧ ((b &&& (4 : Int32)) = 4))) 4 0)), .int (zbo (((a ||| b) &&& (32 : Int32)) = 32))]) (And.intro (Or.inr rfl) (And.intro (Or.inr rfl) (And.intro (Or.inr rfl) (And.intro (Or.inr rfl) (And.intro (Or.inr rfl) (And.intro (Or.inr rfl) (And.intro (Or.inr rfl) (And.intro (Or.inr rfl) (And.intro (Or.inr rfl) (And.intro (Or.inr rfl) trivial)))))))))) (J140 (Or.inl b45))
    · replace b45 : p = 1 := Classical.not_not.mp b45
      refine zv_c1 ht rfl rfl ?_
      have C47 : ∀ (pst46 : Outcome × zS → Prop), (pst46 (.returned (some (.int (zbo ((q = 0) ∨ (q = 2) ∨ (q = 1))))), S)) → zCall (d - 1) 143 [.int q] S pst46 := by
        intro pst46 k56
        have ht48 : ztab 143 = ztb143 := rfl
        show zEv (d - 1) 143 0 [.int q] [] S pst46
        refine zv_c1 ht48 rfl rfl ?_
        have J54 : zEv (d - 1) 143 19 [.retAddr 0] [.int (zbo ((q = 0) ∨ (q = 2) ∨ (q = 1)))] S pst46 := by
          exact zv_rc ht48 rfl rfl rfl rfl zbo_rng k56
        have J52 : ((q = 0) ∨ (q = 2) ∨ (q = 1)) → zEv (d - 1) 143 14 [.retAddr 0] [] S pst46 := by
          intro b53
          refine zv_c1 ht48 rfl rfl (zv_c1 ht48 rfl rfl ?_)
          exact (zv_sub (zz := zbo ((q = 0) ∨ (q = 2) ∨ (q = 1))) (zy := 1) (p := fun zz => zEv (d - 1) 143 19 [.retAddr 0] [.int zz] S pst46) (zbo_pos b53) J54)
        refine zv_br ht48 rfl rfl rfl (fun b49 => ?_) (fun b49 => ?_)
        · exact zEv.wk (L := [.retAddr 0]) (L' := [.int q]) (And.intro (Or.inr rfl) trivial) (J52 (Or.inl b49))
        · refine zv_c1 ht48 rfl rfl (zv_c1 ht48 rfl rfl ?_)
          refine zv_br ht48 rfl rfl rfl (fun b50 => ?_) (fun b50 => ?_)
          · exact zEv.wk (L := [.retAddr 0]) (L' := [.int q]) (And.intro (Or.inr rfl) trivial) (J52 (Or.inr (Or.inl b50)))
          · refine zv_c1 ht48 rfl rfl (zv_c1 ht48 rfl rfl ?_)
            refine zv_br ht48 rfl rfl rfl (fun b51 => ?_) (fun b51 => ?_)
            · refine zv_c1 ht48 rfl rfl ?_
              exact zEv.wk (L := [.retAddr 0]) (L' := [.int q]) (And.intro (Or.inr rfl) trivial) (zv_sub (zz := zbo ((q = 0) ∨ (q = 2) ∨ (q = 1))) (zy := 0) (p := fun zz => zEv (d - 1) 143 19 [.retAddr 0] [.int zz] S pst46) (zbo_neg (fun h => h.elim b49 (fun h => h.elim b50 b51))) J54)
            · replace b51 : q = 1 := Classical.not_not.mp b51
              exact zEv.wk (L := [.retAddr 0]) (L' := [.int q]) (And.intro (Or.inr rfl) trivial) (J52 (Or.inr (Or.inr b51)))
      refine zv_cl ht rfl rfl rfl rfl (by omega) (Nat.le_of_ble_eq_true rfl) (C47 _ ?_)
      show zEv d 144 106 [.ref 1592, .int (Int32.ofNat n), .int 11, .int p, .int q, .int a, .int b, .int ((a &&& b) &&& (1 : Int32)), .int (Int32.ofNat (znt (((a &&& (4 : Int32)) = 4) ∨ (((a &&& (1 : Int32)) = 1) ∧ ((b &&& (4 : Int32)) = 4))) 4 0)), .int (zbo (((a ||| b) &&& (32 : Int32)) = 32))] [.int (zbo ((q = 0) ∨ (q = 2) ∨ (q = 1)))] S post
      refine zv_br ht rfl rfl rfl (fun b57 => ?_) (fun b57 => ?_)
      · replace b57 : (q = 0) ∨ (q = 2) ∨ (q = 1) := Classical.byContradiction (fun h => b57 ((zbo_eq0 : (zbo ((q = 0) ∨ (q = 2) ∨ (q = 1))) = 0 ↔ ¬ ((q = 0) ∨ (q = 2) ∨ (q = 1))).mpr h))
        refine zv_c1 ht rfl rfl (zv_c1 ht rfl rfl (zv_c1 ht rfl rfl (zv_c1 ht rfl rfl (zv_c1 ht rfl rfl (zv_c1 ht rfl rfl ?_)))))
        have C59 : ∀ (pst58 : Outcome × zS → Prop), (pst58 (.returned (some (.int (Int32.ofNat (znt ((((a &&& (2 : Int32)) = 2) ∧ ((b &&& (1 : Int32)) = 1)) ∨ (((a &&& (1 : Int32)) = 1) ∧ ((b &&& (2 : Int32)) = 2))) 2 0)))), S)) → zCall (d - 1) 145 [.int a, .int b] S pst58 := by
          intro pst58 k108
          have ht60 : ztab 145 = ztb145 := rfl
          show zEv (d - 1) 145 0 [.int a, .int b] [] S pst58
          refine zv_c1 ht60 rfl rfl (zv_c1 ht60 rfl rfl ?_)
          have C62 : ∀ (pst61 : Outcome × zS → Prop), (pst61 (.returned (some (.int (zbo ((a &&& (2 : Int32)) = 2)))), S)) → zCall ((d - 1) - 1) 139 [.int a, .int 2] S pst61 := by
            intro pst61 k67
            have ht63 : ztab 139 = ztb139 := rfl
            show zEv ((d - 1) - 1) 139 0 [.int a, .int 2] [] S pst61
            refine zv_c1 ht63 rfl rfl (zv_c1 ht63 rfl rfl ?_)
            refine zv_c1 (st' := [.int (a &&& (2 : Int32))]) (S' := S) ht63 rfl rfl ?_
            refine zv_c1 ht63 rfl rfl ?_
            have J65 : zEv ((d - 1) - 1) 139 12 [.retAddr 0, .retAddr 0] [.int (zbo ((a &&& (2 : Int32)) = 2))] S pst61 := by
              exact zv_rc ht63 rfl rfl rfl rfl zbo_rng k67
            refine zv_br ht63 rfl rfl rfl (fun b64 => ?_) (fun b64 => ?_)
            · refine zv_c1 ht63 rfl rfl ?_
              exact zEv.wk (L := [.retAddr 0, .retAddr 0]) (L' := [.int a, .int 2]) (And.intro (Or.inr rfl) (And.intro (Or.inr rfl) trivial)) (zv_sub (zz := zbo ((a &&& (2 : Int32)) = 2)) (zy := 0) (p := fun zz => zEv ((d - 1) - 1) 139 12 [.retAddr 0, .retAddr 0] [.int zz] S pst61) (zbo_neg b64) J65)
            · replace b64 : (a &&& (2 : Int32)) = 2 := Classical.not_not.mp b64
              refine zv_c1 ht63 rfl rfl (zv_c1 ht63 rfl rfl ?_)
              exact zEv.wk (L := [.retAddr 0, .retAddr 0]) (L' := [.int a, .int 2]) (And.intro (Or.inr rfl) (And.intro (Or.inr rfl) trivial)) (zv_sub (zz := zbo ((a &&& (2 : Int32)) = 2)) (zy := 1) (p := fun zz => zEv ((d - 1) - 1) 139 12 [.retAddr 0, .retAddr 0] [.int zz] S pst61) (zbo_pos b64) J65)
          refine zv_cl ht60 rfl rfl rfl rfl (by omega) (Nat.le_of_ble_eq_true rfl) (C62 _ ?_)
          show zEv (d - 1) 145 5 [.int a, .int b] [.int (zbo ((a &&& (2 : Int32)) = 2))] S pst58
          have J99 : zEv (d - 1) 145 37 [.retAddr 0, .retAddr 0] [.int (zbo ((((a &&& (2 : Int32)) = 2) ∧ ((b &&& (1 : Int32)) = 1)) ∨ (((a &&& (1 : Int32)) = 1) ∧ ((b &&& (2 : Int32)) = 2))))] S pst58 := by
            refine zv_c1 ht60 rfl rfl ?_
            have C102 : ∀ (pst101 : Outcome × zS → Prop), (pst101 (.returned (some (.int (Int32.ofNat (znt ((((a &&& (2 : Int32)) = 2) ∧ ((b &&& (1 : Int32)) = 1)) ∨ (((a &&& (1 : Int32)) = 1) ∧ ((b &&& (2 : Int32)) = 2))) 2 0)))), S)) → zCall ((d - 1) - 1) 140 [.int (zbo ((((a &&& (2 : Int32)) = 2) ∧ ((b &&& (1 : Int32)) = 1)) ∨ (((a &&& (1 : Int32)) = 1) ∧ ((b &&& (2 : Int32)) = 2)))), .int 2] S pst101 := by
              intro pst101 k107
              have ht103 : ztab 140 = ztb140 := rfl
              show zEv ((d - 1) - 1) 140 0 [.int (zbo ((((a &&& (2 : Int32)) = 2) ∧ ((b &&& (1 : Int32)) = 1)) ∨ (((a &&& (1 : Int32)) = 1) ∧ ((b &&& (2 : Int32)) = 2)))), .int 2] [] S pst101
              refine zv_c1 ht103 rfl rfl ?_
              have J105 : zEv ((d - 1) - 1) 140 9 [.retAddr 0, .retAddr 0] [.int (Int32.ofNat (znt ((((a &&& (2 : Int32)) = 2) ∧ ((b &&& (1 : Int32)) = 1)) ∨ (((a &&& (1 : Int32)) = 1) ∧ ((b &&& (2 : Int32)) = 2))) 2 0))] S pst101 := by
                exact zv_rt ht103 rfl rfl rfl rfl k107
              refine zv_br ht103 rfl rfl rfl (fun b104 => ?_) (fun b104 => ?_)
              · replace b104 : ¬ ((((a &&& (2 : Int32)) = 2) ∧ ((b &&& (1 : Int32)) = 1)) ∨ (((a &&& (1 : Int32)) = 1) ∧ ((b &&& (2 : Int32)) = 2))) := (zbo_eq0 : (zbo ((((a &&& (2 : Int32)) = 2) ∧ ((b &&& (1 : Int32)) = 1)) ∨ (((a &&& (1 : Int32)) = 1) ∧ ((b &&& (2 : Int32)) = 2)))) = 0 ↔ ¬ ((((a &&& (2 : Int32)) = 2) ∧ ((b &&& (1 : Int32)) = 1)) ∨ (((a &&& (1 : Int32)) = 1) ∧ ((b &&& (2 : Int32)) = 2)))).mp b104
                refine zv_c1 ht103 rfl rfl ?_
                exact zEv.wk (L := [.retAddr 0, .retAddr 0]) (L' := [.int (zbo ((((a &&& (2 : Int32)) = 2) ∧ ((b &&& (1 : Int32)) = 1)) ∨ (((a &&& (1 : Int32)) = 1) ∧ ((b &&& (2 : Int32)) = 2)))), .int 2]) (And.intro (Or.inr rfl) (And.intro (Or.inr rfl) trivial)) (zv_sub (zz := Int32.ofNat (znt ((((a &&& (2 : Int32)) = 2) ∧ ((b &&& (1 : Int32)) = 1)) ∨ (((a &&& (1 : Int32)) = 1) ∧ ((b &&& (2 : Int32)) = 2))) 2 0)) (zy := 0) (p := fun zz => zEv ((d - 1) - 1) 140 9 [.retAddr 0, .retAddr 0] [.int zz] S pst101) (congrArg Int32.ofNat (znt_neg b104)) J105)
              · replace b104 : (((a &&& (2 : Int32)) = 2) ∧ ((b &&& (1 : Int32)) = 1)) ∨ (((a &&& (1 : Int32)) = 1) ∧ ((b &&& (2 : Int32)) = 2)) := Classical.byContradiction (fun h => b104 ((zbo_eq0 : (zbo ((((a &&& (2 : Int32)) = 2) ∧ ((b &&& (1 : Int32)) = 1)) ∨ (((a &&& (1 : Int32)) = 1) ∧ ((b &&& (2 : Int32)) = 2)))) = 0 ↔ ¬ ((((a &&& (2 : Int32)) = 2) ∧ ((b &&& (1 : Int32)) = 1)) ∨ (((a &&& (1 : Int32)) = 1) ∧ ((b &&& (2 : Int32)) = 2)))).mpr h))
                refine zv_c1 ht103 rfl rfl (zv_c1 ht103 rfl rfl ?_)
                exact zEv.wk (L := [.retAddr 0, .retAddr 0]) (L' := [.int (zbo ((((a &&& (2 : Int32)) = 2) ∧ ((b &&& (1 : Int32)) = 1)) ∨ (((a &&& (1 : Int32)) = 1) ∧ ((b &&& (2 : Int32)) = 2)))), .int 2]) (And.intro (Or.inr rfl) (And.intro (Or.inr rfl) trivial)) (zv_sub (zz := Int32.ofNat (znt ((((a &&& (2 : Int32)) = 2) ∧ ((b &&& (1 : Int32)) = 1)) ∨ (((a &&& (1 : Int32)) = 1) ∧ ((b &&& (2 : Int32)) = 2))) 2 0)) (zy := 2) (p := fun zz => zEv ((d - 1) - 1) 140 9 [.retAddr 0, .retAddr 0] [.int zz] S pst101) (congrArg Int32.ofNat (znt_pos b104)) J105)
            refine zv_cl ht60 rfl rfl rfl rfl (by omega) (Nat.le_of_ble_eq_true rfl) (C102 _ ?_)
            show zEv (d - 1) 145 41 [.retAddr 0, .retAddr 0] [.int (Int32.ofNat (znt ((((a &&& (2 : Int32)) = 2) ∧ ((b &&& (1 : Int32)) = 1)) ∨ (((a &&& (1 : Int32)) = 1) ∧ ((b &&& (2 : Int32)) = 2))) 2 0))] S pst58
            exact zv_rt ht60 rfl rfl rfl rfl k108
          have J97 : ((((a &&& (2 : Int32)) = 2) ∧ ((b &&& (1 : Int32)) = 1)) ∨ (((a &&& (1 : Int32)) = 1) ∧ ((b &&& (2 : Int32)) = 2))) → zEv (d - 1) 145 32 [.retAddr 0, .retAddr 0] [] S pst58 := by
            intro b98
            refine zv_c1 ht60 rfl rfl (zv_c1 ht60 rfl rfl ?_)
            exact (zv_sub (zz := zbo ((((a &&& (2 : Int32)) = 2) ∧ ((b &&& (1 : Int32)) = 1)) ∨ (((a &&& (1 : Int32)) = 1) ∧ ((b &&& (2 : Int32)) = 2)))) (zy := 1) (p := fun zz => zEv (d - 1) 145 37 [.retAddr 0, .retAddr 0] [.int zz] S pst58) (zbo_pos b98) J99)
          have J77 : ((¬ ((a &&& (2 : Int32)) = 2)) ∨ (¬ ((b &&& (1 : Int32)) = 1))) → zEv (d - 1) 145 16 [.int a, .int b] [] S pst58 := by
            intro b78
            refine zv_c1 ht60 rfl rfl (zv_c1 ht60 rfl rfl ?_)
            have C80 : ∀ (pst79 : Outcome × zS → Prop), (pst79 (.returned (some (.int (zbo ((a &&& (1 : Int32)) = 1)))), S)) → zCall ((d - 1) - 1) 139 [.int a, .int 1] S pst79 := by
              intro pst79 k85
              have ht81 : ztab 139 = ztb139 := rfl
              show zEv ((d - 1) - 1) 139 0 [.int a, .int 1] [] S pst79
              refine zv_c1 ht81 rfl rfl (zv_c1 ht81 rfl rfl ?_)
              refine zv_c1 (st' := [.int (a &&& (1 : Int32))]) (S' := S) ht81 rfl rfl ?_
              refine zv_c1 ht81 rfl rfl ?_
              have J83 : zEv ((d - 1) - 1) 139 12 [.retAddr 0, .retAddr 0] [.int (zbo ((a &&& (1 : Int32)) = 1))] S pst79 := by
                exact zv_rc ht81 rfl rfl rfl rfl zbo_rng k85
              refine zv_br ht81 rfl rfl rfl (fun b82 => ?_) (fun b82 => ?_)
              · refine zv_c1 ht81 rfl rfl ?_
                exact zEv.wk (L := [.retAddr 0, .retAddr 0]) (L' := [.int a, .int 1]) (And.intro (Or.inr rfl) (And.intro (Or.inr rfl) trivial)) (zv_sub (zz := zbo ((a &&& (1 : Int32)) = 1)) (zy := 0) (p := fun zz => zEv ((d - 1) - 1) 139 12 [.retAddr 0, .retAddr 0] [.int zz] S pst79) (zbo_neg b82) J83)
              · replace b82 : (a &&& (1 : Int32)) = 1 := Classical.not_not.mp b82
                refine zv_c1 ht81 rfl rfl (zv_c1 ht81 rfl rfl ?_)
                exact zEv.wk (L := [.retAddr 0, .retAddr 0]) (L' := [.int a, .int 1]) (And.intro (Or.inr rfl) (And.intro (Or.inr rfl) trivial)) (zv_sub (zz := zbo ((a &&& (1 : Int32)) = 1)) (zy := 1) (p := fun zz => zEv ((d - 1) - 1) 139 12 [.retAddr 0, .retAddr 0] [.int zz] S pst79) (zbo_pos b82) J83)
            refine zv_cl ht60 rfl rfl rfl rfl (by omega) (Nat.le_of_ble_eq_true rfl) (C80 _ ?_)
            show zEv (d - 1) 145 21 [.int a, .int b] [.int (zbo ((a &&& (1 : Int32)) = 1))] S pst58
            have J95 : ((¬ ((a &&& (1 : Int32)) = 1)) ∨ (¬ ((b &&& (2 : Int32)) = 2))) → zEv (d - 1) 145 36 [.retAddr 0, .retAddr 0] [] S pst58 := by
              intro b96
              refine zv_c1 ht60 rfl rfl ?_
              exact (zv_sub (zz := zbo ((((a &&& (2 : Int32)) = 2) ∧ ((b &&& (1 : Int32)) = 1)) ∨ (((a &&& (1 : Int32)) = 1) ∧ ((b &&& (2 : Int32)) = 2)))) (zy := 0) (p := fun zz => zEv (d - 1) 145 37 [.retAddr 0, .retAddr 0] [.int zz] S pst58) (zbo_neg (b57.elim (fun y1 => (b78.elim (fun y2 => (b96.elim (fun y3 => (fun h => h.elim (fun h => y2 h.1) (fun h => y3 h.1))) (fun y3 => (fun h => h.elim (fun h => y2 h.1) (fun h => y3 h.2))))) (fun y2 => (b96.elim (fun y3 => (fun h => h.elim (fun h => y2 h.2) (fun h => y3 h.1))) (fun y3 => (fun h => h.elim (fun h => y2 h.2) (fun h => y3 h.2))))))) (fun y1 => (b78.elim (fun y2 => (b96.elim (fun y3 => (fun h => h.elim (fun h => y2 h.1) (fun h => y3 h.1))) (fun y3 => (fun h => h.elim (fun h => y2 h.1) (fun h => y3 h.2))))) (fun y2 => (b96.elim (fun y3 => (fun h => h.elim (fun h => y2 h.2) (fun h => y3 h.1))) (fun y3 => (fun h => h.elim (fun h => y2 h.2) (fun h => y3 h.2))))))))) J99)
            refine zv_br ht60 rfl rfl rfl (fun b86 => ?_) (fun b86 => ?_)
            · replace b86 : ¬ ((a &&& (1 : Int32)) = 1) := (zbo_eq0 : (zbo ((a &&& (1 : Int32)) = 1)) = 0 ↔ ¬ ((a &&& (1 : Int32)) = 1)).mp b86
              exact zEv.wk (L := [.retAddr 0, .retAddr 0]) (L' := [.int a, .int b]) (And.intro (Or.inr rfl) (And.intro (Or.inr rfl) trivial)) (J95 (Or.inl b86))
            · replace b86 : (a &&& (1 : Int32)) = 1 := Classical.byContradiction (fun h => b86 ((zbo_eq0 : (zbo ((a &&& (1 : Int32)) = 1)) = 0 ↔ ¬ ((a &&& (1 : Int32)) = 1)).mpr h))
              refine zv_c1 ht60 rfl rfl (zv_c1 ht60 rfl rfl ?_)
              have C88 : ∀ (pst87 : Outcome × zS → Prop), (pst87 (.returned (some (.int (zbo ((b &&& (2 : Int32)) = 2)))), S)) → zCall ((d - 1) - 1) 139 [.int b, .int 2] S pst87 := by
                intro pst87 k93
                have ht89 : ztab 139 = ztb139 := rfl
                show zEv ((d - 1) - 1) 139 0 [.int b, .int 2] [] S pst87
                refine zv_c1 ht89 rfl rfl (zv_c1 ht89 rfl rfl ?_)
                refine zv_c1 (st' := [.int (b &&& (2 : Int32))]) (S' := S) ht89 rfl rfl ?_
                refine zv_c1 ht89 rfl rfl ?_
                have J91 : zEv ((d - 1) - 1) 139 12 [.retAddr 0, .retAddr 0] [.int (zbo ((b &&& (2 : Int32)) = 2))] S pst87 := by
                  exact zv_rc ht89 rfl rfl rfl rfl zbo_rng k93
                refine zv_br ht89 rfl rfl rfl (fun b90 => ?_) (fun b90 => ?_)
                · refine zv_c1 ht89 rfl rfl ?_
                  exact zEv.wk (L := [.retAddr 0, .retAddr 0]) (L' := [.int b, .int 2]) (And.intro (Or.inr rfl) (And.intro (Or.inr rfl) trivial)) (zv_sub (zz := zbo ((b &&& (2 : Int32)) = 2)) (zy := 0) (p := fun zz => zEv ((d - 1) - 1) 139 12 [.retAddr 0, .retAddr 0] [.int zz] S pst87) (zbo_neg b90) J91)
                · replace b90 : (b &&& (2 : Int32)) = 2 := Classical.not_not.mp b90
                  refine zv_c1 ht89 rfl rfl (zv_c1 ht89 rfl rfl ?_)
                  exact zEv.wk (L := [.retAddr 0, .retAddr 0]) (L' := [.int b, .int 2]) (And.intro (Or.inr rfl) (And.intro (Or.inr rfl) trivial)) (zv_sub (zz := zbo ((b &&& (2 : Int32)) = 2)) (zy := 1) (p := fun zz => zEv ((d - 1) - 1) 139 12 [.retAddr 0, .retAddr 0] [.int zz] S pst87) (zbo_pos b90) J91)
              refine zv_cl ht60 rfl rfl rfl rfl (by omega) (Nat.le_of_ble_eq_true rfl) (C88 _ ?_)
              show zEv (d - 1) 145 29 [.int a, .int b] [.int (zbo ((b &&& (2 : Int32)) = 2))] S pst58
              refine zv_br ht60 rfl rfl rfl (fun b94 => ?_) (fun b94 => ?_)
              · replace b94 : ¬ ((b &&& (2 : Int32)) = 2) := (zbo_eq0 : (zbo ((b &&& (2 : Int32)) = 2)) = 0 ↔ ¬ ((b &&& (2 : Int32)) = 2)).mp b94
                exact zEv.wk (L := [.retAddr 0, .retAddr 0]) (L' := [.int a, .int b]) (And.intro (Or.inr rfl) (And.intro (Or.inr rfl) trivial)) (J95 (Or.inr b94))
              · replace b94 : (b &&& (2 : Int32)) = 2 := Classical.byContradiction (fun h => b94 ((zbo_eq0 : (zbo ((b &&& (2 : Int32)) = 2)) = 0 ↔ ¬ ((b &&& (2 : Int32)) = 2)).mpr h))
                exact zEv.wk (L := [.retAddr 0, .retAddr 0]) (L' := [.int a, .int b]) (And.intro (Or.inr rfl) (And.intro (Or.inr rfl) trivial)) (J97 (Or.inr ⟨b86, b94⟩))
          refine zv_br ht60 rfl rfl rfl (fun b68 => ?_) (fun b68 => ?_)
          · replace b68 : ¬ ((a &&& (2 : Int32)) = 2) := (zbo_eq0 : (zbo ((a &&& (2 : Int32)) = 2)) = 0 ↔ ¬ ((a &&& (2 : Int32)) = 2)).mp b68
            exact (J77 (Or.inl b68))
          · replace b68 : (a &&& (2 : Int32)) = 2 := Classical.byContradiction (fun h => b68 ((zbo_eq0 : (zbo ((a &&& (2 : Int32)) = 2)) = 0 ↔ ¬ ((a &&& (2 : Int32)) = 2)).mpr h))
            refine zv_c1 ht60 rfl rfl (zv_c1 ht60 rfl rfl ?_)
            have C70 : ∀ (pst69 : Outcome × zS → Prop), (pst69 (.returned (some (.int (zbo ((b &&& (1 : Int32)) = 1)))), S)) → zCall ((d - 1) - 1) 139 [.int b, .int 1] S pst69 := by
              intro pst69 k75
              have ht71 : ztab 139 = ztb139 := rfl
              show zEv ((d - 1) - 1) 139 0 [.int b, .int 1] [] S pst69
              refine zv_c1 ht71 rfl rfl (zv_c1 ht71 rfl rfl ?_)
              refine zv_c1 (st' := [.int (b &&& (1 : Int32))]) (S' := S) ht71 rfl rfl ?_
              refine zv_c1 ht71 rfl rfl ?_
              have J73 : zEv ((d - 1) - 1) 139 12 [.retAddr 0, .retAddr 0] [.int (zbo ((b &&& (1 : Int32)) = 1))] S pst69 := by
                exact zv_rc ht71 rfl rfl rfl rfl zbo_rng k75
              refine zv_br ht71 rfl rfl rfl (fun b72 => ?_) (fun b72 => ?_)
              · refine zv_c1 ht71 rfl rfl ?_
                exact zEv.wk (L := [.retAddr 0, .retAddr 0]) (L' := [.int b, .int 1]) (And.intro (Or.inr rfl) (And.intro (Or.inr rfl) trivial)) (zv_sub (zz := zbo ((b &&& (1 : Int32)) = 1)) (zy := 0) (p := fun zz => zEv ((d - 1) - 1) 139 12 [.retAddr 0, .retAddr 0] [.int zz] S pst69) (zbo_neg b72) J73)
              · replace b72 : (b &&& (1 : Int32)) = 1 := Classical.not_not.mp b72
                refine zv_c1 ht71 rfl rfl (zv_c1 ht71 rfl rfl ?_)
                exact zEv.wk (L := [.retAddr 0, .retAddr 0]) (L' := [.int b, .int 1]) (And.intro (Or.inr rfl) (And.intro (Or.inr rfl) trivial)) (zv_sub (zz := zbo ((b &&& (1 : Int32)) = 1)) (zy := 1) (p := fun zz => zEv ((d - 1) - 1) 139 12 [.retAddr 0, .retAddr 0] [.int zz] S pst69) (zbo_pos b72) J73)
            refine zv_cl ht60 rfl rfl rfl rfl (by omega) (Nat.le_of_ble_eq_true rfl) (C70 _ ?_)
            show zEv (d - 1) 145 13 [.int a, .int b] [.int (zbo ((b &&& (1 : Int32)) = 1))] S pst58
            refine zv_br ht60 rfl rfl rfl (fun b76 => ?_) (fun b76 => ?_)
            · replace b76 : (b &&& (1 : Int32)) = 1 := Classical.byContradiction (fun h => b76 ((zbo_eq0 : (zbo ((b &&& (1 : Int32)) = 1)) = 0 ↔ ¬ ((b &&& (1 : Int32)) = 1)).mpr h))
              exact zEv.wk (L := [.retAddr 0, .retAddr 0]) (L' := [.int a, .int b]) (And.intro (Or.inr rfl) (And.intro (Or.inr rfl) trivial)) (J97 (Or.inl ⟨b68, b76⟩))
            · replace b76 : ¬ ((b &&& (1 : Int32)) = 1) := (zbo_eq0 : (zbo ((b &&& (1 : Int32)) = 1)) = 0 ↔ ¬ ((b &&& (1 : Int32)) = 1)).mp (Classical.not_not.mp b76)
              exact (J77 (Or.inr b76))
        refine zv_cl ht rfl rfl rfl rfl (by omega) (Nat.le_of_ble_eq_true rfl) (C59 _ ?_)
        show zEv d 144 123 [.ref 1592, .int (Int32.ofNat n), .int 11, .int p, .int q, .int a, .int b, .int ((a &&& b) &&& (1 : Int32)), .int (Int32.ofNat (znt (((a &&& (4 : Int32)) = 4) ∨ (((a &&& (1 : Int32)) = 1) ∧ ((b &&& (4 : Int32)) = 4))) 4 0)), .int (zbo (((a ||| b) &&& (32 : Int32)) = 32))] [.int (Int32.ofNat (znt ((((a &&& (2 : Int32)) = 2) ∧ ((b &&& (1 : Int32)) = 1)) ∨ (((a &&& (1 : Int32)) = 1) ∧ ((b &&& (2 : Int32)) = 2))) 2 0)), .int ((a &&& b) &&& (1 : Int32)), .int q, .int (Int32.ofNat n), .ref 1592] S post
        refine zv_c1 (st' := [.int (((a &&& b) &&& (1 : Int32)) ||| (Int32.ofNat (znt ((((a &&& (2 : Int32)) = 2) ∧ ((b &&& (1 : Int32)) = 1)) ∨ (((a &&& (1 : Int32)) = 1) ∧ ((b &&& (2 : Int32)) = 2))) 2 0))), .int q, .int (Int32.ofNat n), .ref 1592]) (S' := S) ht rfl rfl ?_
        refine zv_c1 ht rfl rfl ?_
        refine zv_c1 (st' := [.int ((((a &&& b) &&& (1 : Int32)) ||| (Int32.ofNat (znt ((((a &&& (2 : Int32)) = 2) ∧ ((b &&& (1 : Int32)) = 1)) ∨ (((a &&& (1 : Int32)) = 1) ∧ ((b &&& (2 : Int32)) = 2))) 2 0))) ||| (Int32.ofNat (znt (((a &&& (4 : Int32)) = 4) ∨ (((a &&& (1 : Int32)) = 1) ∧ ((b &&& (4 : Int32)) = 4))) 4 0))), .int q, .int (Int32.ofNat n), .ref 1592]) (S' := S) ht rfl rfl ?_
        refine zv_c1 ht rfl rfl (zv_c1 ht rfl rfl ?_)
        refine zv_c1 (st' := [.int (b &&& (16 : Int32)), .int ((((a &&& b) &&& (1 : Int32)) ||| (Int32.ofNat (znt ((((a &&& (2 : Int32)) = 2) ∧ ((b &&& (1 : Int32)) = 1)) ∨ (((a &&& (1 : Int32)) = 1) ∧ ((b &&& (2 : Int32)) = 2))) 2 0))) ||| (Int32.ofNat (znt (((a &&& (4 : Int32)) = 4) ∨ (((a &&& (1 : Int32)) = 1) ∧ ((b &&& (4 : Int32)) = 4))) 4 0))), .int q, .int (Int32.ofNat n), .ref 1592]) (S' := S) ht rfl rfl ?_
        refine zv_c1 (st' := [.int (((((a &&& b) &&& (1 : Int32)) ||| (Int32.ofNat (znt ((((a &&& (2 : Int32)) = 2) ∧ ((b &&& (1 : Int32)) = 1)) ∨ (((a &&& (1 : Int32)) = 1) ∧ ((b &&& (2 : Int32)) = 2))) 2 0))) ||| (Int32.ofNat (znt (((a &&& (4 : Int32)) = 4) ∨ (((a &&& (1 : Int32)) = 1) ∧ ((b &&& (4 : Int32)) = 4))) 4 0))) ||| (b &&& (16 : Int32))), .int q, .int (Int32.ofNat n), .ref 1592]) (S' := S) ht rfl rfl ?_
        refine zv_c1 ht rfl rfl (zv_c1 ht rfl rfl ?_)
        refine zv_c1 (st' := [.int (a ||| b), .int (((((a &&& b) &&& (1 : Int32)) ||| (Int32.ofNat (znt ((((a &&& (2 : Int32)) = 2) ∧ ((b &&& (1 : Int32)) = 1)) ∨ (((a &&& (1 : Int32)) = 1) ∧ ((b &&& (2 : Int32)) = 2))) 2 0))) ||| (Int32.ofNat (znt (((a &&& (4 : Int32)) = 4) ∨ (((a &&& (1 : Int32)) = 1) ∧ ((b &&& (4 : Int32)) = 4))) 4 0))) ||| (b &&& (16 : Int32))), .int q, .int (Int32.ofNat n), .ref 1592]) (S' := S) ht rfl rfl ?_
        refine zv_c1 ht rfl rfl ?_
        refine zv_c1 (st' := [.int ((a ||| b) &&& (32 : Int32)), .int (((((a &&& b) &&& (1 : Int32)) ||| (Int32.ofNat (znt ((((a &&& (2 : Int32)) = 2) ∧ ((b &&& (1 : Int32)) = 1)) ∨ (((a &&& (1 : Int32)) = 1) ∧ ((b &&& (2 : Int32)) = 2))) 2 0))) ||| (Int32.ofNat (znt (((a &&& (4 : Int32)) = 4) ∨ (((a &&& (1 : Int32)) = 1) ∧ ((b &&& (4 : Int32)) = 4))) 4 0))) ||| (b &&& (16 : Int32))), .int q, .int (Int32.ofNat n), .ref 1592]) (S' := S) ht rfl rfl ?_
        refine zv_c1 (st' := [.int ((((((a &&& b) &&& (1 : Int32)) ||| (Int32.ofNat (znt ((((a &&& (2 : Int32)) = 2) ∧ ((b &&& (1 : Int32)) = 1)) ∨ (((a &&& (1 : Int32)) = 1) ∧ ((b &&& (2 : Int32)) = 2))) 2 0))) ||| (Int32.ofNat (znt (((a &&& (4 : Int32)) = 4) ∨ (((a &&& (1 : Int32)) = 1) ∧ ((b &&& (4 : Int32)) = 4))) 4 0))) ||| (b &&& (16 : Int32))) ||| ((a ||| b) &&& (32 : Int32))), .int q, .int (Int32.ofNat n), .ref 1592]) (S' := S) ht rfl rfl ?_
        refine zv_c1 ht rfl rfl (zv_c1 ht rfl rfl ?_)
        have C110 : ∀ (pst109 : Outcome × zS → Prop), (pst109 (.returned (some (.int (zbo ((a &&& (32 : Int32)) = 32)))), S)) → zCall (d - 1) 139 [.int a, .int 32] S pst109 := by
          intro pst109 k115
          have ht111 : ztab 139 = ztb139 := rfl
          show zEv (d - 1) 139 0 [.int a, .int 32] [] S pst109
          refine zv_c1 ht111 rfl rfl (zv_c1 ht111 rfl rfl ?_)
          refine zv_c1 (st' := [.int (a &&& (32 : Int32))]) (S' := S) ht111 rfl rfl ?_
          refine zv_c1 ht111 rfl rfl ?_
          have J113 : zEv (d - 1) 139 12 [.retAddr 0, .retAddr 0] [.int (zbo ((a &&& (32 : Int32)) = 32))] S pst109 := by
            exact zv_rc ht111 rfl rfl rfl rfl zbo_rng k115
          refine zv_br ht111 rfl rfl rfl (fun b112 => ?_) (fun b112 => ?_)
          · refine zv_c1 ht111 rfl rfl ?_
            exact zEv.wk (L := [.retAddr 0, .retAddr 0]) (L' := [.int a, .int 32]) (And.intro (Or.inr rfl) (And.intro (Or.inr rfl) trivial)) (zv_sub (zz := zbo ((a &&& (32 : Int32)) = 32)) (zy := 0) (p := fun zz => zEv (d - 1) 139 12 [.retAddr 0, .retAddr 0] [.int zz] S pst109) (zbo_neg b112) J113)
          · replace b112 : (a &&& (32 : Int32)) = 32 := Classical.not_not.mp b112
            refine zv_c1 ht111 rfl rfl (zv_c1 ht111 rfl rfl ?_)
            exact zEv.wk (L := [.retAddr 0, .retAddr 0]) (L' := [.int a, .int 32]) (And.intro (Or.inr rfl) (And.intro (Or.inr rfl) trivial)) (zv_sub (zz := zbo ((a &&& (32 : Int32)) = 32)) (zy := 1) (p := fun zz => zEv (d - 1) 139 12 [.retAddr 0, .retAddr 0] [.int zz] S pst109) (zbo_pos b112) J113)
        refine zv_cl ht rfl rfl rfl rfl (by omega) (Nat.le_of_ble_eq_true rfl) (C110 _ ?_)
        show zEv d 144 149 [.ref 1592, .int (Int32.ofNat n), .int 11, .int p, .int q, .int a, .int b, .int ((a &&& b) &&& (1 : Int32)), .int (Int32.ofNat (znt (((a &&& (4 : Int32)) = 4) ∨ (((a &&& (1 : Int32)) = 1) ∧ ((b &&& (4 : Int32)) = 4))) 4 0)), .int (zbo (((a ||| b) &&& (32 : Int32)) = 32))] [.int (zbo ((a &&& (32 : Int32)) = 32)), .int ((((((a &&& b) &&& (1 : Int32)) ||| (Int32.ofNat (znt ((((a &&& (2 : Int32)) = 2) ∧ ((b &&& (1 : Int32)) = 1)) ∨ (((a &&& (1 : Int32)) = 1) ∧ ((b &&& (2 : Int32)) = 2))) 2 0))) ||| (Int32.ofNat (znt (((a &&& (4 : Int32)) = 4) ∨ (((a &&& (1 : Int32)) = 1) ∧ ((b &&& (4 : Int32)) = 4))) 4 0))) ||| (b &&& (16 : Int32))) ||| ((a ||| b) &&& (32 : Int32))), .int q, .int (Int32.ofNat n), .ref 1592] S post
        have J127 : zEv d 144 167 [.retAddr 0, .retAddr 0, .retAddr 0, .retAddr 0, .retAddr 0, .int a, .int b, .retAddr 0, .retAddr 0, .retAddr 0] [.int (zbo (((a &&& (32 : Int32)) = 32) ∨ ((b &&& (64 : Int32)) = 64))), .int ((((((a &&& b) &&& (1 : Int32)) ||| (Int32.ofNat (znt ((((a &&& (2 : Int32)) = 2) ∧ ((b &&& (1 : Int32)) = 1)) ∨ (((a &&& (1 : Int32)) = 1) ∧ ((b &&& (2 : Int32)) = 2))) 2 0))) ||| (Int32.ofNat (znt (((a &&& (4 : Int32)) = 4) ∨ (((a &&& (1 : Int32)) = 1) ∧ ((b &&& (4 : Int32)) = 4))) 4 0))) ||| (b &&& (16 : Int32))) ||| ((a ||| b) &&& (32 : Int32))), .int q, .int (Int32.ofNat n), .ref 1592] S post := by
          refine zv_c1 ht rfl rfl ?_
          have C130 : ∀ (pst129 : Outcome × zS → Prop), (pst129 (.returned (some (.int (Int32.ofNat (znt (((a &&& (32 : Int32)) = 32) ∨ ((b &&& (64 : Int32)) = 64)) 64 0)))), S)) → zCall (d - 1) 140 [.int (zbo (((a &&& (32 : Int32)) = 32) ∨ ((b &&& (64 : Int32)) = 64))), .int 64] S pst129 := by
            intro pst129 k135
            have ht131 : ztab 140 = ztb140 := rfl
            show zEv (d - 1) 140 0 [.int (zbo (((a &&& (32 : Int32)) = 32) ∨ ((b &&& (64 : Int32)) = 64))), .int 64] [] S pst129
            refine zv_c1 ht131 rfl rfl ?_
            have J133 : zEv (d - 1) 140 9 [.retAddr 0, .retAddr 0] [.int (Int32.ofNat (znt (((a &&& (32 : Int32)) = 32) ∨ ((b &&& (64 : Int32)) = 64)) 64 0))] S pst129 := by
              exact zv_rt ht131 rfl rfl rfl rfl k135
            refine zv_br ht131 rfl rfl rfl (fun b132 => ?_) (fun b132 => ?_)
            · replace b132 : ¬ (((a &&& (32 : Int32)) = 32) ∨ ((b &&& (64 : Int32)) = 64)) := (zbo_eq0 : (zbo (((a &&& (32 : Int32)) = 32) ∨ ((b &&& (64 : Int32)) = 64))) = 0 ↔ ¬ (((a &&& (32 : Int32)) = 32) ∨ ((b &&& (64 : Int32)) = 64))).mp b132
              refine zv_c1 ht131 rfl rfl ?_
              exact zEv.wk (L := [.retAddr 0, .retAddr 0]) (L' := [.int (zbo (((a &&& (32 : Int32)) = 32) ∨ ((b &&& (64 : Int32)) = 64))), .int 64]) (And.intro (Or.inr rfl) (And.intro (Or.inr rfl) trivial)) (zv_sub (zz := Int32.ofNat (znt (((a &&& (32 : Int32)) = 32) ∨ ((b &&& (64 : Int32)) = 64)) 64 0)) (zy := 0) (p := fun zz => zEv (d - 1) 140 9 [.retAddr 0, .retAddr 0] [.int zz] S pst129) (congrArg Int32.ofNat (znt_neg b132)) J133)
            · replace b132 : ((a &&& (32 : Int32)) = 32) ∨ ((b &&& (64 : Int32)) = 64) := Classical.byContradiction (fun h => b132 ((zbo_eq0 : (zbo (((a &&& (32 : Int32)) = 32) ∨ ((b &&& (64 : Int32)) = 64))) = 0 ↔ ¬ (((a &&& (32 : Int32)) = 32) ∨ ((b &&& (64 : Int32)) = 64))).mpr h))
              refine zv_c1 ht131 rfl rfl (zv_c1 ht131 rfl rfl ?_)
              exact zEv.wk (L := [.retAddr 0, .retAddr 0]) (L' := [.int (zbo (((a &&& (32 : Int32)) = 32) ∨ ((b &&& (64 : Int32)) = 64))), .int 64]) (And.intro (Or.inr rfl) (And.intro (Or.inr rfl) trivial)) (zv_sub (zz := Int32.ofNat (znt (((a &&& (32 : Int32)) = 32) ∨ ((b &&& (64 : Int32)) = 64)) 64 0)) (zy := 64) (p := fun zz => zEv (d - 1) 140 9 [.retAddr 0, .retAddr 0] [.int zz] S pst129) (congrArg Int32.ofNat (znt_pos b132)) J133)
          refine zv_cl ht rfl rfl rfl rfl (by omega) (Nat.le_of_ble_eq_true rfl) (C130 _ ?_)
          show zEv d 144 172 [.retAddr 0, .retAddr 0, .retAddr 0, .retAddr 0, .retAddr 0, .int a, .int b, .retAddr 0, .retAddr 0, .retAddr 0] [.int (Int32.ofNat (znt (((a &&& (32 : Int32)) = 32) ∨ ((b &&& (64 : Int32)) = 64)) 64 0)), .int ((((((a &&& b) &&& (1 : Int32)) ||| (Int32.ofNat (znt ((((a &&& (2 : Int32)) = 2) ∧ ((b &&& (1 : Int32)) = 1)) ∨ (((a &&& (1 : Int32)) = 1) ∧ ((b &&& (2 : Int32)) = 2))) 2 0))) ||| (Int32.ofNat (znt (((a &&& (4 : Int32)) = 4) ∨ (((a &&& (1 : Int32)) = 1) ∧ ((b &&& (4 : Int32)) = 4))) 4 0))) ||| (b &&& (16 : Int32))) ||| ((a ||| b) &&& (32 : Int32))), .int q, .int (Int32.ofNat n), .ref 1592] S post
          refine zv_c1 (st' := [.int (((((((a &&& b) &&& (1 : Int32)) ||| (Int32.ofNat (znt ((((a &&& (2 : Int32)) = 2) ∧ ((b &&& (1 : Int32)) = 1)) ∨ (((a &&& (1 : Int32)) = 1) ∧ ((b &&& (2 : Int32)) = 2))) 2 0))) ||| (Int32.ofNat (znt (((a &&& (4 : Int32)) = 4) ∨ (((a &&& (1 : Int32)) = 1) ∧ ((b &&& (4 : Int32)) = 4))) 4 0))) ||| (b &&& (16 : Int32))) ||| ((a ||| b) &&& (32 : Int32))) ||| (Int32.ofNat (znt (((a &&& (32 : Int32)) = 32) ∨ ((b &&& (64 : Int32)) = 64)) 64 0))), .int q, .int (Int32.ofNat n), .ref 1592]) (S' := S) ht rfl rfl ?_
          refine zv_c1 ht rfl rfl (zv_c1 ht rfl rfl ?_)
          refine zv_c1 (st' := [.int (a &&& b), .int (((((((a &&& b) &&& (1 : Int32)) ||| (Int32.ofNat (znt ((((a &&& (2 : Int32)) = 2) ∧ ((b &&& (1 : Int32)) = 1)) ∨ (((a &&& (1 : Int32)) = 1) ∧ ((b &&& (2 : Int32)) = 2))) 2 0))) ||| (Int32.ofNat (znt (((a &&& (4 : Int32)) = 4) ∨ (((a &&& (1 : Int32)) = 1) ∧ ((b &&& (4 : Int32)) = 4))) 4 0))) ||| (b &&& (16 : Int32))) ||| ((a ||| b) &&& (32 : Int32))) ||| (Int32.ofNat (znt (((a &&& (32 : Int32)) = 32) ∨ ((b &&& (64 : Int32)) = 64)) 64 0))), .int q, .int (Int32.ofNat n), .ref 1592]) (S' := S) ht rfl rfl ?_
          refine zv_c1 ht rfl rfl ?_
          refine zv_c1 (st' := [.int ((a &&& b) &&& (256 : Int32)), .int (((((((a &&& b) &&& (1 : Int32)) ||| (Int32.ofNat (znt ((((a &&& (2 : Int32)) = 2) ∧ ((b &&& (1 : Int32)) = 1)) ∨ (((a &&& (1 : Int32)) = 1) ∧ ((b &&& (2 : Int32)) = 2))) 2 0))) ||| (Int32.ofNat (znt (((a &&& (4 : Int32)) = 4) ∨ (((a &&& (1 : Int32)) = 1) ∧ ((b &&& (4 : Int32)) = 4))) 4 0))) ||| (b &&& (16 : Int32))) ||| ((a ||| b) &&& (32 : Int32))) ||| (Int32.ofNat (znt (((a &&& (32 : Int32)) = 32) ∨ ((b &&& (64 : Int32)) = 64)) 64 0))), .int q, .int (Int32.ofNat n), .ref 1592]) (S' := S) ht rfl rfl ?_
          refine zv_c1 (st' := [.int ((((((((a &&& b) &&& (1 : Int32)) ||| (Int32.ofNat (znt ((((a &&& (2 : Int32)) = 2) ∧ ((b &&& (1 : Int32)) = 1)) ∨ (((a &&& (1 : Int32)) = 1) ∧ ((b &&& (2 : Int32)) = 2))) 2 0))) ||| (Int32.ofNat (znt (((a &&& (4 : Int32)) = 4) ∨ (((a &&& (1 : Int32)) = 1) ∧ ((b &&& (4 : Int32)) = 4))) 4 0))) ||| (b &&& (16 : Int32))) ||| ((a ||| b) &&& (32 : Int32))) ||| (Int32.ofNat (znt (((a &&& (32 : Int32)) = 32) ∨ ((b &&& (64 : Int32)) = 64)) 64 0))) ||| ((a &&& b) &&& (256 : Int32))), .int q, .int (Int32.ofNat n), .ref 1592]) (S' := S) ht rfl rfl ?_
          have C137 : ∀ (pst136 : Outcome × zS → Prop), (pst136 (.returned none, sA (sA S 1616 n q) 1617 n (pt11_e1 a b))) → zCall (d - 1) 137 [.ref 1592, .int (Int32.ofNat n), .int q, .int ((((((((a &&& b) &&& (1 : Int32)) ||| (Int32.ofNat (znt ((((a &&& (2 : Int32)) = 2) ∧ ((b &&& (1 : Int32)) = 1)) ∨ (((a &&& (1 : Int32)) = 1) ∧ ((b &&& (2 : Int32)) = 2))) 2 0))) ||| (Int32.ofNat (znt (((a &&& (4 : Int32)) = 4) ∨ (((a &&& (1 : Int32)) = 1) ∧ ((b &&& (4 : Int32)) = 4))) 4 0))) ||| (b &&& (16 : Int32))) ||| ((a ||| b) &&& (32 : Int32))) ||| (Int32.ofNat (znt (((a &&& (32 : Int32)) = 32) ∨ ((b &&& (64 : Int32)) = 64)) 64 0))) ||| ((a &&& b) &&& (256 : Int32)))] S pst136 := by
            intro pst136 k139
            have ht138 : ztab 137 = ztb137 := rfl
            show zEv (d - 1) 137 0 [.ref 1592, .int (Int32.ofNat n), .int q, .int ((((((((a &&& b) &&& (1 : Int32)) ||| (Int32.ofNat (znt ((((a &&& (2 : Int32)) = 2) ∧ ((b &&& (1 : Int32)) = 1)) ∨ (((a &&& (1 : Int32)) = 1) ∧ ((b &&& (2 : Int32)) = 2))) 2 0))) ||| (Int32.ofNat (znt (((a &&& (4 : Int32)) = 4) ∨ (((a &&& (1 : Int32)) = 1) ∧ ((b &&& (4 : Int32)) = 4))) 4 0))) ||| (b &&& (16 : Int32))) ||| ((a ||| b) &&& (32 : Int32))) ||| (Int32.ofNat (znt (((a &&& (32 : Int32)) = 32) ∨ ((b &&& (64 : Int32)) = 64)) 64 0))) ||| ((a &&& b) &&& (256 : Int32)))] [] S pst136
            refine zv_c1 ht138 rfl rfl ?_
            refine zv_gl (st' := [.ref 1616]) ht138 rfl hF rfl rfl rfl ?_
            refine zv_c1 ht138 rfl rfl (zv_c1 ht138 rfl rfl ?_)
            refine zv_is (j := n) (x := q) ht138 rfl rfl rfl rfl (zi_natE (a := n) rfl (by omega)) ⟨rfl, zi_inE (a := n) (n := 3000) rfl (by omega) (by omega)⟩ ?_
            refine zv_c1 ht138 rfl rfl ?_
            refine zv_gl (st' := [.ref 1617]) ht138 rfl hF rfl rfl rfl ?_
            refine zv_c1 ht138 rfl rfl (zv_c1 ht138 rfl rfl ?_)
            refine zv_is (j := n) (x := pt11_e1 a b) ht138 rfl rfl rfl rfl (zi_natE (a := n) rfl (by omega)) ⟨rfl, zi_inE (a := n) (n := 3000) rfl (by omega) (by omega)⟩ ?_
            exact zv_rt ht138 rfl rfl rfl rfl k139
          refine zv_cl ht rfl rfl rfl rfl (by omega) (Nat.le_of_ble_eq_true rfl) (C137 _ ?_)
          show zEv d 144 186 [.retAddr 0, .retAddr 0, .retAddr 0, .retAddr 0, .retAddr 0, .int a, .int b, .retAddr 0, .retAddr 0, .retAddr 0] [] (sA (sA S 1616 n q) 1617 n (pt11_e1 a b)) post
          exact zv_rt ht rfl rfl rfl rfl (h1 b45 b57)
        have J125 : (((a &&& (32 : Int32)) = 32) ∨ ((b &&& (64 : Int32)) = 64)) → zEv d 144 162 [.retAddr 0, .retAddr 0, .retAddr 0, .retAddr 0, .retAddr 0, .int a, .int b, .retAddr 0, .retAddr 0, .retAddr 0] [.int ((((((a &&& b) &&& (1 : Int32)) ||| (Int32.ofNat (znt ((((a &&& (2 : Int32)) = 2) ∧ ((b &&& (1 : Int32)) = 1)) ∨ (((a &&& (1 : Int32)) = 1) ∧ ((b &&& (2 : Int32)) = 2))) 2 0))) ||| (Int32.ofNat (znt (((a &&& (4 : Int32)) = 4) ∨ (((a &&& (1 : Int32)) = 1) ∧ ((b &&& (4 : Int32)) = 4))) 4 0))) ||| (b &&& (16 : Int32))) ||| ((a ||| b) &&& (32 : Int32))), .int q, .int (Int32.ofNat n), .ref 1592] S post := by
          intro b126
          refine zv_c1 ht rfl rfl (zv_c1 ht rfl rfl ?_)
          exact (zv_sub (zz := zbo (((a &&& (32 : Int32)) = 32) ∨ ((b &&& (64 : Int32)) = 64))) (zy := 1) (p := fun zz => zEv d 144 167 [.retAddr 0, .retAddr 0, .retAddr 0, .retAddr 0, .retAddr 0, .int a, .int b, .retAddr 0, .retAddr 0, .retAddr 0] [.int zz, .int ((((((a &&& b) &&& (1 : Int32)) ||| (Int32.ofNat (znt ((((a &&& (2 : Int32)) = 2) ∧ ((b &&& (1 : Int32)) = 1)) ∨ (((a &&& (1 : Int32)) = 1) ∧ ((b &&& (2 : Int32)) = 2))) 2 0))) ||| (Int32.ofNat (znt (((a &&& (4 : Int32)) = 4) ∨ (((a &&& (1 : Int32)) = 1) ∧ ((b &&& (4 : Int32)) = 4))) 4 0))) ||| (b &&& (16 : Int32))) ||| ((a ||| b) &&& (32 : Int32))), .int q, .int (Int32.ofNat n), .ref 1592] S post) (zbo_pos b126) J127)
        refine zv_br ht rfl rfl rfl (fun b116 => ?_) (fun b116 => ?_)
        · replace b116 : (a &&& (32 : Int32)) = 32 := Classical.byContradiction (fun h => b116 ((zbo_eq0 : (zbo ((a &&& (32 : Int32)) = 32)) = 0 ↔ ¬ ((a &&& (32 : Int32)) = 32)).mpr h))
          exact zEv.wk (L := [.retAddr 0, .retAddr 0, .retAddr 0, .retAddr 0, .retAddr 0, .int a, .int b, .retAddr 0, .retAddr 0, .retAddr 0]) (L' := [.ref 1592, .int (Int32.ofNat n), .int 11, .int p, .int q, .int a, .int b, .int ((a &&& b) &&& (1 : Int32)), .int (Int32.ofNat (znt (((a &&& (4 : Int32)) = 4) ∨ (((a &&& (1 : Int32)) = 1) ∧ ((b &&& (4 : Int32)) = 4))) 4 0)), .int (zbo (((a ||| b) &&& (32 : Int32)) = 32))]) (And.intro (Or.inr rfl) (And.intro (Or.inr rfl) (And.intro (Or.inr rfl) (And.intro (Or.inr rfl) (And.intro (Or.inr rfl) (And.intro (Or.inl rfl) (And.intro (Or.inl rfl) (And.intro (Or.inr rfl) (And.intro (Or.inr rfl) (And.intro (Or.inr rfl) trivial)))))))))) (J125 (Or.inl b116))
        · replace b116 : ¬ ((a &&& (32 : Int32)) = 32) := (zbo_eq0 : (zbo ((a &&& (32 : Int32)) = 32)) = 0 ↔ ¬ ((a &&& (32 : Int32)) = 32)).mp (Classical.not_not.mp b116)
          refine zv_c1 ht rfl rfl (zv_c1 ht rfl rfl ?_)
          have C118 : ∀ (pst117 : Outcome × zS → Prop), (pst117 (.returned (some (.int (zbo ((b &&& (64 : Int32)) = 64)))), S)) → zCall (d - 1) 139 [.int b, .int 64] S pst117 := by
            intro pst117 k123
            have ht119 : ztab 139 = ztb139 := rfl
            show zEv (d - 1) 139 0 [.int b, .int 64] [] S pst117
            refine zv_c1 ht119 rfl rfl (zv_c1 ht119 rfl rfl ?_)
            refine zv_c1 (st' := [.int (b &&& (64 : Int32))]) (S' := S) ht119 rfl rfl ?_
            refine zv_c1 ht119 rfl rfl ?_
            have J121 : zEv (d - 1) 139 12 [.retAddr 0, .retAddr 0] [.int (zbo ((b &&& (64 : Int32)) = 64))] S pst117 := by
              exact zv_rc ht119 rfl rfl rfl rfl zbo_rng k123
            refine zv_br ht119 rfl rfl rfl (fun b120 => ?_) (fun b120 => ?_)
            · refine zv_c1 ht119 rfl rfl ?_
              exact zEv.wk (L := [.retAddr 0, .retAddr 0]) (L' := [.int b, .int 64]) (And.intro (Or.inr rfl) (And.intro (Or.inr rfl) trivial)) (zv_sub (zz := zbo ((b &&& (64 : Int32)) = 64)) (zy := 0) (p := fun zz => zEv (d - 1) 139 12 [.retAddr 0, .retAddr 0] [.int zz] S pst117) (zbo_neg b120) J121)
            · replace b120 : (b &&& (64 : Int32)) = 64 := Classical.not_not.mp b120
              refine zv_c1 ht119 rfl rfl (zv_c1 ht119 rfl rfl ?_)
              exact zEv.wk (L := [.retAddr 0, .retAddr 0]) (L' := [.int b, .int 64]) (And.intro (Or.inr rfl) (And.intro (Or.inr rfl) trivial)) (zv_sub (zz := zbo ((b &&& (64 : Int32)) = 64)) (zy := 1) (p := fun zz => zEv (d - 1) 139 12 [.retAddr 0, .retAddr 0] [.int zz] S pst117) (zbo_pos b120) J121)
          refine zv_cl ht rfl rfl rfl rfl (by omega) (Nat.le_of_ble_eq_true rfl) (C118 _ ?_)
          show zEv d 144 159 [.ref 1592, .int (Int32.ofNat n), .int 11, .int p, .int q, .int a, .int b, .int ((a &&& b) &&& (1 : Int32)), .int (Int32.ofNat (znt (((a &&& (4 : Int32)) = 4) ∨ (((a &&& (1 : Int32)) = 1) ∧ ((b &&& (4 : Int32)) = 4))) 4 0)), .int (zbo (((a ||| b) &&& (32 : Int32)) = 32))] [.int (zbo ((b &&& (64 : Int32)) = 64)), .int ((((((a &&& b) &&& (1 : Int32)) ||| (Int32.ofNat (znt ((((a &&& (2 : Int32)) = 2) ∧ ((b &&& (1 : Int32)) = 1)) ∨ (((a &&& (1 : Int32)) = 1) ∧ ((b &&& (2 : Int32)) = 2))) 2 0))) ||| (Int32.ofNat (znt (((a &&& (4 : Int32)) = 4) ∨ (((a &&& (1 : Int32)) = 1) ∧ ((b &&& (4 : Int32)) = 4))) 4 0))) ||| (b &&& (16 : Int32))) ||| ((a ||| b) &&& (32 : Int32))), .int q, .int (Int32.ofNat n), .ref 1592] S post
          refine zv_br ht rfl rfl rfl (fun b124 => ?_) (fun b124 => ?_)
          · replace b124 : ¬ ((b &&& (64 : Int32)) = 64) := (zbo_eq0 : (zbo ((b &&& (64 : Int32)) = 64)) = 0 ↔ ¬ ((b &&& (64 : Int32)) = 64)).mp b124
            refine zv_c1 ht rfl rfl ?_
            exact zEv.wk (L := [.retAddr 0, .retAddr 0, .retAddr 0, .retAddr 0, .retAddr 0, .int a, .int b, .retAddr 0, .retAddr 0, .retAddr 0]) (L' := [.ref 1592, .int (Int32.ofNat n), .int 11, .int p, .int q, .int a, .int b, .int ((a &&& b) &&& (1 : Int32)), .int (Int32.ofNat (znt (((a &&& (4 : Int32)) = 4) ∨ (((a &&& (1 : Int32)) = 1) ∧ ((b &&& (4 : Int32)) = 4))) 4 0)), .int (zbo (((a ||| b) &&& (32 : Int32)) = 32))]) (And.intro (Or.inr rfl) (And.intro (Or.inr rfl) (And.intro (Or.inr rfl) (And.intro (Or.inr rfl) (And.intro (Or.inr rfl) (And.intro (Or.inl rfl) (And.intro (Or.inl rfl) (And.intro (Or.inr rfl) (And.intro (Or.inr rfl) (And.intro (Or.inr rfl) trivial)))))))))) (zv_sub (zz := zbo (((a &&& (32 : Int32)) = 32) ∨ ((b &&& (64 : Int32)) = 64))) (zy := 0) (p := fun zz => zEv d 144 167 [.retAddr 0, .retAddr 0, .retAddr 0, .retAddr 0, .retAddr 0, .int a, .int b, .retAddr 0, .retAddr 0, .retAddr 0] [.int zz, .int ((((((a &&& b) &&& (1 : Int32)) ||| (Int32.ofNat (znt ((((a &&& (2 : Int32)) = 2) ∧ ((b &&& (1 : Int32)) = 1)) ∨ (((a &&& (1 : Int32)) = 1) ∧ ((b &&& (2 : Int32)) = 2))) 2 0))) ||| (Int32.ofNat (znt (((a &&& (4 : Int32)) = 4) ∨ (((a &&& (1 : Int32)) = 1) ∧ ((b &&& (4 : Int32)) = 4))) 4 0))) ||| (b &&& (16 : Int32))) ||| ((a ||| b) &&& (32 : Int32))), .int q, .int (Int32.ofNat n), .ref 1592] S post) (zbo_neg (fun h => h.elim b116 b124)) J127)
          · replace b124 : (b &&& (64 : Int32)) = 64 := Classical.byContradiction (fun h => b124 ((zbo_eq0 : (zbo ((b &&& (64 : Int32)) = 64)) = 0 ↔ ¬ ((b &&& (64 : Int32)) = 64)).mpr h))
            exact zEv.wk (L := [.retAddr 0, .retAddr 0, .retAddr 0, .retAddr 0, .retAddr 0, .int a, .int b, .retAddr 0, .retAddr 0, .retAddr 0]) (L' := [.ref 1592, .int (Int32.ofNat n), .int 11, .int p, .int q, .int a, .int b, .int ((a &&& b) &&& (1 : Int32)), .int (Int32.ofNat (znt (((a &&& (4 : Int32)) = 4) ∨ (((a &&& (1 : Int32)) = 1) ∧ ((b &&& (4 : Int32)) = 4))) 4 0)), .int (zbo (((a ||| b) &&& (32 : Int32)) = 32))]) (And.intro (Or.inr rfl) (And.intro (Or.inr rfl) (And.intro (Or.inr rfl) (And.intro (Or.inr rfl) (And.intro (Or.inr rfl) (And.intro (Or.inl rfl) (And.intro (Or.inl rfl) (And.intro (Or.inr rfl) (And.intro (Or.inr rfl) (And.intro (Or.inr rfl) trivial)))))))))) (J125 (Or.inr b124))
      · replace b57 : ¬ ((q = 0) ∨ (q = 2) ∨ (q = 1)) := (zbo_eq0 : (zbo ((q = 0) ∨ (q = 2) ∨ (q = 1))) = 0 ↔ ¬ ((q = 0) ∨ (q = 2) ∨ (q = 1))).mp (Classical.not_not.mp b57)
        exact zEv.wk (L := [.retAddr 0, .retAddr 0, .retAddr 0, .retAddr 0, .retAddr 0, .retAddr 0, .retAddr 0, .retAddr 0, .retAddr 0, .retAddr 0]) (L' := [.ref 1592, .int (Int32.ofNat n), .int 11, .int p, .int q, .int a, .int b, .int ((a &&& b) &&& (1 : Int32)), .int (Int32.ofNat (znt (((a &&& (4 : Int32)) = 4) ∨ (((a &&& (1 : Int32)) = 1) ∧ ((b &&& (4 : Int32)) = 4))) 4 0)), .int (zbo (((a ||| b) &&& (32 : Int32)) = 32))]) (And.intro (Or.inr rfl) (And.intro (Or.inr rfl) (And.intro (Or.inr rfl) (And.intro (Or.inr rfl) (And.intro (Or.inr rfl) (And.intro (Or.inr rfl) (And.intro (Or.inr rfl) (And.intro (Or.inr rfl) (And.intro (Or.inr rfl) (And.intro (Or.inr rfl) trivial)))))))))) (J140 (Or.inr b57))
  have J27 : (((a &&& (4 : Int32)) = 4) ∨ (((a &&& (1 : Int32)) = 1) ∧ ((b &&& (4 : Int32)) = 4))) → zEv d 144 36 [.ref 1592, .int (Int32.ofNat n), .int 11, .int p, .int q, .int a, .int b, .int ((a &&& b) &&& (1 : Int32)), .retAddr 0, .retAddr 0] [] S post := by
    intro b28
    refine zv_c1 ht rfl rfl (zv_c1 ht rfl rfl ?_)
    exact (zv_sub (zz := zbo (((a &&& (4 : Int32)) = 4) ∨ (((a &&& (1 : Int32)) = 1) ∧ ((b &&& (4 : Int32)) = 4)))) (zy := 1) (p := fun zz => zEv d 144 41 [.ref 1592, .int (Int32.ofNat n), .int 11, .int p, .int q, .int a, .int b, .int ((a &&& b) &&& (1 : Int32)), .retAddr 0, .retAddr 0] [.int zz] S post) (zbo_pos b28) J29)
  refine zv_br ht rfl rfl rfl (fun b8 => ?_) (fun b8 => ?_)
  · replace b8 : (a &&& (4 : Int32)) = 4 := Classical.byContradiction (fun h => b8 ((zbo_eq0 : (zbo ((a &&& (4 : Int32)) = 4)) = 0 ↔ ¬ ((a &&& (4 : Int32)) = 4)).mpr h))
    exact (J27 (Or.inl b8))
  · replace b8 : ¬ ((a &&& (4 : Int32)) = 4) := (zbo_eq0 : (zbo ((a &&& (4 : Int32)) = 4)) = 0 ↔ ¬ ((a &&& (4 : Int32)) = 4)).mp (Classical.not_not.mp b8)
    refine zv_c1 ht rfl rfl (zv_c1 ht rfl rfl ?_)
    have C10 : ∀ (pst9 : Outcome × zS → Prop), (pst9 (.returned (some (.int (zbo ((a &&& (1 : Int32)) = 1)))), S)) → zCall (d - 1) 139 [.int a, .int 1] S pst9 := by
      intro pst9 k15
      have ht11 : ztab 139 = ztb139 := rfl
      show zEv (d - 1) 139 0 [.int a, .int 1] [] S pst9
      refine zv_c1 ht11 rfl rfl (zv_c1 ht11 rfl rfl ?_)
      refine zv_c1 (st' := [.int (a &&& (1 : Int32))]) (S' := S) ht11 rfl rfl ?_
      refine zv_c1 ht11 rfl rfl ?_
      have J13 : zEv (d - 1) 139 12 [.retAddr 0, .retAddr 0] [.int (zbo ((a &&& (1 : Int32)) = 1))] S pst9 := by
        exact zv_rc ht11 rfl rfl rfl rfl zbo_rng k15
      refine zv_br ht11 rfl rfl rfl (fun b12 => ?_) (fun b12 => ?_)
      · refine zv_c1 ht11 rfl rfl ?_
        exact zEv.wk (L := [.retAddr 0, .retAddr 0]) (L' := [.int a, .int 1]) (And.intro (Or.inr rfl) (And.intro (Or.inr rfl) trivial)) (zv_sub (zz := zbo ((a &&& (1 : Int32)) = 1)) (zy := 0) (p := fun zz => zEv (d - 1) 139 12 [.retAddr 0, .retAddr 0] [.int zz] S pst9) (zbo_neg b12) J13)
      · replace b12 : (a &&& (1 : Int32)) = 1 := Classical.not_not.mp b12
        refine zv_c1 ht11 rfl rfl (zv_c1 ht11 rfl rfl ?_)
        exact zEv.wk (L := [.retAddr 0, .retAddr 0]) (L' := [.int a, .int 1]) (And.intro (Or.inr rfl) (And.intro (Or.inr rfl) trivial)) (zv_sub (zz := zbo ((a &&& (1 : Int32)) = 1)) (zy := 1) (p := fun zz => zEv (d - 1) 139 12 [.retAddr 0, .retAddr 0] [.int zz] S pst9) (zbo_pos b12) J13)
    refine zv_cl ht rfl rfl rfl rfl (by omega) (Nat.le_of_ble_eq_true rfl) (C10 _ ?_)
    show zEv d 144 24 [.ref 1592, .int (Int32.ofNat n), .int 11, .int p, .int q, .int a, .int b, .int ((a &&& b) &&& (1 : Int32)), .retAddr 0, .retAddr 0] [.int (zbo ((a &&& (1 : Int32)) = 1))] S post
    have J25 : ((¬ ((a &&& (1 : Int32)) = 1)) ∨ (¬ ((b &&& (4 : Int32)) = 4))) → zEv d 144 40 [.ref 1592, .int (Int32.ofNat n), .int 11, .int p, .int q, .int a, .int b, .int ((a &&& b) &&& (1 : Int32)), .retAddr 0, .retAddr 0] [] S post := by
      intro b26
      refine zv_c1 ht rfl rfl ?_
      exact (zv_sub (zz := zbo (((a &&& (4 : Int32)) = 4) ∨ (((a &&& (1 : Int32)) = 1) ∧ ((b &&& (4 : Int32)) = 4)))) (zy := 0) (p := fun zz => zEv d 144 41 [.ref 1592, .int (Int32.ofNat n), .int 11, .int p, .int q, .int a, .int b, .int ((a &&& b) &&& (1 : Int32)), .retAddr 0, .retAddr 0] [.int zz] S post) (zbo_neg (b26.elim (fun y1 => (fun h => h.elim b8 (fun h => y1 h.1))) (fun y1 => (fun h => h.elim b8 (fun h => y1 h.2))))) J29)
    refine zv_br ht rfl rfl rfl (fun b16 => ?_) (fun b16 => ?_)
    · replace b16 : ¬ ((a &&& (1 : Int32)) = 1) := (zbo_eq0 : (zbo ((a &&& (1 : Int32)) = 1)) = 0 ↔ ¬ ((a &&& (1 : Int32)) = 1)).mp b16
      exact (J25 (Or.inl b16))
    · replace b16 : (a &&& (1 : Int32)) = 1 := Classical.byContradiction (fun h => b16 ((zbo_eq0 : (zbo ((a &&& (1 : Int32)) = 1)) = 0 ↔ ¬ ((a &&& (1 : Int32)) = 1)).mpr h))
      refine zv_c1 ht rfl rfl (zv_c1 ht rfl rfl ?_)
      have C18 : ∀ (pst17 : Outcome × zS → Prop), (pst17 (.returned (some (.int (zbo ((b &&& (4 : Int32)) = 4)))), S)) → zCall (d - 1) 139 [.int b, .int 4] S pst17 := by
        intro pst17 k23
        have ht19 : ztab 139 = ztb139 := rfl
        show zEv (d - 1) 139 0 [.int b, .int 4] [] S pst17
        refine zv_c1 ht19 rfl rfl (zv_c1 ht19 rfl rfl ?_)
        refine zv_c1 (st' := [.int (b &&& (4 : Int32))]) (S' := S) ht19 rfl rfl ?_
        refine zv_c1 ht19 rfl rfl ?_
        have J21 : zEv (d - 1) 139 12 [.retAddr 0, .retAddr 0] [.int (zbo ((b &&& (4 : Int32)) = 4))] S pst17 := by
          exact zv_rc ht19 rfl rfl rfl rfl zbo_rng k23
        refine zv_br ht19 rfl rfl rfl (fun b20 => ?_) (fun b20 => ?_)
        · refine zv_c1 ht19 rfl rfl ?_
          exact zEv.wk (L := [.retAddr 0, .retAddr 0]) (L' := [.int b, .int 4]) (And.intro (Or.inr rfl) (And.intro (Or.inr rfl) trivial)) (zv_sub (zz := zbo ((b &&& (4 : Int32)) = 4)) (zy := 0) (p := fun zz => zEv (d - 1) 139 12 [.retAddr 0, .retAddr 0] [.int zz] S pst17) (zbo_neg b20) J21)
        · replace b20 : (b &&& (4 : Int32)) = 4 := Classical.not_not.mp b20
          refine zv_c1 ht19 rfl rfl (zv_c1 ht19 rfl rfl ?_)
          exact zEv.wk (L := [.retAddr 0, .retAddr 0]) (L' := [.int b, .int 4]) (And.intro (Or.inr rfl) (And.intro (Or.inr rfl) trivial)) (zv_sub (zz := zbo ((b &&& (4 : Int32)) = 4)) (zy := 1) (p := fun zz => zEv (d - 1) 139 12 [.retAddr 0, .retAddr 0] [.int zz] S pst17) (zbo_pos b20) J21)
      refine zv_cl ht rfl rfl rfl rfl (by omega) (Nat.le_of_ble_eq_true rfl) (C18 _ ?_)
      show zEv d 144 33 [.ref 1592, .int (Int32.ofNat n), .int 11, .int p, .int q, .int a, .int b, .int ((a &&& b) &&& (1 : Int32)), .retAddr 0, .retAddr 0] [.int (zbo ((b &&& (4 : Int32)) = 4))] S post
      refine zv_br ht rfl rfl rfl (fun b24 => ?_) (fun b24 => ?_)
      · replace b24 : ¬ ((b &&& (4 : Int32)) = 4) := (zbo_eq0 : (zbo ((b &&& (4 : Int32)) = 4)) = 0 ↔ ¬ ((b &&& (4 : Int32)) = 4)).mp b24
        exact (J25 (Or.inr b24))
      · replace b24 : (b &&& (4 : Int32)) = 4 := Classical.byContradiction (fun h => b24 ((zbo_eq0 : (zbo ((b &&& (4 : Int32)) = 4)) = 0 ↔ ¬ ((b &&& (4 : Int32)) = 4)).mpr h))
        exact (J27 (Or.inr ⟨b16, b24⟩))
noncomputable def tyP11 (p q a b : Int32) : Option (Int32 × Int32) := zop ((p = 1) ∧ ((q = 0) ∨ (q = 2) ∨ (q = 1))) (q, pt11_e1 a b)
noncomputable def pt12_e1 (a : Int32) (b : Int32) : Int32 := (((((((((a &&& b) &&& (1 : Int32)) ||| (Int32.ofNat (znt ((((a &&& (2 : Int32)) = 2) ∧ ((b &&& (1 : Int32)) = 1)) ∨ (((a &&& (1 : Int32)) = 1) ∧ ((b &&& (2 : Int32)) = 2))) 2 0))) ||| (Int32.ofNat (znt (((a &&& (4 : Int32)) = 4) ∨ (((a &&& (1 : Int32)) = 1) ∧ ((b &&& (4 : Int32)) = 4))) 4 0))) ||| ((a &&& b) &&& (8 : Int32))) ||| (16 : Int32)) ||| ((a ||| b) &&& (32 : Int32))) ||| (Int32.ofNat (znt ((((a &&& b) &&& (64 : Int32)) = 64) ∨ ((a &&& (96 : Int32)) = 96) ∨ ((b &&& (96 : Int32)) = 96)) 64 0))) ||| (Int32.ofNat (znt (((a &&& b) &&& (160 : Int32)) = 160) 128 0))) ||| ((a &&& b) &&& (256 : Int32))
theorem pt12 {d : Nat} {S : zS} (hF : zFin true S) (hd : 2 ≤ d) (n : Nat) (p q a b : Int32)  (hn : n < 3000) {post : Outcome × zS → Prop} (h1 : (p = 0) → (q = 3) → post (.returned none, sA (sA S 1616 n 0) 1617 n (pt12_e1 a b))) (h2 : ((¬ (p = 0)) ∨ (¬ (q = 3))) → post (.returned none, S)) : zCall d 144 [.ref 1592, .int (Int32.ofNat n), .int 12, .int p, .int q, .int a, .int b] S post := by
  have ht : ztab 144 = ztb144 := rfl
  show zEv d 144 0 [.ref 1592, .int (Int32.ofNat n), .int 12, .int p, .int q, .int a, .int b, .retAddr 0, .retAddr 0, .retAddr 0] [] S post
  refine zv_c1 ht rfl rfl (zv_c1 ht rfl rfl ?_)
  refine zv_c1 (st' := [.int (a &&& b)]) (S' := S) ht rfl rfl ?_
  refine zv_c1 ht rfl rfl ?_
  refine zv_c1 (st' := [.int ((a &&& b) &&& (1 : Int32))]) (S' := S) ht rfl rfl ?_
  refine zv_c2 (L' := [.ref 1592, .int (Int32.ofNat n), .int 12, .int p, .int q, .int a, .int b, .int ((a &&& b) &&& (1 : Int32)), .retAddr 0, .retAddr 0]) ht rfl rfl ?_
  refine zv_c1 ht rfl rfl (zv_c1 ht rfl rfl ?_)
  have C2 : ∀ (pst1 : Outcome × zS → Prop), (pst1 (.returned (some (.int (zbo ((a &&& (4 : Int32)) = 4)))), S)) → zCall (d - 1) 139 [.int a, .int 4] S pst1 := by
    intro pst1 k7
    have ht3 : ztab 139 = ztb139 := rfl
    show zEv (d - 1) 139 0 [.int a, .int 4] [] S pst1
    refine zv_c1 ht3 rfl rfl (zv_c1 ht3 rfl rfl ?_)
    refine zv_c1 (st' := [.int (a &&& (4 : Int32))]) (S' := S) ht3 rfl rfl ?_
    refine zv_c1 ht3 rfl rfl ?_
    have J5 : zEv (d - 1) 139 12 [.retAddr 0, .retAddr 0] [.int (zbo ((a &&& (4 : Int32)) = 4))] S pst1 := by
      exact zv_rc ht3 rfl rfl rfl rfl zbo_rng k7
    refine zv_br ht3 rfl rfl rfl (fun b4 => ?_) (fun b4 => ?_)
    · refine zv_c1 ht3 rfl rfl ?_
      exact zEv.wk (L := [.retAddr 0, .retAddr 0]) (L' := [.int a, .int 4]) (And.intro (Or.inr rfl) (And.intro (Or.inr rfl) trivial)) (zv_sub (zz := zbo ((a &&& (4 : Int32)) = 4)) (zy := 0) (p := fun zz => zEv (d - 1) 139 12 [.retAddr 0, .retAddr 0] [.int zz] S pst1) (zbo_neg b4) J5)
    · replace b4 : (a &&& (4 : Int32)) = 4 := Classical.not_not.mp b4
      refine zv_c1 ht3 rfl rfl (zv_c1 ht3 rfl rfl ?_)
      exact zEv.wk (L := [.retAddr 0, .retAddr 0]) (L' := [.int a, .int 4]) (And.intro (Or.inr rfl) (And.intro (Or.inr rfl) trivial)) (zv_sub (zz := zbo ((a &&& (4 : Int32)) = 4)) (zy := 1) (p := fun zz => zEv (d - 1) 139 12 [.retAddr 0, .retAddr 0] [.int zz] S pst1) (zbo_pos b4) J5)
  refine zv_cl ht rfl rfl rfl rfl (by omega) (Nat.le_of_ble_eq_true rfl) (C2 _ ?_)
  show zEv d 144 15 [.ref 1592, .int (Int32.ofNat n), .int 12, .int p, .int q, .int a, .int b, .int ((a &&& b) &&& (1 : Int32)), .retAddr 0, .retAddr 0] [.int (zbo ((a &&& (4 : Int32)) = 4))] S post
  have J29 : zEv d 144 41 [.ref 1592, .int (Int32.ofNat n), .int 12, .int p, .int q, .int a, .int b, .int ((a &&& b) &&& (1 : Int32)), .retAddr 0, .retAddr 0] [.int (zbo (((a &&& (4 : Int32)) = 4) ∨ (((a &&& (1 : Int32)) = 1) ∧ ((b &&& (4 : Int32)) = 4))))] S post := by
    refine zv_c1 ht rfl rfl ?_
    have C32 : ∀ (pst31 : Outcome × zS → Prop), (pst31 (.returned (some (.int (Int32.ofNat (znt (((a &&& (4 : Int32)) = 4) ∨ (((a &&& (1 : Int32)) = 1) ∧ ((b &&& (4 : Int32)) = 4))) 4 0)))), S)) → zCall (d - 1) 140 [.int (zbo (((a &&& (4 : Int32)) = 4) ∨ (((a &&& (1 : Int32)) = 1) ∧ ((b &&& (4 : Int32)) = 4)))), .int 4] S pst31 := by
      intro pst31 k37
      have ht33 : ztab 140 = ztb140 := rfl
      show zEv (d - 1) 140 0 [.int (zbo (((a &&& (4 : Int32)) = 4) ∨ (((a &&& (1 : Int32)) = 1) ∧ ((b &&& (4 : Int32)) = 4)))), .int 4] [] S pst31
      refine zv_c1 ht33 rfl rfl ?_
      have J35 : zEv (d - 1) 140 9 [.retAddr 0, .retAddr 0] [.int (Int32.ofNat (znt (((a &&& (4 : Int32)) = 4) ∨ (((a &&& (1 : Int32)) = 1) ∧ ((b &&& (4 : Int32)) = 4))) 4 0))] S pst31 := by
        exact zv_rt ht33 rfl rfl rfl rfl k37
      refine zv_br ht33 rfl rfl rfl (fun b34 => ?_) (fun b34 => ?_)
      · replace b34 : ¬ (((a &&& (4 : Int32)) = 4) ∨ (((a &&& (1 : Int32)) = 1) ∧ ((b &&& (4 : Int32)) = 4))) := (zbo_eq0 : (zbo (((a &&& (4 : Int32)) = 4) ∨ (((a &&& (1 : Int32)) = 1) ∧ ((b &&& (4 : Int32)) = 4)))) = 0 ↔ ¬ (((a &&& (4 : Int32)) = 4) ∨ (((a &&& (1 : Int32)) = 1) ∧ ((b &&& (4 : Int32)) = 4)))).mp b34
        refine zv_c1 ht33 rfl rfl ?_
        exact zEv.wk (L := [.retAddr 0, .retAddr 0]) (L' := [.int (zbo (((a &&& (4 : Int32)) = 4) ∨ (((a &&& (1 : Int32)) = 1) ∧ ((b &&& (4 : Int32)) = 4)))), .int 4]) (And.intro (Or.inr rfl) (And.intro (Or.inr rfl) trivial)) (zv_sub (zz := Int32.ofNat (znt (((a &&& (4 : Int32)) = 4) ∨ (((a &&& (1 : Int32)) = 1) ∧ ((b &&& (4 : Int32)) = 4))) 4 0)) (zy := 0) (p := fun zz => zEv (d - 1) 140 9 [.retAddr 0, .retAddr 0] [.int zz] S pst31) (congrArg Int32.ofNat (znt_neg b34)) J35)
      · replace b34 : ((a &&& (4 : Int32)) = 4) ∨ (((a &&& (1 : Int32)) = 1) ∧ ((b &&& (4 : Int32)) = 4)) := Classical.byContradiction (fun h => b34 ((zbo_eq0 : (zbo (((a &&& (4 : Int32)) = 4) ∨ (((a &&& (1 : Int32)) = 1) ∧ ((b &&& (4 : Int32)) = 4)))) = 0 ↔ ¬ (((a &&& (4 : Int32)) = 4) ∨ (((a &&& (1 : Int32)) = 1) ∧ ((b &&& (4 : Int32)) = 4)))).mpr h))
        refine zv_c1 ht33 rfl rfl (zv_c1 ht33 rfl rfl ?_)
        exact zEv.wk (L := [.retAddr 0, .retAddr 0]) (L' := [.int (zbo (((a &&& (4 : Int32)) = 4) ∨ (((a &&& (1 : Int32)) = 1) ∧ ((b &&& (4 : Int32)) = 4)))), .int 4]) (And.intro (Or.inr rfl) (And.intro (Or.inr rfl) trivial)) (zv_sub (zz := Int32.ofNat (znt (((a &&& (4 : Int32)) = 4) ∨ (((a &&& (1 : Int32)) = 1) ∧ ((b &&& (4 : Int32)) = 4))) 4 0)) (zy := 4) (p := fun zz => zEv (d - 1) 140 9 [.retAddr 0, .retAddr 0] [.int zz] S pst31) (congrArg Int32.ofNat (znt_pos b34)) J35)
    refine zv_cl ht rfl rfl rfl rfl (by omega) (Nat.le_of_ble_eq_true rfl) (C32 _ ?_)
    show zEv d 144 45 [.ref 1592, .int (Int32.ofNat n), .int 12, .int p, .int q, .int a, .int b, .int ((a &&& b) &&& (1 : Int32)), .retAddr 0, .retAddr 0] [.int (Int32.ofNat (znt (((a &&& (4 : Int32)) = 4) ∨ (((a &&& (1 : Int32)) = 1) ∧ ((b &&& (4 : Int32)) = 4))) 4 0))] S post
    refine zv_c2 (L' := [.ref 1592, .int (Int32.ofNat n), .int 12, .int p, .int q, .int a, .int b, .int ((a &&& b) &&& (1 : Int32)), .int (Int32.ofNat (znt (((a &&& (4 : Int32)) = 4) ∨ (((a &&& (1 : Int32)) = 1) ∧ ((b &&& (4 : Int32)) = 4))) 4 0)), .retAddr 0]) ht rfl rfl ?_
    refine zv_c1 ht rfl rfl (zv_c1 ht rfl rfl ?_)
    refine zv_c1 (st' := [.int (a ||| b)]) (S' := S) ht rfl rfl ?_
    refine zv_c1 ht rfl rfl ?_
    have C39 : ∀ (pst38 : Outcome × zS → Prop), (pst38 (.returned (some (.int (zbo (((a ||| b) &&& (32 : Int32)) = 32)))), S)) → zCall (d - 1) 139 [.int (a ||| b), .int 32] S pst38 := by
      intro pst38 k44
      have ht40 : ztab 139 = ztb139 := rfl
      show zEv (d - 1) 139 0 [.int (a ||| b), .int 32] [] S pst38
      refine zv_c1 ht40 rfl rfl (zv_c1 ht40 rfl rfl ?_)
      refine zv_c1 (st' := [.int ((a ||| b) &&& (32 : Int32))]) (S' := S) ht40 rfl rfl ?_
      refine zv_c1 ht40 rfl rfl ?_
      have J42 : zEv (d - 1) 139 12 [.retAddr 0, .retAddr 0] [.int (zbo (((a ||| b) &&& (32 : Int32)) = 32))] S pst38 := by
        exact zv_rc ht40 rfl rfl rfl rfl zbo_rng k44
      refine zv_br ht40 rfl rfl rfl (fun b41 => ?_) (fun b41 => ?_)
      · refine zv_c1 ht40 rfl rfl ?_
        exact zEv.wk (L := [.retAddr 0, .retAddr 0]) (L' := [.int (a ||| b), .int 32]) (And.intro (Or.inr rfl) (And.intro (Or.inr rfl) trivial)) (zv_sub (zz := zbo (((a ||| b) &&& (32 : Int32)) = 32)) (zy := 0) (p := fun zz => zEv (d - 1) 139 12 [.retAddr 0, .retAddr 0] [.int zz] S pst38) (zbo_neg b41) J42)
      · replace b41 : ((a ||| b) &&& (32 : Int32)) = 32 := Classical.not_not.mp b41
        refine zv_c1 ht40 rfl rfl (zv_c1 ht40 rfl rfl ?_)
        exact zEv.wk (L := [.retAddr 0, .retAddr 0]) (L' := [.int (a ||| b), .int 32]) (And.intro (Or.inr rfl) (And.intro (Or.inr rfl) trivial)) (zv_sub (zz := zbo (((a ||| b) &&& (32 : Int32)) = 32)) (zy := 1) (p := fun zz => zEv (d - 1) 139 12 [.retAddr 0, .retAddr 0] [.int zz] S pst38) (zbo_pos b41) J42)
    refine zv_cl ht rfl rfl rfl rfl (by omega) (Nat.le_of_ble_eq_true rfl) (C39 _ ?_)
    show zEv d 144 57 [.ref 1592, .int (Int32.ofNat n), .int 12, .int p, .int q, .int a, .int b, .int ((a &&& b) &&& (1 : Int32)), .int (Int32.ofNat (znt (((a &&& (4 : Int32)) = 4) ∨ (((a &&& (1 : Int32)) = 1) ∧ ((b &&& (4 : Int32)) = 4))) 4 0)), .retAddr 0] [.int (zbo (((a ||| b) &&& (32 : Int32)) = 32))] S post
    refine zv_c2 (L' := [.ref 1592, .int (Int32.ofNat n), .int 12, .int p, .int q, .int a, .int b, .int ((a &&& b) &&& (1 : Int32)), .int (Int32.ofNat (znt (((a &&& (4 : Int32)) = 4) ∨ (((a &&& (1 : Int32)) = 1) ∧ ((b &&& (4 : Int32)) = 4))) 4 0)), .int (zbo (((a ||| b) &&& (32 : Int32)) = 32))]) ht rfl rfl ?_
    refine zv_c1 ht rfl rfl ?_
    refine zv_sw ht rfl rfl rfl rfl rfl ?_
    refine And.intro (fun h => absurd h (by decide)) (fun _ => ?_)
    refine And.intro (fun _ => ?_) (fun h => absurd (by decide) h)
    refine zv_c1 ht rfl rfl ?_
    have J151 : ((¬ (p = 0)) ∨ (¬ (q = 3))) → zEv d 144 197 [.retAddr 0, .retAddr 0, .retAddr 0, .retAddr 0, .retAddr 0, .retAddr 0, .retAddr 0, .retAddr 0, .retAddr 0, .retAddr 0] [] S post := by
      intro b152
      exact zv_rt ht rfl rfl rfl rfl (h2 b152)
    refine zv_br ht rfl rfl rfl (fun b45 => ?_) (fun b45 => ?_)
    · exact zEv.wk (L := [.retAddr 0, .retAddr 0, .retAddr 0, .retAddr 0, .retAddr 0, .retAddr 0, .retAddr 0, .retAddr 0, .retAddr 0, .retAddr 0]) (L' := [.ref 1592, .int (Int32.ofNat n), .int 12, .int p, .int q, .int a, .int b, .int ((a &&& b) &&& (1 : Int32)), .int (Int32.ofNat (znt (((a &&& (4 : Int32)) = 4) ∨ (((a &&& (1 : Int32)) = 1) ∧ ((b &&& (4 : Int32)) = 4))) 4 0)), .int (zbo (((a ||| b) &&& (32 : Int32)) = 32))]) (And.intro (Or.inr rfl) (And.intro (Or.inr rfl) (And.intro (Or.inr rfl) (And.intro (Or.inr rfl) (And.intro (Or.inr rfl) (And.intro (Or.inr rfl) (And.intro (Or.inr rfl) (And.intro (Or.inr rfl) (And.intro (Or.inr rfl) (And.intro (Or.inr rfl) trivial)))))))))) (J151 (Or.inl b45))
    · replace b45 : p = 0 := Classical.not_not.mp b45
      refine zv_c1 ht rfl rfl (zv_c1 ht rfl rfl ?_)
      refine zv_br ht rfl rfl rfl (fun b46 => ?_) (fun b46 => ?_)
      · refine zv_c1 ht rfl rfl (zv_c1 ht rfl rfl (zv_c1 ht rfl rfl (zv_c1 ht rfl rfl (zv_c1 ht rfl rfl (zv_c1 ht rfl rfl ?_)))))
        have C48 : ∀ (pst47 : Outcome × zS → Prop), (pst47 (.returned (some (.int (Int32.ofNat (znt ((((a &&& (2 : Int32)) = 2) ∧ ((b &&& (1 : Int32)) = 1)) ∨ (((a &&& (1 : Int32)) = 1) ∧ ((b &&& (2 : Int32)) = 2))) 2 0)))), S)) → zCall (d - 1) 145 [.int a, .int b] S pst47 := by
          intro pst47 k97
          have ht49 : ztab 145 = ztb145 := rfl
          show zEv (d - 1) 145 0 [.int a, .int b] [] S pst47
          refine zv_c1 ht49 rfl rfl (zv_c1 ht49 rfl rfl ?_)
          have C51 : ∀ (pst50 : Outcome × zS → Prop), (pst50 (.returned (some (.int (zbo ((a &&& (2 : Int32)) = 2)))), S)) → zCall ((d - 1) - 1) 139 [.int a, .int 2] S pst50 := by
            intro pst50 k56
            have ht52 : ztab 139 = ztb139 := rfl
            show zEv ((d - 1) - 1) 139 0 [.int a, .int 2] [] S pst50
            refine zv_c1 ht52 rfl rfl (zv_c1 ht52 rfl rfl ?_)
            refine zv_c1 (st' := [.int (a &&& (2 : Int32))]) (S' := S) ht52 rfl rfl ?_
            refine zv_c1 ht52 rfl rfl ?_
            have J54 : zEv ((d - 1) - 1) 139 12 [.retAddr 0, .retAddr 0] [.int (zbo ((a &&& (2 : Int32)) = 2))] S pst50 := by
              exact zv_rc ht52 rfl rfl rfl rfl zbo_rng k56
            refine zv_br ht52 rfl rfl rfl (fun b53 => ?_) (fun b53 => ?_)
            · refine zv_c1 ht52 rfl rfl ?_
              exact zEv.wk (L := [.retAddr 0, .retAddr 0]) (L' := [.int a, .int 2]) (And.intro (Or.inr rfl) (And.intro (Or.inr rfl) trivial)) (zv_sub (zz := zbo ((a &&& (2 : Int32)) = 2)) (zy := 0) (p := fun zz => zEv ((d - 1) - 1) 139 12 [.retAddr 0, .retAddr 0] [.int zz] S pst50) (zbo_neg b53) J54)
            · replace b53 : (a &&& (2 : Int32)) = 2 := Classical.not_not.mp b53
              refine zv_c1 ht52 rfl rfl (zv_c1 ht52 rfl rfl ?_)
              exact zEv.wk (L := [.retAddr 0, .retAddr 0]) (L' := [.int a, .int 2]) (And.intro (Or.inr rfl) (And.intro (Or.inr rfl) trivial)) (zv_sub (zz := zbo ((a &&& (2 : Int32)) = 2)) (zy := 1) (p := fun zz => zEv ((d - 1) - 1) 139 12 [.retAddr 0, .retAddr 0] [.int zz] S pst50) (zbo_pos b53) J54)
          refine zv_cl ht49 rfl rfl rfl rfl (by omega) (Nat.le_of_ble_eq_true rfl) (C51 _ ?_)
          show zEv (d - 1) 145 5 [.int a, .int b] [.int (zbo ((a &&& (2 : Int32)) = 2))] S pst47
          have J88 : zEv (d - 1) 145 37 [.retAddr 0, .retAddr 0] [.int (zbo ((((a &&& (2 : Int32)) = 2) ∧ ((b &&& (1 : Int32)) = 1)) ∨ (((a &&& (1 : Int32)) = 1) ∧ ((b &&& (2 : Int32)) = 2))))] S pst47 := by
            refine zv_c1 ht49 rfl rfl ?_
            have C91 : ∀ (pst90 : Outcome × zS → Prop), (pst90 (.returned (some (.int (Int32.ofNat (znt ((((a &&& (2 : Int32)) = 2) ∧ ((b &&& (1 : Int32)) = 1)) ∨ (((a &&& (1 : Int32)) = 1) ∧ ((b &&& (2 : Int32)) = 2))) 2 0)))), S)) → zCall ((d - 1) - 1) 140 [.int (zbo ((((a &&& (2 : Int32)) = 2) ∧ ((b &&& (1 : Int32)) = 1)) ∨ (((a &&& (1 : Int32)) = 1) ∧ ((b &&& (2 : Int32)) = 2)))), .int 2] S pst90 := by
              intro pst90 k96
              have ht92 : ztab 140 = ztb140 := rfl
              show zEv ((d - 1) - 1) 140 0 [.int (zbo ((((a &&& (2 : Int32)) = 2) ∧ ((b &&& (1 : Int32)) = 1)) ∨ (((a &&& (1 : Int32)) = 1) ∧ ((b &&& (2 : Int32)) = 2)))), .int 2] [] S pst90
              refine zv_c1 ht92 rfl rfl ?_
              have J94 : zEv ((d - 1) - 1) 140 9 [.retAddr 0, .retAddr 0] [.int (Int32.ofNat (znt ((((a &&& (2 : Int32)) = 2) ∧ ((b &&& (1 : Int32)) = 1)) ∨ (((a &&& (1 : Int32)) = 1) ∧ ((b &&& (2 : Int32)) = 2))) 2 0))] S pst90 := by
                exact zv_rt ht92 rfl rfl rfl rfl k96
              refine zv_br ht92 rfl rfl rfl (fun b93 => ?_) (fun b93 => ?_)
              · replace b93 : ¬ ((((a &&& (2 : Int32)) = 2) ∧ ((b &&& (1 : Int32)) = 1)) ∨ (((a &&& (1 : Int32)) = 1) ∧ ((b &&& (2 : Int32)) = 2))) := (zbo_eq0 : (zbo ((((a &&& (2 : Int32)) = 2) ∧ ((b &&& (1 : Int32)) = 1)) ∨ (((a &&& (1 : Int32)) = 1) ∧ ((b &&& (2 : Int32)) = 2)))) = 0 ↔ ¬ ((((a &&& (2 : Int32)) = 2) ∧ ((b &&& (1 : Int32)) = 1)) ∨ (((a &&& (1 : Int32)) = 1) ∧ ((b &&& (2 : Int32)) = 2)))).mp b93
                refine zv_c1 ht92 rfl rfl ?_
                exact zEv.wk (L := [.retAddr 0, .retAddr 0]) (L' := [.int (zbo ((((a &&& (2 : Int32)) = 2) ∧ ((b &&& (1 : Int32)) = 1)) ∨ (((a &&& (1 : Int32)) = 1) ∧ ((b &&& (2 : Int32)) = 2)))), .int 2]) (And.intro (Or.inr rfl) (And.intro (Or.inr rfl) trivial)) (zv_sub (zz := Int32.ofNat (znt ((((a &&& (2 : Int32)) = 2) ∧ ((b &&& (1 : Int32)) = 1)) ∨ (((a &&& (1 : Int32)) = 1) ∧ ((b &&& (2 : Int32)) = 2))) 2 0)) (zy := 0) (p := fun zz => zEv ((d - 1) - 1) 140 9 [.retAddr 0, .retAddr 0] [.int zz] S pst90) (congrArg Int32.ofNat (znt_neg b93)) J94)
              · replace b93 : (((a &&& (2 : Int32)) = 2) ∧ ((b &&& (1 : Int32)) = 1)) ∨ (((a &&& (1 : Int32)) = 1) ∧ ((b &&& (2 : Int32)) = 2)) := Classical.byContradiction (fun h => b93 ((zbo_eq0 : (zbo ((((a &&& (2 : Int32)) = 2) ∧ ((b &&& (1 : Int32)) = 1)) ∨ (((a &&& (1 : Int32)) = 1) ∧ ((b &&& (2 : Int32)) = 2)))) = 0 ↔ ¬ ((((a &&& (2 : Int32)) = 2) ∧ ((b &&& (1 : Int32)) = 1)) ∨ (((a &&& (1 : Int32)) = 1) ∧ ((b &&& (2 : Int32)) = 2)))).mpr h))
                refine zv_c1 ht92 rfl rfl (zv_c1 ht92 rfl rfl ?_)
                exact zEv.wk (L := [.retAddr 0, .retAddr 0]) (L' := [.int (zbo ((((a &&& (2 : Int32)) = 2) ∧ ((b &&& (1 : Int32)) = 1)) ∨ (((a &&& (1 : Int32)) = 1) ∧ ((b &&& (2 : Int32)) = 2)))), .int 2]) (And.intro (Or.inr rfl) (And.intro (Or.inr rfl) trivial)) (zv_sub (zz := Int32.ofNat (znt ((((a &&& (2 : Int32)) = 2) ∧ ((b &&& (1 : Int32)) = 1)) ∨ (((a &&& (1 : Int32)) = 1) ∧ ((b &&& (2 : Int32)) = 2))) 2 0)) (zy := 2) (p := fun zz => zEv ((d - 1) - 1) 140 9 [.retAddr 0, .retAddr 0] [.int zz] S pst90) (congrArg Int32.ofNat (znt_pos b93)) J94)
            refine zv_cl ht49 rfl rfl rfl rfl (by omega) (Nat.le_of_ble_eq_true rfl) (C91 _ ?_)
            show zEv (d - 1) 145 41 [.retAddr 0, .retAddr 0] [.int (Int32.ofNat (znt ((((a &&& (2 : Int32)) = 2) ∧ ((b &&& (1 : Int32)) = 1)) ∨ (((a &&& (1 : Int32)) = 1) ∧ ((b &&& (2 : Int32)) = 2))) 2 0))] S pst47
            exact zv_rt ht49 rfl rfl rfl rfl k97
          have J86 : ((((a &&& (2 : Int32)) = 2) ∧ ((b &&& (1 : Int32)) = 1)) ∨ (((a &&& (1 : Int32)) = 1) ∧ ((b &&& (2 : Int32)) = 2))) → zEv (d - 1) 145 32 [.retAddr 0, .retAddr 0] [] S pst47 := by
            intro b87
            refine zv_c1 ht49 rfl rfl (zv_c1 ht49 rfl rfl ?_)
            exact (zv_sub (zz := zbo ((((a &&& (2 : Int32)) = 2) ∧ ((b &&& (1 : Int32)) = 1)) ∨ (((a &&& (1 : Int32)) = 1) ∧ ((b &&& (2 : Int32)) = 2)))) (zy := 1) (p := fun zz => zEv (d - 1) 145 37 [.retAddr 0, .retAddr 0] [.int zz] S pst47) (zbo_pos b87) J88)
          have J66 : ((¬ ((a &&& (2 : Int32)) = 2)) ∨ (¬ ((b &&& (1 : Int32)) = 1))) → zEv (d - 1) 145 16 [.int a, .int b] [] S pst47 := by
            intro b67
            refine zv_c1 ht49 rfl rfl (zv_c1 ht49 rfl rfl ?_)
            have C69 : ∀ (pst68 : Outcome × zS → Prop), (pst68 (.returned (some (.int (zbo ((a &&& (1 : Int32)) = 1)))), S)) → zCall ((d - 1) - 1) 139 [.int a, .int 1] S pst68 := by
              intro pst68 k74
              have ht70 : ztab 139 = ztb139 := rfl
              show zEv ((d - 1) - 1) 139 0 [.int a, .int 1] [] S pst68
              refine zv_c1 ht70 rfl rfl (zv_c1 ht70 rfl rfl ?_)
              refine zv_c1 (st' := [.int (a &&& (1 : Int32))]) (S' := S) ht70 rfl rfl ?_
              refine zv_c1 ht70 rfl rfl ?_
              have J72 : zEv ((d - 1) - 1) 139 12 [.retAddr 0, .retAddr 0] [.int (zbo ((a &&& (1 : Int32)) = 1))] S pst68 := by
                exact zv_rc ht70 rfl rfl rfl rfl zbo_rng k74
              refine zv_br ht70 rfl rfl rfl (fun b71 => ?_) (fun b71 => ?_)
              · refine zv_c1 ht70 rfl rfl ?_
                exact zEv.wk (L := [.retAddr 0, .retAddr 0]) (L' := [.int a, .int 1]) (And.intro (Or.inr rfl) (And.intro (Or.inr rfl) trivial)) (zv_sub (zz := zbo ((a &&& (1 : Int32)) = 1)) (zy := 0) (p := fun zz => zEv ((d - 1) - 1) 139 12 [.retAddr 0, .retAddr 0] [.int zz] S pst68) (zbo_neg b71) J72)
              · replace b71 : (a &&& (1 : Int32)) = 1 := Classical.not_not.mp b71
                refine zv_c1 ht70 rfl rfl (zv_c1 ht70 rfl rfl ?_)
                exact zEv.wk (L := [.retAddr 0, .retAddr 0]) (L' := [.int a, .int 1]) (And.intro (Or.inr rfl) (And.intro (Or.inr rfl) trivial)) (zv_sub (zz := zbo ((a &&& (1 : Int32)) = 1)) (zy := 1) (p := fun zz => zEv ((d - 1) - 1) 139 12 [.retAddr 0, .retAddr 0] [.int zz] S pst68) (zbo_pos b71) J72)
            refine zv_cl ht49 rfl rfl rfl rfl (by omega) (Nat.le_of_ble_eq_true rfl) (C69 _ ?_)
            show zEv (d - 1) 145 21 [.int a, .int b] [.int (zbo ((a &&& (1 : Int32)) = 1))] S pst47
            have J84 : ((¬ ((a &&& (1 : Int32)) = 1)) ∨ (¬ ((b &&& (2 : Int32)) = 2))) → zEv (d - 1) 145 36 [.retAddr 0, .retAddr 0] [] S pst47 := by
              intro b85
              refine zv_c1 ht49 rfl rfl ?_
              exact (zv_sub (zz := zbo ((((a &&& (2 : Int32)) = 2) ∧ ((b &&& (1 : Int32)) = 1)) ∨ (((a &&& (1 : Int32)) = 1) ∧ ((b &&& (2 : Int32)) = 2)))) (zy := 0) (p := fun zz => zEv (d - 1) 145 37 [.retAddr 0, .retAddr 0] [.int zz] S pst47) (zbo_neg (b67.elim (fun y1 => (b85.elim (fun y2 => (fun h => h.elim (fun h => y1 h.1) (fun h => y2 h.1))) (fun y2 => (fun h => h.elim (fun h => y1 h.1) (fun h => y2 h.2))))) (fun y1 => (b85.elim (fun y2 => (fun h => h.elim (fun h => y1 h.2) (fun h => y2 h.1))) (fun y2 => (fun h => h.elim (fun h => y1 h.2) (fun h => y2 h.2))))))) J88)
            refine zv_br ht49 rfl rfl rfl (fun b75 => ?_) (fun b75 => ?_)
            · replace b75 : ¬ ((a &&& (1 : Int32)) = 1) := (zbo_eq0 : (zbo ((a &&& (1 : Int32)) = 1)) = 0 ↔ ¬ ((a &&& (1 : Int32)) = 1)).mp b75
              exact zEv.wk (L := [.retAddr 0, .retAddr 0]) (L' := [.int a, .int b]) (And.intro (Or.inr rfl) (And.intro (Or.inr rfl) trivial)) (J84 (Or.inl b75))
            · replace b75 : (a &&& (1 : Int32)) = 1 := Classical.byContradiction (fun h => b75 ((zbo_eq0 : (zbo ((a &&& (1 : Int32)) = 1)) = 0 ↔ ¬ ((a &&& (1 : Int32)) = 1)).mpr h))
              refine zv_c1 ht49 rfl rfl (zv_c1 ht49 rfl rfl ?_)
              have C77 : ∀ (pst76 : Outcome × zS → Prop), (pst76 (.returned (some (.int (zbo ((b &&& (2 : Int32)) = 2)))), S)) → zCall ((d - 1) - 1) 139 [.int b, .int 2] S pst76 := by
                intro pst76 k82
                have ht78 : ztab 139 = ztb139 := rfl
                show zEv ((d - 1) - 1) 139 0 [.int b, .int 2] [] S pst76
                refine zv_c1 ht78 rfl rfl (zv_c1 ht78 rfl rfl ?_)
                refine zv_c1 (st' := [.int (b &&& (2 : Int32))]) (S' := S) ht78 rfl rfl ?_
                refine zv_c1 ht78 rfl rfl ?_
                have J80 : zEv ((d - 1) - 1) 139 12 [.retAddr 0, .retAddr 0] [.int (zbo ((b &&& (2 : Int32)) = 2))] S pst76 := by
                  exact zv_rc ht78 rfl rfl rfl rfl zbo_rng k82
                refine zv_br ht78 rfl rfl rfl (fun b79 => ?_) (fun b79 => ?_)
                · refine zv_c1 ht78 rfl rfl ?_
                  exact zEv.wk (L := [.retAddr 0, .retAddr 0]) (L' := [.int b, .int 2]) (And.intro (Or.inr rfl) (And.intro (Or.inr rfl) trivial)) (zv_sub (zz := zbo ((b &&& (2 : Int32)) = 2)) (zy := 0) (p := fun zz => zEv ((d - 1) - 1) 139 12 [.retAddr 0, .retAddr 0] [.int zz] S pst76) (zbo_neg b79) J80)
                · replace b79 : (b &&& (2 : Int32)) = 2 := Classical.not_not.mp b79
                  refine zv_c1 ht78 rfl rfl (zv_c1 ht78 rfl rfl ?_)
                  exact zEv.wk (L := [.retAddr 0, .retAddr 0]) (L' := [.int b, .int 2]) (And.intro (Or.inr rfl) (And.intro (Or.inr rfl) trivial)) (zv_sub (zz := zbo ((b &&& (2 : Int32)) = 2)) (zy := 1) (p := fun zz => zEv ((d - 1) - 1) 139 12 [.retAddr 0, .retAddr 0] [.int zz] S pst76) (zbo_pos b79) J80)
              refine zv_cl ht49 rfl rfl rfl rfl (by omega) (Nat.le_of_ble_eq_true rfl) (C77 _ ?_)
              show zEv (d - 1) 145 29 [.int a, .int b] [.int (zbo ((b &&& (2 : Int32)) = 2))] S pst47
              refine zv_br ht49 rfl rfl rfl (fun b83 => ?_) (fun b83 => ?_)
              · replace b83 : ¬ ((b &&& (2 : Int32)) = 2) := (zbo_eq0 : (zbo ((b &&& (2 : Int32)) = 2)) = 0 ↔ ¬ ((b &&& (2 : Int32)) = 2)).mp b83
                exact zEv.wk (L := [.retAddr 0, .retAddr 0]) (L' := [.int a, .int b]) (And.intro (Or.inr rfl) (And.intro (Or.inr rfl) trivial)) (J84 (Or.inr b83))
              · replace b83 : (b &&& (2 : Int32)) = 2 := Classical.byContradiction (fun h => b83 ((zbo_eq0 : (zbo ((b &&& (2 : Int32)) = 2)) = 0 ↔ ¬ ((b &&& (2 : Int32)) = 2)).mpr h))
                exact zEv.wk (L := [.retAddr 0, .retAddr 0]) (L' := [.int a, .int b]) (And.intro (Or.inr rfl) (And.intro (Or.inr rfl) trivial)) (J86 (Or.inr ⟨b75, b83⟩))
          refine zv_br ht49 rfl rfl rfl (fun b57 => ?_) (fun b57 => ?_)
          · replace b57 : ¬ ((a &&& (2 : Int32)) = 2) := (zbo_eq0 : (zbo ((a &&& (2 : Int32)) = 2)) = 0 ↔ ¬ ((a &&& (2 : Int32)) = 2)).mp b57
            exact (J66 (Or.inl b57))
          · replace b57 : (a &&& (2 : Int32)) = 2 := Classical.byContradiction (fun h => b57 ((zbo_eq0 : (zbo ((a &&& (2 : Int32)) = 2)) = 0 ↔ ¬ ((a &&& (2 : Int32)) = 2)).mpr h))
            refine zv_c1 ht49 rfl rfl (zv_c1 ht49 rfl rfl ?_)
            have C59 : ∀ (pst58 : Outcome × zS → Prop), (pst58 (.returned (some (.int (zbo ((b &&& (1 : Int32)) = 1)))), S)) → zCall ((d - 1) - 1) 139 [.int b, .int 1] S pst58 := by
              intro pst58 k64
              have ht60 : ztab 139 = ztb139 := rfl
              show zEv ((d - 1) - 1) 139 0 [.int b, .int 1] [] S pst58
              refine zv_c1 ht60 rfl rfl (zv_c1 ht60 rfl rfl ?_)
              refine zv_c1 (st' := [.int (b &&& (1 : Int32))]) (S' := S) ht60 rfl rfl ?_
              refine zv_c1 ht60 rfl rfl ?_
              have J62 : zEv ((d - 1) - 1) 139 12 [.retAddr 0, .retAddr 0] [.int (zbo ((b &&& (1 : Int32)) = 1))] S pst58 := by
                exact zv_rc ht60 rfl rfl rfl rfl zbo_rng k64
              refine zv_br ht60 rfl rfl rfl (fun b61 => ?_) (fun b61 => ?_)
              · refine zv_c1 ht60 rfl rfl ?_
                exact zEv.wk (L := [.retAddr 0, .retAddr 0]) (L' := [.int b, .int 1]) (And.intro (Or.inr rfl) (And.intro (Or.inr rfl) trivial)) (zv_sub (zz := zbo ((b &&& (1 : Int32)) = 1)) (zy := 0) (p := fun zz => zEv ((d - 1) - 1) 139 12 [.retAddr 0, .retAddr 0] [.int zz] S pst58) (zbo_neg b61) J62)
              · replace b61 : (b &&& (1 : Int32)) = 1 := Classical.not_not.mp b61
                refine zv_c1 ht60 rfl rfl (zv_c1 ht60 rfl rfl ?_)
                exact zEv.wk (L := [.retAddr 0, .retAddr 0]) (L' := [.int b, .int 1]) (And.intro (Or.inr rfl) (And.intro (Or.inr rfl) trivial)) (zv_sub (zz := zbo ((b &&& (1 : Int32)) = 1)) (zy := 1) (p := fun zz => zEv ((d - 1) - 1) 139 12 [.retAddr 0, .retAddr 0] [.int zz] S pst58) (zbo_pos b61) J62)
            refine zv_cl ht49 rfl rfl rfl rfl (by omega) (Nat.le_of_ble_eq_true rfl) (C59 _ ?_)
            show zEv (d - 1) 145 13 [.int a, .int b] [.int (zbo ((b &&& (1 : Int32)) = 1))] S pst47
            refine zv_br ht49 rfl rfl rfl (fun b65 => ?_) (fun b65 => ?_)
            · replace b65 : (b &&& (1 : Int32)) = 1 := Classical.byContradiction (fun h => b65 ((zbo_eq0 : (zbo ((b &&& (1 : Int32)) = 1)) = 0 ↔ ¬ ((b &&& (1 : Int32)) = 1)).mpr h))
              exact zEv.wk (L := [.retAddr 0, .retAddr 0]) (L' := [.int a, .int b]) (And.intro (Or.inr rfl) (And.intro (Or.inr rfl) trivial)) (J86 (Or.inl ⟨b57, b65⟩))
            · replace b65 : ¬ ((b &&& (1 : Int32)) = 1) := (zbo_eq0 : (zbo ((b &&& (1 : Int32)) = 1)) = 0 ↔ ¬ ((b &&& (1 : Int32)) = 1)).mp (Classical.not_not.mp b65)
              exact (J66 (Or.inr b65))
        refine zv_cl ht rfl rfl rfl rfl (by omega) (Nat.le_of_ble_eq_true rfl) (C48 _ ?_)
        show zEv d 144 210 [.ref 1592, .int (Int32.ofNat n), .int 12, .int p, .int q, .int a, .int b, .int ((a &&& b) &&& (1 : Int32)), .int (Int32.ofNat (znt (((a &&& (4 : Int32)) = 4) ∨ (((a &&& (1 : Int32)) = 1) ∧ ((b &&& (4 : Int32)) = 4))) 4 0)), .int (zbo (((a ||| b) &&& (32 : Int32)) = 32))] [.int (Int32.ofNat (znt ((((a &&& (2 : Int32)) = 2) ∧ ((b &&& (1 : Int32)) = 1)) ∨ (((a &&& (1 : Int32)) = 1) ∧ ((b &&& (2 : Int32)) = 2))) 2 0)), .int ((a &&& b) &&& (1 : Int32)), .int 0, .int (Int32.ofNat n), .ref 1592] S post
        refine zv_c1 (st' := [.int (((a &&& b) &&& (1 : Int32)) ||| (Int32.ofNat (znt ((((a &&& (2 : Int32)) = 2) ∧ ((b &&& (1 : Int32)) = 1)) ∨ (((a &&& (1 : Int32)) = 1) ∧ ((b &&& (2 : Int32)) = 2))) 2 0))), .int 0, .int (Int32.ofNat n), .ref 1592]) (S' := S) ht rfl rfl ?_
        refine zv_c1 ht rfl rfl ?_
        refine zv_c1 (st' := [.int ((((a &&& b) &&& (1 : Int32)) ||| (Int32.ofNat (znt ((((a &&& (2 : Int32)) = 2) ∧ ((b &&& (1 : Int32)) = 1)) ∨ (((a &&& (1 : Int32)) = 1) ∧ ((b &&& (2 : Int32)) = 2))) 2 0))) ||| (Int32.ofNat (znt (((a &&& (4 : Int32)) = 4) ∨ (((a &&& (1 : Int32)) = 1) ∧ ((b &&& (4 : Int32)) = 4))) 4 0))), .int 0, .int (Int32.ofNat n), .ref 1592]) (S' := S) ht rfl rfl ?_
        refine zv_c1 ht rfl rfl (zv_c1 ht rfl rfl ?_)
        refine zv_c1 (st' := [.int (a &&& b), .int ((((a &&& b) &&& (1 : Int32)) ||| (Int32.ofNat (znt ((((a &&& (2 : Int32)) = 2) ∧ ((b &&& (1 : Int32)) = 1)) ∨ (((a &&& (1 : Int32)) = 1) ∧ ((b &&& (2 : Int32)) = 2))) 2 0))) ||| (Int32.ofNat (znt (((a &&& (4 : Int32)) = 4) ∨ (((a &&& (1 : Int32)) = 1) ∧ ((b &&& (4 : Int32)) = 4))) 4 0))), .int 0, .int (Int32.ofNat n), .ref 1592]) (S' := S) ht rfl rfl ?_
        refine zv_c1 ht rfl rfl ?_
        refine zv_c1 (st' := [.int ((a &&& b) &&& (8 : Int32)), .int ((((a &&& b) &&& (1 : Int32)) ||| (Int32.ofNat (znt ((((a &&& (2 : Int32)) = 2) ∧ ((b &&& (1 : Int32)) = 1)) ∨ (((a &&& (1 : Int32)) = 1) ∧ ((b &&& (2 : Int32)) = 2))) 2 0))) ||| (Int32.ofNat (znt (((a &&& (4 : Int32)) = 4) ∨ (((a &&& (1 : Int32)) = 1) ∧ ((b &&& (4 : Int32)) = 4))) 4 0))), .int 0, .int (Int32.ofNat n), .ref 1592]) (S' := S) ht rfl rfl ?_
        refine zv_c1 (st' := [.int (((((a &&& b) &&& (1 : Int32)) ||| (Int32.ofNat (znt ((((a &&& (2 : Int32)) = 2) ∧ ((b &&& (1 : Int32)) = 1)) ∨ (((a &&& (1 : Int32)) = 1) ∧ ((b &&& (2 : Int32)) = 2))) 2 0))) ||| (Int32.ofNat (znt (((a &&& (4 : Int32)) = 4) ∨ (((a &&& (1 : Int32)) = 1) ∧ ((b &&& (4 : Int32)) = 4))) 4 0))) ||| ((a &&& b) &&& (8 : Int32))), .int 0, .int (Int32.ofNat n), .ref 1592]) (S' := S) ht rfl rfl ?_
        refine zv_c1 ht rfl rfl ?_
        refine zv_c1 (st' := [.int ((((((a &&& b) &&& (1 : Int32)) ||| (Int32.ofNat (znt ((((a &&& (2 : Int32)) = 2) ∧ ((b &&& (1 : Int32)) = 1)) ∨ (((a &&& (1 : Int32)) = 1) ∧ ((b &&& (2 : Int32)) = 2))) 2 0))) ||| (Int32.ofNat (znt (((a &&& (4 : Int32)) = 4) ∨ (((a &&& (1 : Int32)) = 1) ∧ ((b &&& (4 : Int32)) = 4))) 4 0))) ||| ((a &&& b) &&& (8 : Int32))) ||| (16 : Int32)), .int 0, .int (Int32.ofNat n), .ref 1592]) (S' := S) ht rfl rfl ?_
        refine zv_c1 ht rfl rfl (zv_c1 ht rfl rfl ?_)
        refine zv_c1 (st' := [.int (a ||| b), .int ((((((a &&& b) &&& (1 : Int32)) ||| (Int32.ofNat (znt ((((a &&& (2 : Int32)) = 2) ∧ ((b &&& (1 : Int32)) = 1)) ∨ (((a &&& (1 : Int32)) = 1) ∧ ((b &&& (2 : Int32)) = 2))) 2 0))) ||| (Int32.ofNat (znt (((a &&& (4 : Int32)) = 4) ∨ (((a &&& (1 : Int32)) = 1) ∧ ((b &&& (4 : Int32)) = 4))) 4 0))) ||| ((a &&& b) &&& (8 : Int32))) ||| (16 : Int32)), .int 0, .int (Int32.ofNat n), .ref 1592]) (S' := S) ht rfl rfl ?_
        refine zv_c1 ht rfl rfl ?_
        refine zv_c1 (st' := [.int ((a ||| b) &&& (32 : Int32)), .int ((((((a &&& b) &&& (1 : Int32)) ||| (Int32.ofNat (znt ((((a &&& (2 : Int32)) = 2) ∧ ((b &&& (1 : Int32)) = 1)) ∨ (((a &&& (1 : Int32)) = 1) ∧ ((b &&& (2 : Int32)) = 2))) 2 0))) ||| (Int32.ofNat (znt (((a &&& (4 : Int32)) = 4) ∨ (((a &&& (1 : Int32)) = 1) ∧ ((b &&& (4 : Int32)) = 4))) 4 0))) ||| ((a &&& b) &&& (8 : Int32))) ||| (16 : Int32)), .int 0, .int (Int32.ofNat n), .ref 1592]) (S' := S) ht rfl rfl ?_
        refine zv_c1 (st' := [.int (((((((a &&& b) &&& (1 : Int32)) ||| (Int32.ofNat (znt ((((a &&& (2 : Int32)) = 2) ∧ ((b &&& (1 : Int32)) = 1)) ∨ (((a &&& (1 : Int32)) = 1) ∧ ((b &&& (2 : Int32)) = 2))) 2 0))) ||| (Int32.ofNat (znt (((a &&& (4 : Int32)) = 4) ∨ (((a &&& (1 : Int32)) = 1) ∧ ((b &&& (4 : Int32)) = 4))) 4 0))) ||| ((a &&& b) &&& (8 : Int32))) ||| (16 : Int32)) ||| ((a ||| b) &&& (32 : Int32))), .int 0, .int (Int32.ofNat n), .ref 1592]) (S' := S) ht rfl rfl ?_
        refine zv_c1 ht rfl rfl (zv_c1 ht rfl rfl ?_)
        refine zv_c1 (st' := [.int (a &&& b), .int (((((((a &&& b) &&& (1 : Int32)) ||| (Int32.ofNat (znt ((((a &&& (2 : Int32)) = 2) ∧ ((b &&& (1 : Int32)) = 1)) ∨ (((a &&& (1 : Int32)) = 1) ∧ ((b &&& (2 : Int32)) = 2))) 2 0))) ||| (Int32.ofNat (znt (((a &&& (4 : Int32)) = 4) ∨ (((a &&& (1 : Int32)) = 1) ∧ ((b &&& (4 : Int32)) = 4))) 4 0))) ||| ((a &&& b) &&& (8 : Int32))) ||| (16 : Int32)) ||| ((a ||| b) &&& (32 : Int32))), .int 0, .int (Int32.ofNat n), .ref 1592]) (S' := S) ht rfl rfl ?_
        refine zv_c1 ht rfl rfl ?_
        have C99 : ∀ (pst98 : Outcome × zS → Prop), (pst98 (.returned (some (.int (zbo (((a &&& b) &&& (64 : Int32)) = 64)))), S)) → zCall (d - 1) 139 [.int (a &&& b), .int 64] S pst98 := by
          intro pst98 k104
          have ht100 : ztab 139 = ztb139 := rfl
          show zEv (d - 1) 139 0 [.int (a &&& b), .int 64] [] S pst98
          refine zv_c1 ht100 rfl rfl (zv_c1 ht100 rfl rfl ?_)
          refine zv_c1 (st' := [.int ((a &&& b) &&& (64 : Int32))]) (S' := S) ht100 rfl rfl ?_
          refine zv_c1 ht100 rfl rfl ?_
          have J102 : zEv (d - 1) 139 12 [.retAddr 0, .retAddr 0] [.int (zbo (((a &&& b) &&& (64 : Int32)) = 64))] S pst98 := by
            exact zv_rc ht100 rfl rfl rfl rfl zbo_rng k104
          refine zv_br ht100 rfl rfl rfl (fun b101 => ?_) (fun b101 => ?_)
          · refine zv_c1 ht100 rfl rfl ?_
            exact zEv.wk (L := [.retAddr 0, .retAddr 0]) (L' := [.int (a &&& b), .int 64]) (And.intro (Or.inr rfl) (And.intro (Or.inr rfl) trivial)) (zv_sub (zz := zbo (((a &&& b) &&& (64 : Int32)) = 64)) (zy := 0) (p := fun zz => zEv (d - 1) 139 12 [.retAddr 0, .retAddr 0] [.int zz] S pst98) (zbo_neg b101) J102)
          · replace b101 : ((a &&& b) &&& (64 : Int32)) = 64 := Classical.not_not.mp b101
            refine zv_c1 ht100 rfl rfl (zv_c1 ht100 rfl rfl ?_)
            exact zEv.wk (L := [.retAddr 0, .retAddr 0]) (L' := [.int (a &&& b), .int 64]) (And.intro (Or.inr rfl) (And.intro (Or.inr rfl) trivial)) (zv_sub (zz := zbo (((a &&& b) &&& (64 : Int32)) = 64)) (zy := 1) (p := fun zz => zEv (d - 1) 139 12 [.retAddr 0, .retAddr 0] [.int zz] S pst98) (zbo_pos b101) J102)
        refine zv_cl ht rfl rfl rfl rfl (by omega) (Nat.le_of_ble_eq_true rfl) (C99 _ ?_)
        show zEv d 144 245 [.ref 1592, .int (Int32.ofNat n), .int 12, .int p, .int q, .int a, .int b, .int ((a &&& b) &&& (1 : Int32)), .int (Int32.ofNat (znt (((a &&& (4 : Int32)) = 4) ∨ (((a &&& (1 : Int32)) = 1) ∧ ((b &&& (4 : Int32)) = 4))) 4 0)), .int (zbo (((a ||| b) &&& (32 : Int32)) = 32))] [.int (zbo (((a &&& b) &&& (64 : Int32)) = 64)), .int (((((((a &&& b) &&& (1 : Int32)) ||| (Int32.ofNat (znt ((((a &&& (2 : Int32)) = 2) ∧ ((b &&& (1 : Int32)) = 1)) ∨ (((a &&& (1 : Int32)) = 1) ∧ ((b &&& (2 : Int32)) = 2))) 2 0))) ||| (Int32.ofNat (znt (((a &&& (4 : Int32)) = 4) ∨ (((a &&& (1 : Int32)) = 1) ∧ ((b &&& (4 : Int32)) = 4))) 4 0))) ||| ((a &&& b) &&& (8 : Int32))) ||| (16 : Int32)) ||| ((a ||| b) &&& (32 : Int32))), .int 0, .int (Int32.ofNat n), .ref 1592] S post
        have J124 : zEv d 144 273 [.retAddr 0, .retAddr 0, .retAddr 0, .retAddr 0, .retAddr 0, .int a, .int b, .retAddr 0, .retAddr 0, .retAddr 0] [.int (zbo ((((a &&& b) &&& (64 : Int32)) = 64) ∨ ((a &&& (96 : Int32)) = 96) ∨ ((b &&& (96 : Int32)) = 96))), .int (((((((a &&& b) &&& (1 : Int32)) ||| (Int32.ofNat (znt ((((a &&& (2 : Int32)) = 2) ∧ ((b &&& (1 : Int32)) = 1)) ∨ (((a &&& (1 : Int32)) = 1) ∧ ((b &&& (2 : Int32)) = 2))) 2 0))) ||| (Int32.ofNat (znt (((a &&& (4 : Int32)) = 4) ∨ (((a &&& (1 : Int32)) = 1) ∧ ((b &&& (4 : Int32)) = 4))) 4 0))) ||| ((a &&& b) &&& (8 : Int32))) ||| (16 : Int32)) ||| ((a ||| b) &&& (32 : Int32))), .int 0, .int (Int32.ofNat n), .ref 1592] S post := by
          refine zv_c1 ht rfl rfl ?_
          have C127 : ∀ (pst126 : Outcome × zS → Prop), (pst126 (.returned (some (.int (Int32.ofNat (znt ((((a &&& b) &&& (64 : Int32)) = 64) ∨ ((a &&& (96 : Int32)) = 96) ∨ ((b &&& (96 : Int32)) = 96)) 64 0)))), S)) → zCall (d - 1) 140 [.int (zbo ((((a &&& b) &&& (64 : Int32)) = 64) ∨ ((a &&& (96 : Int32)) = 96) ∨ ((b &&& (96 : Int32)) = 96))), .int 64] S pst126 := by
            intro pst126 k132
            have ht128 : ztab 140 = ztb140 := rfl
            show zEv (d - 1) 140 0 [.int (zbo ((((a &&& b) &&& (64 : Int32)) = 64) ∨ ((a &&& (96 : Int32)) = 96) ∨ ((b &&& (96 : Int32)) = 96))), .int 64] [] S pst126
            refine zv_c1 ht128 rfl rfl ?_
            have J130 : zEv (d - 1) 140 9 [.retAddr 0, .retAddr 0] [.int (Int32.ofNat (znt ((((a &&& b) &&& (64 : Int32)) = 64) ∨ ((a &&& (96 : Int32)) = 96) ∨ ((b &&& (96 : Int32)) = 96)) 64 0))] S pst126 := by
              exact zv_rt ht128 rfl rfl rfl rfl k132
            refine zv_br ht128 rfl rfl rfl (fun b129 => ?_) (fun b129 => ?_)
            · replace b129 : ¬ ((((a &&& b) &&& (64 : Int32)) = 64) ∨ ((a &&& (96 : Int32)) = 96) ∨ ((b &&& (96 : Int32)) = 96)) := (zbo_eq0 : (zbo ((((a &&& b) &&& (64 : Int32)) = 64) ∨ ((a &&& (96 : Int32)) = 96) ∨ ((b &&& (96 : Int32)) = 96))) = 0 ↔ ¬ ((((a &&& b) &&& (64 : Int32)) = 64) ∨ ((a &&& (96 : Int32)) = 96) ∨ ((b &&& (96 : Int32)) = 96))).mp b129
              refine zv_c1 ht128 rfl rfl ?_
              exact zEv.wk (L := [.retAddr 0, .retAddr 0]) (L' := [.int (zbo ((((a &&& b) &&& (64 : Int32)) = 64) ∨ ((a &&& (96 : Int32)) = 96) ∨ ((b &&& (96 : Int32)) = 96))), .int 64]) (And.intro (Or.inr rfl) (And.intro (Or.inr rfl) trivial)) (zv_sub (zz := Int32.ofNat (znt ((((a &&& b) &&& (64 : Int32)) = 64) ∨ ((a &&& (96 : Int32)) = 96) ∨ ((b &&& (96 : Int32)) = 96)) 64 0)) (zy := 0) (p := fun zz => zEv (d - 1) 140 9 [.retAddr 0, .retAddr 0] [.int zz] S pst126) (congrArg Int32.ofNat (znt_neg b129)) J130)
            · replace b129 : (((a &&& b) &&& (64 : Int32)) = 64) ∨ ((a &&& (96 : Int32)) = 96) ∨ ((b &&& (96 : Int32)) = 96) := Classical.byContradiction (fun h => b129 ((zbo_eq0 : (zbo ((((a &&& b) &&& (64 : Int32)) = 64) ∨ ((a &&& (96 : Int32)) = 96) ∨ ((b &&& (96 : Int32)) = 96))) = 0 ↔ ¬ ((((a &&& b) &&& (64 : Int32)) = 64) ∨ ((a &&& (96 : Int32)) = 96) ∨ ((b &&& (96 : Int32)) = 96))).mpr h))
              refine zv_c1 ht128 rfl rfl (zv_c1 ht128 rfl rfl ?_)
              exact zEv.wk (L := [.retAddr 0, .retAddr 0]) (L' := [.int (zbo ((((a &&& b) &&& (64 : Int32)) = 64) ∨ ((a &&& (96 : Int32)) = 96) ∨ ((b &&& (96 : Int32)) = 96))), .int 64]) (And.intro (Or.inr rfl) (And.intro (Or.inr rfl) trivial)) (zv_sub (zz := Int32.ofNat (znt ((((a &&& b) &&& (64 : Int32)) = 64) ∨ ((a &&& (96 : Int32)) = 96) ∨ ((b &&& (96 : Int32)) = 96)) 64 0)) (zy := 64) (p := fun zz => zEv (d - 1) 140 9 [.retAddr 0, .retAddr 0] [.int zz] S pst126) (congrArg Int32.ofNat (znt_pos b129)) J130)
          refine zv_cl ht rfl rfl rfl rfl (by omega) (Nat.le_of_ble_eq_true rfl) (C127 _ ?_)
          show zEv d 144 278 [.retAddr 0, .retAddr 0, .retAddr 0, .retAddr 0, .retAddr 0, .int a, .int b, .retAddr 0, .retAddr 0, .retAddr 0] [.int (Int32.ofNat (znt ((((a &&& b) &&& (64 : Int32)) = 64) ∨ ((a &&& (96 : Int32)) = 96) ∨ ((b &&& (96 : Int32)) = 96)) 64 0)), .int (((((((a &&& b) &&& (1 : Int32)) ||| (Int32.ofNat (znt ((((a &&& (2 : Int32)) = 2) ∧ ((b &&& (1 : Int32)) = 1)) ∨ (((a &&& (1 : Int32)) = 1) ∧ ((b &&& (2 : Int32)) = 2))) 2 0))) ||| (Int32.ofNat (znt (((a &&& (4 : Int32)) = 4) ∨ (((a &&& (1 : Int32)) = 1) ∧ ((b &&& (4 : Int32)) = 4))) 4 0))) ||| ((a &&& b) &&& (8 : Int32))) ||| (16 : Int32)) ||| ((a ||| b) &&& (32 : Int32))), .int 0, .int (Int32.ofNat n), .ref 1592] S post
          refine zv_c1 (st' := [.int ((((((((a &&& b) &&& (1 : Int32)) ||| (Int32.ofNat (znt ((((a &&& (2 : Int32)) = 2) ∧ ((b &&& (1 : Int32)) = 1)) ∨ (((a &&& (1 : Int32)) = 1) ∧ ((b &&& (2 : Int32)) = 2))) 2 0))) ||| (Int32.ofNat (znt (((a &&& (4 : Int32)) = 4) ∨ (((a &&& (1 : Int32)) = 1) ∧ ((b &&& (4 : Int32)) = 4))) 4 0))) ||| ((a &&& b) &&& (8 : Int32))) ||| (16 : Int32)) ||| ((a ||| b) &&& (32 : Int32))) ||| (Int32.ofNat (znt ((((a &&& b) &&& (64 : Int32)) = 64) ∨ ((a &&& (96 : Int32)) = 96) ∨ ((b &&& (96 : Int32)) = 96)) 64 0))), .int 0, .int (Int32.ofNat n), .ref 1592]) (S' := S) ht rfl rfl ?_
          refine zv_c1 ht rfl rfl (zv_c1 ht rfl rfl ?_)
          refine zv_c1 (st' := [.int (a &&& b), .int ((((((((a &&& b) &&& (1 : Int32)) ||| (Int32.ofNat (znt ((((a &&& (2 : Int32)) = 2) ∧ ((b &&& (1 : Int32)) = 1)) ∨ (((a &&& (1 : Int32)) = 1) ∧ ((b &&& (2 : Int32)) = 2))) 2 0))) ||| (Int32.ofNat (znt (((a &&& (4 : Int32)) = 4) ∨ (((a &&& (1 : Int32)) = 1) ∧ ((b &&& (4 : Int32)) = 4))) 4 0))) ||| ((a &&& b) &&& (8 : Int32))) ||| (16 : Int32)) ||| ((a ||| b) &&& (32 : Int32))) ||| (Int32.ofNat (znt ((((a &&& b) &&& (64 : Int32)) = 64) ∨ ((a &&& (96 : Int32)) = 96) ∨ ((b &&& (96 : Int32)) = 96)) 64 0))), .int 0, .int (Int32.ofNat n), .ref 1592]) (S' := S) ht rfl rfl ?_
          refine zv_c1 ht rfl rfl ?_
          have C134 : ∀ (pst133 : Outcome × zS → Prop), (pst133 (.returned (some (.int (zbo (((a &&& b) &&& (160 : Int32)) = 160)))), S)) → zCall (d - 1) 139 [.int (a &&& b), .int 160] S pst133 := by
            intro pst133 k139
            have ht135 : ztab 139 = ztb139 := rfl
            show zEv (d - 1) 139 0 [.int (a &&& b), .int 160] [] S pst133
            refine zv_c1 ht135 rfl rfl (zv_c1 ht135 rfl rfl ?_)
            refine zv_c1 (st' := [.int ((a &&& b) &&& (160 : Int32))]) (S' := S) ht135 rfl rfl ?_
            refine zv_c1 ht135 rfl rfl ?_
            have J137 : zEv (d - 1) 139 12 [.retAddr 0, .retAddr 0] [.int (zbo (((a &&& b) &&& (160 : Int32)) = 160))] S pst133 := by
              exact zv_rc ht135 rfl rfl rfl rfl zbo_rng k139
            refine zv_br ht135 rfl rfl rfl (fun b136 => ?_) (fun b136 => ?_)
            · refine zv_c1 ht135 rfl rfl ?_
              exact zEv.wk (L := [.retAddr 0, .retAddr 0]) (L' := [.int (a &&& b), .int 160]) (And.intro (Or.inr rfl) (And.intro (Or.inr rfl) trivial)) (zv_sub (zz := zbo (((a &&& b) &&& (160 : Int32)) = 160)) (zy := 0) (p := fun zz => zEv (d - 1) 139 12 [.retAddr 0, .retAddr 0] [.int zz] S pst133) (zbo_neg b136) J137)
            · replace b136 : ((a &&& b) &&& (160 : Int32)) = 160 := Classical.not_not.mp b136
              refine zv_c1 ht135 rfl rfl (zv_c1 ht135 rfl rfl ?_)
              exact zEv.wk (L := [.retAddr 0, .retAddr 0]) (L' := [.int (a &&& b), .int 160]) (And.intro (Or.inr rfl) (And.intro (Or.inr rfl) trivial)) (zv_sub (zz := zbo (((a &&& b) &&& (160 : Int32)) = 160)) (zy := 1) (p := fun zz => zEv (d - 1) 139 12 [.retAddr 0, .retAddr 0] [.int zz] S pst133) (zbo_pos b136) J137)
          refine zv_cl ht rfl rfl rfl rfl (by omega) (Nat.le_of_ble_eq_true rfl) (C134 _ ?_)
          show zEv d 144 290 [.retAddr 0, .retAddr 0, .retAddr 0, .retAddr 0, .retAddr 0, .int a, .int b, .retAddr 0, .retAddr 0, .retAddr 0] [.int (zbo (((a &&& b) &&& (160 : Int32)) = 160)), .int ((((((((a &&& b) &&& (1 : Int32)) ||| (Int32.ofNat (znt ((((a &&& (2 : Int32)) = 2) ∧ ((b &&& (1 : Int32)) = 1)) ∨ (((a &&& (1 : Int32)) = 1) ∧ ((b &&& (2 : Int32)) = 2))) 2 0))) ||| (Int32.ofNat (znt (((a &&& (4 : Int32)) = 4) ∨ (((a &&& (1 : Int32)) = 1) ∧ ((b &&& (4 : Int32)) = 4))) 4 0))) ||| ((a &&& b) &&& (8 : Int32))) ||| (16 : Int32)) ||| ((a ||| b) &&& (32 : Int32))) ||| (Int32.ofNat (znt ((((a &&& b) &&& (64 : Int32)) = 64) ∨ ((a &&& (96 : Int32)) = 96) ∨ ((b &&& (96 : Int32)) = 96)) 64 0))), .int 0, .int (Int32.ofNat n), .ref 1592] S post
          refine zv_c1 ht rfl rfl ?_
          have C141 : ∀ (pst140 : Outcome × zS → Prop), (pst140 (.returned (some (.int (Int32.ofNat (znt (((a &&& b) &&& (160 : Int32)) = 160) 128 0)))), S)) → zCall (d - 1) 140 [.int (zbo (((a &&& b) &&& (160 : Int32)) = 160)), .int 128] S pst140 := by
            intro pst140 k146
            have ht142 : ztab 140 = ztb140 := rfl
            show zEv (d - 1) 140 0 [.int (zbo (((a &&& b) &&& (160 : Int32)) = 160)), .int 128] [] S pst140
            refine zv_c1 ht142 rfl rfl ?_
            have J144 : zEv (d - 1) 140 9 [.retAddr 0, .retAddr 0] [.int (Int32.ofNat (znt (((a &&& b) &&& (160 : Int32)) = 160) 128 0))] S pst140 := by
              exact zv_rt ht142 rfl rfl rfl rfl k146
            refine zv_br ht142 rfl rfl rfl (fun b143 => ?_) (fun b143 => ?_)
            · replace b143 : ¬ (((a &&& b) &&& (160 : Int32)) = 160) := (zbo_eq0 : (zbo (((a &&& b) &&& (160 : Int32)) = 160)) = 0 ↔ ¬ (((a &&& b) &&& (160 : Int32)) = 160)).mp b143
              refine zv_c1 ht142 rfl rfl ?_
              exact zEv.wk (L := [.retAddr 0, .retAddr 0]) (L' := [.int (zbo (((a &&& b) &&& (160 : Int32)) = 160)), .int 128]) (And.intro (Or.inr rfl) (And.intro (Or.inr rfl) trivial)) (zv_sub (zz := Int32.ofNat (znt (((a &&& b) &&& (160 : Int32)) = 160) 128 0)) (zy := 0) (p := fun zz => zEv (d - 1) 140 9 [.retAddr 0, .retAddr 0] [.int zz] S pst140) (congrArg Int32.ofNat (znt_neg b143)) J144)
            · replace b143 : ((a &&& b) &&& (160 : Int32)) = 160 := Classical.byContradiction (fun h => b143 ((zbo_eq0 : (zbo (((a &&& b) &&& (160 : Int32)) = 160)) = 0 ↔ ¬ (((a &&& b) &&& (160 : Int32)) = 160)).mpr h))
              refine zv_c1 ht142 rfl rfl (zv_c1 ht142 rfl rfl ?_)
              exact zEv.wk (L := [.retAddr 0, .retAddr 0]) (L' := [.int (zbo (((a &&& b) &&& (160 : Int32)) = 160)), .int 128]) (And.intro (Or.inr rfl) (And.intro (Or.inr rfl) trivial)) (zv_sub (zz := Int32.ofNat (znt (((a &&& b) &&& (160 : Int32)) = 160) 128 0)) (zy := 128) (p := fun zz => zEv (d - 1) 140 9 [.retAddr 0, .retAddr 0] [.int zz] S pst140) (congrArg Int32.ofNat (znt_pos b143)) J144)
          refine zv_cl ht rfl rfl rfl rfl (by omega) (Nat.le_of_ble_eq_true rfl) (C141 _ ?_)
          show zEv d 144 296 [.retAddr 0, .retAddr 0, .retAddr 0, .retAddr 0, .retAddr 0, .int a, .int b, .retAddr 0, .retAddr 0, .retAddr 0] [.int (Int32.ofNat (znt (((a &&& b) &&& (160 : Int32)) = 160) 128 0)), .int ((((((((a &&& b) &&& (1 : Int32)) ||| (Int32.ofNat (znt ((((a &&& (2 : Int32)) = 2) ∧ ((b &&& (1 : Int32)) = 1)) ∨ (((a &&& (1 : Int32)) = 1) ∧ ((b &&& (2 : Int32)) = 2))) 2 0))) ||| (Int32.ofNat (znt (((a &&& (4 : Int32)) = 4) ∨ (((a &&& (1 : Int32)) = 1) ∧ ((b &&& (4 : Int32)) = 4))) 4 0))) ||| ((a &&& b) &&& (8 : Int32))) ||| (16 : Int32)) ||| ((a ||| b) &&& (32 : Int32))) ||| (Int32.ofNat (znt ((((a &&& b) &&& (64 : Int32)) = 64) ∨ ((a &&& (96 : Int32)) = 96) ∨ ((b &&& (96 : Int32)) = 96)) 64 0))), .int 0, .int (Int32.ofNat n), .ref 1592] S post
          refine zv_c1 (st' := [.int (((((((((a &&& b) &&& (1 : Int32)) ||| (Int32.ofNat (znt ((((a &&& (2 : Int32)) = 2) ∧ ((b &&& (1 : Int32)) = 1)) ∨ (((a &&& (1 : Int32)) = 1) ∧ ((b &&& (2 : Int32)) = 2))) 2 0))) ||| (Int32.ofNat (znt (((a &&& (4 : Int32)) = 4) ∨ (((a &&& (1 : Int32)) = 1) ∧ ((b &&& (4 : Int32)) = 4))) 4 0))) ||| ((a &&& b) &&& (8 : Int32))) ||| (16 : Int32)) ||| ((a ||| b) &&& (32 : Int32))) ||| (Int32.ofNat (znt ((((a &&& b) &&& (64 : Int32)) = 64) ∨ ((a &&& (96 : Int32)) = 96) ∨ ((b &&& (96 : Int32)) = 96)) 64 0))) ||| (Int32.ofNat (znt (((a &&& b) &&& (160 : Int32)) = 160) 128 0))), .int 0, .int (Int32.ofNat n), .ref 1592]) (S' := S) ht rfl rfl ?_
          refine zv_c1 ht rfl rfl (zv_c1 ht rfl rfl ?_)
          refine zv_c1 (st' := [.int (a &&& b), .int (((((((((a &&& b) &&& (1 : Int32)) ||| (Int32.ofNat (znt ((((a &&& (2 : Int32)) = 2) ∧ ((b &&& (1 : Int32)) = 1)) ∨ (((a &&& (1 : Int32)) = 1) ∧ ((b &&& (2 : Int32)) = 2))) 2 0))) ||| (Int32.ofNat (znt (((a &&& (4 : Int32)) = 4) ∨ (((a &&& (1 : Int32)) = 1) ∧ ((b &&& (4 : Int32)) = 4))) 4 0))) ||| ((a &&& b) &&& (8 : Int32))) ||| (16 : Int32)) ||| ((a ||| b) &&& (32 : Int32))) ||| (Int32.ofNat (znt ((((a &&& b) &&& (64 : Int32)) = 64) ∨ ((a &&& (96 : Int32)) = 96) ∨ ((b &&& (96 : Int32)) = 96)) 64 0))) ||| (Int32.ofNat (znt (((a &&& b) &&& (160 : Int32)) = 160) 128 0))), .int 0, .int (Int32.ofNat n), .ref 1592]) (S' := S) ht rfl rfl ?_
          refine zv_c1 ht rfl rfl ?_
          refine zv_c1 (st' := [.int ((a &&& b) &&& (256 : Int32)), .int (((((((((a &&& b) &&& (1 : Int32)) ||| (Int32.ofNat (znt ((((a &&& (2 : Int32)) = 2) ∧ ((b &&& (1 : Int32)) = 1)) ∨ (((a &&& (1 : Int32)) = 1) ∧ ((b &&& (2 : Int32)) = 2))) 2 0))) ||| (Int32.ofNat (znt (((a &&& (4 : Int32)) = 4) ∨ (((a &&& (1 : Int32)) = 1) ∧ ((b &&& (4 : Int32)) = 4))) 4 0))) ||| ((a &&& b) &&& (8 : Int32))) ||| (16 : Int32)) ||| ((a ||| b) &&& (32 : Int32))) ||| (Int32.ofNat (znt ((((a &&& b) &&& (64 : Int32)) = 64) ∨ ((a &&& (96 : Int32)) = 96) ∨ ((b &&& (96 : Int32)) = 96)) 64 0))) ||| (Int32.ofNat (znt (((a &&& b) &&& (160 : Int32)) = 160) 128 0))), .int 0, .int (Int32.ofNat n), .ref 1592]) (S' := S) ht rfl rfl ?_
          refine zv_c1 (st' := [.int ((((((((((a &&& b) &&& (1 : Int32)) ||| (Int32.ofNat (znt ((((a &&& (2 : Int32)) = 2) ∧ ((b &&& (1 : Int32)) = 1)) ∨ (((a &&& (1 : Int32)) = 1) ∧ ((b &&& (2 : Int32)) = 2))) 2 0))) ||| (Int32.ofNat (znt (((a &&& (4 : Int32)) = 4) ∨ (((a &&& (1 : Int32)) = 1) ∧ ((b &&& (4 : Int32)) = 4))) 4 0))) ||| ((a &&& b) &&& (8 : Int32))) ||| (16 : Int32)) ||| ((a ||| b) &&& (32 : Int32))) ||| (Int32.ofNat (znt ((((a &&& b) &&& (64 : Int32)) = 64) ∨ ((a &&& (96 : Int32)) = 96) ∨ ((b &&& (96 : Int32)) = 96)) 64 0))) ||| (Int32.ofNat (znt (((a &&& b) &&& (160 : Int32)) = 160) 128 0))) ||| ((a &&& b) &&& (256 : Int32))), .int 0, .int (Int32.ofNat n), .ref 1592]) (S' := S) ht rfl rfl ?_
          have C148 : ∀ (pst147 : Outcome × zS → Prop), (pst147 (.returned none, sA (sA S 1616 n 0) 1617 n (pt12_e1 a b))) → zCall (d - 1) 137 [.ref 1592, .int (Int32.ofNat n), .int 0, .int ((((((((((a &&& b) &&& (1 : Int32)) ||| (Int32.ofNat (znt ((((a &&& (2 : Int32)) = 2) ∧ ((b &&& (1 : Int32)) = 1)) ∨ (((a &&& (1 : Int32)) = 1) ∧ ((b &&& (2 : Int32)) = 2))) 2 0))) ||| (Int32.ofNat (znt (((a &&& (4 : Int32)) = 4) ∨ (((a &&& (1 : Int32)) = 1) ∧ ((b &&& (4 : Int32)) = 4))) 4 0))) ||| ((a &&& b) &&& (8 : Int32))) ||| (16 : Int32)) ||| ((a ||| b) &&& (32 : Int32))) ||| (Int32.ofNat (znt ((((a &&& b) &&& (64 : Int32)) = 64) ∨ ((a &&& (96 : Int32)) = 96) ∨ ((b &&& (96 : Int32)) = 96)) 64 0))) ||| (Int32.ofNat (znt (((a &&& b) &&& (160 : Int32)) = 160) 128 0))) ||| ((a &&& b) &&& (256 : Int32)))] S pst147 := by
            intro pst147 k150
            have ht149 : ztab 137 = ztb137 := rfl
            show zEv (d - 1) 137 0 [.ref 1592, .int (Int32.ofNat n), .int 0, .int ((((((((((a &&& b) &&& (1 : Int32)) ||| (Int32.ofNat (znt ((((a &&& (2 : Int32)) = 2) ∧ ((b &&& (1 : Int32)) = 1)) ∨ (((a &&& (1 : Int32)) = 1) ∧ ((b &&& (2 : Int32)) = 2))) 2 0))) ||| (Int32.ofNat (znt (((a &&& (4 : Int32)) = 4) ∨ (((a &&& (1 : Int32)) = 1) ∧ ((b &&& (4 : Int32)) = 4))) 4 0))) ||| ((a &&& b) &&& (8 : Int32))) ||| (16 : Int32)) ||| ((a ||| b) &&& (32 : Int32))) ||| (Int32.ofNat (znt ((((a &&& b) &&& (64 : Int32)) = 64) ∨ ((a &&& (96 : Int32)) = 96) ∨ ((b &&& (96 : Int32)) = 96)) 64 0))) ||| (Int32.ofNat (znt (((a &&& b) &&& (160 : Int32)) = 160) 128 0))) ||| ((a &&& b) &&& (256 : Int32)))] [] S pst147
            refine zv_c1 ht149 rfl rfl ?_
            refine zv_gl (st' := [.ref 1616]) ht149 rfl hF rfl rfl rfl ?_
            refine zv_c1 ht149 rfl rfl (zv_c1 ht149 rfl rfl ?_)
            refine zv_is (j := n) (x := 0) ht149 rfl rfl rfl rfl (zi_natE (a := n) rfl (by omega)) ⟨rfl, zi_inE (a := n) (n := 3000) rfl (by omega) (by omega)⟩ ?_
            refine zv_c1 ht149 rfl rfl ?_
            refine zv_gl (st' := [.ref 1617]) ht149 rfl hF rfl rfl rfl ?_
            refine zv_c1 ht149 rfl rfl (zv_c1 ht149 rfl rfl ?_)
            refine zv_is (j := n) (x := pt12_e1 a b) ht149 rfl rfl rfl rfl (zi_natE (a := n) rfl (by omega)) ⟨rfl, zi_inE (a := n) (n := 3000) rfl (by omega) (by omega)⟩ ?_
            exact zv_rt ht149 rfl rfl rfl rfl k150
          refine zv_cl ht rfl rfl rfl rfl (by omega) (Nat.le_of_ble_eq_true rfl) (C148 _ ?_)
          show zEv d 144 310 [.retAddr 0, .retAddr 0, .retAddr 0, .retAddr 0, .retAddr 0, .int a, .int b, .retAddr 0, .retAddr 0, .retAddr 0] [] (sA (sA S 1616 n 0) 1617 n (pt12_e1 a b)) post
          exact zv_rt ht rfl rfl rfl rfl (h1 b45 b46)
        have J122 : ((((a &&& b) &&& (64 : Int32)) = 64) ∨ ((a &&& (96 : Int32)) = 96) ∨ ((b &&& (96 : Int32)) = 96)) → zEv d 144 268 [.retAddr 0, .retAddr 0, .retAddr 0, .retAddr 0, .retAddr 0, .int a, .int b, .retAddr 0, .retAddr 0, .retAddr 0] [.int (((((((a &&& b) &&& (1 : Int32)) ||| (Int32.ofNat (znt ((((a &&& (2 : Int32)) = 2) ∧ ((b &&& (1 : Int32)) = 1)) ∨ (((a &&& (1 : Int32)) = 1) ∧ ((b &&& (2 : Int32)) = 2))) 2 0))) ||| (Int32.ofNat (znt (((a &&& (4 : Int32)) = 4) ∨ (((a &&& (1 : Int32)) = 1) ∧ ((b &&& (4 : Int32)) = 4))) 4 0))) ||| ((a &&& b) &&& (8 : Int32))) ||| (16 : Int32)) ||| ((a ||| b) &&& (32 : Int32))), .int 0, .int (Int32.ofNat n), .ref 1592] S post := by
          intro b123
          refine zv_c1 ht rfl rfl (zv_c1 ht rfl rfl ?_)
          exact (zv_sub (zz := zbo ((((a &&& b) &&& (64 : Int32)) = 64) ∨ ((a &&& (96 : Int32)) = 96) ∨ ((b &&& (96 : Int32)) = 96))) (zy := 1) (p := fun zz => zEv d 144 273 [.retAddr 0, .retAddr 0, .retAddr 0, .retAddr 0, .retAddr 0, .int a, .int b, .retAddr 0, .retAddr 0, .retAddr 0] [.int zz, .int (((((((a &&& b) &&& (1 : Int32)) ||| (Int32.ofNat (znt ((((a &&& (2 : Int32)) = 2) ∧ ((b &&& (1 : Int32)) = 1)) ∨ (((a &&& (1 : Int32)) = 1) ∧ ((b &&& (2 : Int32)) = 2))) 2 0))) ||| (Int32.ofNat (znt (((a &&& (4 : Int32)) = 4) ∨ (((a &&& (1 : Int32)) = 1) ∧ ((b &&& (4 : Int32)) = 4))) 4 0))) ||| ((a &&& b) &&& (8 : Int32))) ||| (16 : Int32)) ||| ((a ||| b) &&& (32 : Int32))), .int 0, .int (Int32.ofNat n), .ref 1592] S post) (zbo_pos b123) J124)
        refine zv_br ht rfl rfl rfl (fun b105 => ?_) (fun b105 => ?_)
        · replace b105 : ((a &&& b) &&& (64 : Int32)) = 64 := Classical.byContradiction (fun h => b105 ((zbo_eq0 : (zbo (((a &&& b) &&& (64 : Int32)) = 64)) = 0 ↔ ¬ (((a &&& b) &&& (64 : Int32)) = 64)).mpr h))
          exact zEv.wk (L := [.retAddr 0, .retAddr 0, .retAddr 0, .retAddr 0, .retAddr 0, .int a, .int b, .retAddr 0, .retAddr 0, .retAddr 0]) (L' := [.ref 1592, .int (Int32.ofNat n), .int 12, .int p, .int q, .int a, .int b, .int ((a &&& b) &&& (1 : Int32)), .int (Int32.ofNat (znt (((a &&& (4 : Int32)) = 4) ∨ (((a &&& (1 : Int32)) = 1) ∧ ((b &&& (4 : Int32)) = 4))) 4 0)), .int (zbo (((a ||| b) &&& (32 : Int32)) = 32))]) (And.intro (Or.inr rfl) (And.intro (Or.inr rfl) (And.intro (Or.inr rfl) (And.intro (Or.inr rfl) (And.intro (Or.inr rfl) (And.intro (Or.inl rfl) (And.intro (Or.inl rfl) (And.intro (Or.inr rfl) (And.intro (Or.inr rfl) (And.intro (Or.inr rfl) trivial)))))))))) (J122 (Or.inl b105))
        · replace b105 : ¬ (((a &&& b) &&& (64 : Int32)) = 64) := (zbo_eq0 : (zbo (((a &&& b) &&& (64 : Int32)) = 64)) = 0 ↔ ¬ (((a &&& b) &&& (64 : Int32)) = 64)).mp (Classical.not_not.mp b105)
          refine zv_c1 ht rfl rfl (zv_c1 ht rfl rfl ?_)
          have C107 : ∀ (pst106 : Outcome × zS → Prop), (pst106 (.returned (some (.int (zbo ((a &&& (96 : Int32)) = 96)))), S)) → zCall (d - 1) 139 [.int a, .int 96] S pst106 := by
            intro pst106 k112
            have ht108 : ztab 139 = ztb139 := rfl
            show zEv (d - 1) 139 0 [.int a, .int 96] [] S pst106
            refine zv_c1 ht108 rfl rfl (zv_c1 ht108 rfl rfl ?_)
            refine zv_c1 (st' := [.int (a &&& (96 : Int32))]) (S' := S) ht108 rfl rfl ?_
            refine zv_c1 ht108 rfl rfl ?_
            have J110 : zEv (d - 1) 139 12 [.retAddr 0, .retAddr 0] [.int (zbo ((a &&& (96 : Int32)) = 96))] S pst106 := by
              exact zv_rc ht108 rfl rfl rfl rfl zbo_rng k112
            refine zv_br ht108 rfl rfl rfl (fun b109 => ?_) (fun b109 => ?_)
            · refine zv_c1 ht108 rfl rfl ?_
              exact zEv.wk (L := [.retAddr 0, .retAddr 0]) (L' := [.int a, .int 96]) (And.intro (Or.inr rfl) (And.intro (Or.inr rfl) trivial)) (zv_sub (zz := zbo ((a &&& (96 : Int32)) = 96)) (zy := 0) (p := fun zz => zEv (d - 1) 139 12 [.retAddr 0, .retAddr 0] [.int zz] S pst106) (zbo_neg b109) J110)
            · replace b109 : (a &&& (96 : Int32)) = 96 := Classical.not_not.mp b109
              refine zv_c1 ht108 rfl rfl (zv_c1 ht108 rfl rfl ?_)
              exact zEv.wk (L := [.retAddr 0, .retAddr 0]) (L' := [.int a, .int 96]) (And.intro (Or.inr rfl) (And.intro (Or.inr rfl) trivial)) (zv_sub (zz := zbo ((a &&& (96 : Int32)) = 96)) (zy := 1) (p := fun zz => zEv (d - 1) 139 12 [.retAddr 0, .retAddr 0] [.int zz] S pst106) (zbo_pos b109) J110)
          refine zv_cl ht rfl rfl rfl rfl (by omega) (Nat.le_of_ble_eq_true rfl) (C107 _ ?_)
          show zEv d 144 255 [.ref 1592, .int (Int32.ofNat n), .int 12, .int p, .int q, .int a, .int b, .int ((a &&& b) &&& (1 : Int32)), .int (Int32.ofNat (znt (((a &&& (4 : Int32)) = 4) ∨ (((a &&& (1 : Int32)) = 1) ∧ ((b &&& (4 : Int32)) = 4))) 4 0)), .int (zbo (((a ||| b) &&& (32 : Int32)) = 32))] [.int (zbo ((a &&& (96 : Int32)) = 96)), .int (((((((a &&& b) &&& (1 : Int32)) ||| (Int32.ofNat (znt ((((a &&& (2 : Int32)) = 2) ∧ ((b &&& (1 : Int32)) = 1)) ∨ (((a &&& (1 : Int32)) = 1) ∧ ((b &&& (2 : Int32)) = 2))) 2 0))) ||| (Int32.ofNat (znt (((a &&& (4 : Int32)) = 4) ∨ (((a &&& (1 : Int32)) = 1) ∧ ((b &&& (4 : Int32)) = 4))) 4 0))) ||| ((a &&& b) &&& (8 : Int32))) ||| (16 : Int32)) ||| ((a ||| b) &&& (32 : Int32))), .int 0, .int (Int32.ofNat n), .ref 1592] S post
          refine zv_br ht rfl rfl rfl (fun b113 => ?_) (fun b113 => ?_)
          · replace b113 : (a &&& (96 : Int32)) = 96 := Classical.byContradiction (fun h => b113 ((zbo_eq0 : (zbo ((a &&& (96 : Int32)) = 96)) = 0 ↔ ¬ ((a &&& (96 : Int32)) = 96)).mpr h))
            exact zEv.wk (L := [.retAddr 0, .retAddr 0, .retAddr 0, .retAddr 0, .retAddr 0, .int a, .int b, .retAddr 0, .retAddr 0, .retAddr 0]) (L' := [.ref 1592, .int (Int32.ofNat n), .int 12, .int p, .int q, .int a, .int b, .int ((a &&& b) &&& (1 : Int32)), .int (Int32.ofNat (znt (((a &&& (4 : Int32)) = 4) ∨ (((a &&& (1 : Int32)) = 1) ∧ ((b &&& (4 : Int32)) = 4))) 4 0)), .int (zbo (((a ||| b) &&& (32 : Int32)) = 32))]) (And.intro (Or.inr rfl) (And.intro (Or.inr rfl) (And.intro (Or.inr rfl) (And.intro (Or.inr rfl) (And.intro (Or.inr rfl) (And.intro (Or.inl rfl) (And.intro (Or.inl rfl) (And.intro (Or.inr rfl) (And.intro (Or.inr rfl) (And.intro (Or.inr rfl) trivial)))))))))) (J122 (Or.inr (Or.inl b113)))
          · replace b113 : ¬ ((a &&& (96 : Int32)) = 96) := (zbo_eq0 : (zbo ((a &&& (96 : Int32)) = 96)) = 0 ↔ ¬ ((a &&& (96 : Int32)) = 96)).mp (Classical.not_not.mp b113)
            refine zv_c1 ht rfl rfl (zv_c1 ht rfl rfl ?_)
            have C115 : ∀ (pst114 : Outcome × zS → Prop), (pst114 (.returned (some (.int (zbo ((b &&& (96 : Int32)) = 96)))), S)) → zCall (d - 1) 139 [.int b, .int 96] S pst114 := by
              intro pst114 k120
              have ht116 : ztab 139 = ztb139 := rfl
              show zEv (d - 1) 139 0 [.int b, .int 96] [] S pst114
              refine zv_c1 ht116 rfl rfl (zv_c1 ht116 rfl rfl ?_)
              refine zv_c1 (st' := [.int (b &&& (96 : Int32))]) (S' := S) ht116 rfl rfl ?_
              refine zv_c1 ht116 rfl rfl ?_
              have J118 : zEv (d - 1) 139 12 [.retAddr 0, .retAddr 0] [.int (zbo ((b &&& (96 : Int32)) = 96))] S pst114 := by
                exact zv_rc ht116 rfl rfl rfl rfl zbo_rng k120
              refine zv_br ht116 rfl rfl rfl (fun b117 => ?_) (fun b117 => ?_)
              · refine zv_c1 ht116 rfl rfl ?_
                exact zEv.wk (L := [.retAddr 0, .retAddr 0]) (L' := [.int b, .int 96]) (And.intro (Or.inr rfl) (And.intro (Or.inr rfl) trivial)) (zv_sub (zz := zbo ((b &&& (96 : Int32)) = 96)) (zy := 0) (p := fun zz => zEv (d - 1) 139 12 [.retAddr 0, .retAddr 0] [.int zz] S pst114) (zbo_neg b117) J118)
              · replace b117 : (b &&& (96 : Int32)) = 96 := Classical.not_not.mp b117
                refine zv_c1 ht116 rfl rfl (zv_c1 ht116 rfl rfl ?_)
                exact zEv.wk (L := [.retAddr 0, .retAddr 0]) (L' := [.int b, .int 96]) (And.intro (Or.inr rfl) (And.intro (Or.inr rfl) trivial)) (zv_sub (zz := zbo ((b &&& (96 : Int32)) = 96)) (zy := 1) (p := fun zz => zEv (d - 1) 139 12 [.retAddr 0, .retAddr 0] [.int zz] S pst114) (zbo_pos b117) J118)
            refine zv_cl ht rfl rfl rfl rfl (by omega) (Nat.le_of_ble_eq_true rfl) (C115 _ ?_)
            show zEv d 144 265 [.ref 1592, .int (Int32.ofNat n), .int 12, .int p, .int q, .int a, .int b, .int ((a &&& b) &&& (1 : Int32)), .int (Int32.ofNat (znt (((a &&& (4 : Int32)) = 4) ∨ (((a &&& (1 : Int32)) = 1) ∧ ((b &&& (4 : Int32)) = 4))) 4 0)), .int (zbo (((a ||| b) &&& (32 : Int32)) = 32))] [.int (zbo ((b &&& (96 : Int32)) = 96)), .int (((((((a &&& b) &&& (1 : Int32)) ||| (Int32.ofNat (znt ((((a &&& (2 : Int32)) = 2) ∧ ((b &&& (1 : Int32)) = 1)) ∨ (((a &&& (1 : Int32)) = 1) ∧ ((b &&& (2 : Int32)) = 2))) 2 0))) ||| (Int32.ofNat (znt (((a &&& (4 : Int32)) = 4) ∨ (((a &&& (1 : Int32)) = 1) ∧ ((b &&& (4 : Int32)) = 4))) 4 0))) ||| ((a &&& b) &&& (8 : Int32))) ||| (16 : Int32)) ||| ((a ||| b) &&& (32 : Int32))), .int 0, .int (Int32.ofNat n), .ref 1592] S post
            refine zv_br ht rfl rfl rfl (fun b121 => ?_) (fun b121 => ?_)
            · replace b121 : ¬ ((b &&& (96 : Int32)) = 96) := (zbo_eq0 : (zbo ((b &&& (96 : Int32)) = 96)) = 0 ↔ ¬ ((b &&& (96 : Int32)) = 96)).mp b121
              refine zv_c1 ht rfl rfl ?_
              exact zEv.wk (L := [.retAddr 0, .retAddr 0, .retAddr 0, .retAddr 0, .retAddr 0, .int a, .int b, .retAddr 0, .retAddr 0, .retAddr 0]) (L' := [.ref 1592, .int (Int32.ofNat n), .int 12, .int p, .int q, .int a, .int b, .int ((a &&& b) &&& (1 : Int32)), .int (Int32.ofNat (znt (((a &&& (4 : Int32)) = 4) ∨ (((a &&& (1 : Int32)) = 1) ∧ ((b &&& (4 : Int32)) = 4))) 4 0)), .int (zbo (((a ||| b) &&& (32 : Int32)) = 32))]) (And.intro (Or.inr rfl) (And.intro (Or.inr rfl) (And.intro (Or.inr rfl) (And.intro (Or.inr rfl) (And.intro (Or.inr rfl) (And.intro (Or.inl rfl) (And.intro (Or.inl rfl) (And.intro (Or.inr rfl) (And.intro (Or.inr rfl) (And.intro (Or.inr rfl) trivial)))))))))) (zv_sub (zz := zbo ((((a &&& b) &&& (64 : Int32)) = 64) ∨ ((a &&& (96 : Int32)) = 96) ∨ ((b &&& (96 : Int32)) = 96))) (zy := 0) (p := fun zz => zEv d 144 273 [.retAddr 0, .retAddr 0, .retAddr 0, .retAddr 0, .retAddr 0, .int a, .int b, .retAddr 0, .retAddr 0, .retAddr 0] [.int zz, .int (((((((a &&& b) &&& (1 : Int32)) ||| (Int32.ofNat (znt ((((a &&& (2 : Int32)) = 2) ∧ ((b &&& (1 : Int32)) = 1)) ∨ (((a &&& (1 : Int32)) = 1) ∧ ((b &&& (2 : Int32)) = 2))) 2 0))) ||| (Int32.ofNat (znt (((a &&& (4 : Int32)) = 4) ∨ (((a &&& (1 : Int32)) = 1) ∧ ((b &&& (4 : Int32)) = 4))) 4 0))) ||| ((a &&& b) &&& (8 : Int32))) ||| (16 : Int32)) ||| ((a ||| b) &&& (32 : Int32))), .int 0, .int (Int32.ofNat n), .ref 1592] S post) (zbo_neg (fun h => h.elim b105 (fun h => h.elim b113 b121))) J124)
            · replace b121 : (b &&& (96 : Int32)) = 96 := Classical.byContradiction (fun h => b121 ((zbo_eq0 : (zbo ((b &&& (96 : Int32)) = 96)) = 0 ↔ ¬ ((b &&& (96 : Int32)) = 96)).mpr h))
              exact zEv.wk (L := [.retAddr 0, .retAddr 0, .retAddr 0, .retAddr 0, .retAddr 0, .int a, .int b, .retAddr 0, .retAddr 0, .retAddr 0]) (L' := [.ref 1592, .int (Int32.ofNat n), .int 12, .int p, .int q, .int a, .int b, .int ((a &&& b) &&& (1 : Int32)), .int (Int32.ofNat (znt (((a &&& (4 : Int32)) = 4) ∨ (((a &&& (1 : Int32)) = 1) ∧ ((b &&& (4 : Int32)) = 4))) 4 0)), .int (zbo (((a ||| b) &&& (32 : Int32)) = 32))]) (And.intro (Or.inr rfl) (And.intro (Or.inr rfl) (And.intro (Or.inr rfl) (And.intro (Or.inr rfl) (And.intro (Or.inr rfl) (And.intro (Or.inl rfl) (And.intro (Or.inl rfl) (And.intro (Or.inr rfl) (And.intro (Or.inr rfl) (And.intro (Or.inr rfl) trivial)))))))))) (J122 (Or.inr (Or.inr b121)))
      · exact zEv.wk (L := [.retAddr 0, .retAddr 0, .retAddr 0, .retAddr 0, .retAddr 0, .retAddr 0, .retAddr 0, .retAddr 0, .retAddr 0, .retAddr 0]) (L' := [.ref 1592, .int (Int32.ofNat n), .int 12, .int p, .int q, .int a, .int b, .int ((a &&& b) &&& (1 : Int32)), .int (Int32.ofNat (znt (((a &&& (4 : Int32)) = 4) ∨ (((a &&& (1 : Int32)) = 1) ∧ ((b &&& (4 : Int32)) = 4))) 4 0)), .int (zbo (((a ||| b) &&& (32 : Int32)) = 32))]) (And.intro (Or.inr rfl) (And.intro (Or.inr rfl) (And.intro (Or.inr rfl) (And.intro (Or.inr rfl) (And.intro (Or.inr rfl) (And.intro (Or.inr rfl) (And.intro (Or.inr rfl) (And.intro (Or.inr rfl) (And.intro (Or.inr rfl) (And.intro (Or.inr rfl) trivial)))))))))) (J151 (Or.inr b46))
  have J27 : (((a &&& (4 : Int32)) = 4) ∨ (((a &&& (1 : Int32)) = 1) ∧ ((b &&& (4 : Int32)) = 4))) → zEv d 144 36 [.ref 1592, .int (Int32.ofNat n), .int 12, .int p, .int q, .int a, .int b, .int ((a &&& b) &&& (1 : Int32)), .retAddr 0, .retAddr 0] [] S post := by
    intro b28
    refine zv_c1 ht rfl rfl (zv_c1 ht rfl rfl ?_)
    exact (zv_sub (zz := zbo (((a &&& (4 : Int32)) = 4) ∨ (((a &&& (1 : Int32)) = 1) ∧ ((b &&& (4 : Int32)) = 4)))) (zy := 1) (p := fun zz => zEv d 144 41 [.ref 1592, .int (Int32.ofNat n), .int 12, .int p, .int q, .int a, .int b, .int ((a &&& b) &&& (1 : Int32)), .retAddr 0, .retAddr 0] [.int zz] S post) (zbo_pos b28) J29)
  refine zv_br ht rfl rfl rfl (fun b8 => ?_) (fun b8 => ?_)
  · replace b8 : (a &&& (4 : Int32)) = 4 := Classical.byContradiction (fun h => b8 ((zbo_eq0 : (zbo ((a &&& (4 : Int32)) = 4)) = 0 ↔ ¬ ((a &&& (4 : Int32)) = 4)).mpr h))
    exact (J27 (Or.inl b8))
  · replace b8 : ¬ ((a &&& (4 : Int32)) = 4) := (zbo_eq0 : (zbo ((a &&& (4 : Int32)) = 4)) = 0 ↔ ¬ ((a &&& (4 : Int32)) = 4)).mp (Classical.not_not.mp b8)
    refine zv_c1 ht rfl rfl (zv_c1 ht rfl rfl ?_)
    have C10 : ∀ (pst9 : Outcome × zS → Prop), (pst9 (.returned (some (.int (zbo ((a &&& (1 : Int32)) = 1)))), S)) → zCall (d - 1) 139 [.int a, .int 1] S pst9 := by
      intro pst9 k15
      have ht11 : ztab 139 = ztb139 := rfl
      show zEv (d - 1) 139 0 [.int a, .int 1] [] S pst9
      refine zv_c1 ht11 rfl rfl (zv_c1 ht11 rfl rfl ?_)
      refine zv_c1 (st' := [.int (a &&& (1 : Int32))]) (S' := S) ht11 rfl rfl ?_
      refine zv_c1 ht11 rfl rfl ?_
      have J13 : zEv (d - 1) 139 12 [.retAddr 0, .retAddr 0] [.int (zbo ((a &&& (1 : Int32)) = 1))] S pst9 := by
        exact zv_rc ht11 rfl rfl rfl rfl zbo_rng k15
      refine zv_br ht11 rfl rfl rfl (fun b12 => ?_) (fun b12 => ?_)
      · refine zv_c1 ht11 rfl rfl ?_
        exact zEv.wk (L := [.retAddr 0, .retAddr 0]) (L' := [.int a, .int 1]) (And.intro (Or.inr rfl) (And.intro (Or.inr rfl) trivial)) (zv_sub (zz := zbo ((a &&& (1 : Int32)) = 1)) (zy := 0) (p := fun zz => zEv (d - 1) 139 12 [.retAddr 0, .retAddr 0] [.int zz] S pst9) (zbo_neg b12) J13)
      · replace b12 : (a &&& (1 : Int32)) = 1 := Classical.not_not.mp b12
        refine zv_c1 ht11 rfl rfl (zv_c1 ht11 rfl rfl ?_)
        exact zEv.wk (L := [.retAddr 0, .retAddr 0]) (L' := [.int a, .int 1]) (And.intro (Or.inr rfl) (And.intro (Or.inr rfl) trivial)) (zv_sub (zz := zbo ((a &&& (1 : Int32)) = 1)) (zy := 1) (p := fun zz => zEv (d - 1) 139 12 [.retAddr 0, .retAddr 0] [.int zz] S pst9) (zbo_pos b12) J13)
    refine zv_cl ht rfl rfl rfl rfl (by omega) (Nat.le_of_ble_eq_true rfl) (C10 _ ?_)
    show zEv d 144 24 [.ref 1592, .int (Int32.ofNat n), .int 12, .int p, .int q, .int a, .int b, .int ((a &&& b) &&& (1 : Int32)), .retAddr 0, .retAddr 0] [.int (zbo ((a &&& (1 : Int32)) = 1))] S post
    have J25 : ((¬ ((a &&& (1 : Int32)) = 1)) ∨ (¬ ((b &&& (4 : Int32)) = 4))) → zEv d 144 40 [.ref 1592, .int (Int32.ofNat n), .int 12, .int p, .int q, .int a, .int b, .int ((a &&& b) &&& (1 : Int32)), .retAddr 0, .retAddr 0] [] S post := by
      intro b26
      refine zv_c1 ht rfl rfl ?_
      exact (zv_sub (zz := zbo (((a &&& (4 : Int32)) = 4) ∨ (((a &&& (1 : Int32)) = 1) ∧ ((b &&& (4 : Int32)) = 4)))) (zy := 0) (p := fun zz => zEv d 144 41 [.ref 1592, .int (Int32.ofNat n), .int 12, .int p, .int q, .int a, .int b, .int ((a &&& b) &&& (1 : Int32)), .retAddr 0, .retAddr 0] [.int zz] S post) (zbo_neg (b26.elim (fun y1 => (fun h => h.elim b8 (fun h => y1 h.1))) (fun y1 => (fun h => h.elim b8 (fun h => y1 h.2))))) J29)
    refine zv_br ht rfl rfl rfl (fun b16 => ?_) (fun b16 => ?_)
    · replace b16 : ¬ ((a &&& (1 : Int32)) = 1) := (zbo_eq0 : (zbo ((a &&& (1 : Int32)) = 1)) = 0 ↔ ¬ ((a &&& (1 : Int32)) = 1)).mp b16
      exact (J25 (Or.inl b16))
    · replace b16 : (a &&& (1 : Int32)) = 1 := Classical.byContradiction (fun h => b16 ((zbo_eq0 : (zbo ((a &&& (1 : Int32)) = 1)) = 0 ↔ ¬ ((a &&& (1 : Int32)) = 1)).mpr h))
      refine zv_c1 ht rfl rfl (zv_c1 ht rfl rfl ?_)
      have C18 : ∀ (pst17 : Outcome × zS → Prop), (pst17 (.returned (some (.int (zbo ((b &&& (4 : Int32)) = 4)))), S)) → zCall (d - 1) 139 [.int b, .int 4] S pst17 := by
        intro pst17 k23
        have ht19 : ztab 139 = ztb139 := rfl
        show zEv (d - 1) 139 0 [.int b, .int 4] [] S pst17
        refine zv_c1 ht19 rfl rfl (zv_c1 ht19 rfl rfl ?_)
        refine zv_c1 (st' := [.int (b &&& (4 : Int32))]) (S' := S) ht19 rfl rfl ?_
        refine zv_c1 ht19 rfl rfl ?_
        have J21 : zEv (d - 1) 139 12 [.retAddr 0, .retAddr 0] [.int (zbo ((b &&& (4 : Int32)) = 4))] S pst17 := by
          exact zv_rc ht19 rfl rfl rfl rfl zbo_rng k23
        refine zv_br ht19 rfl rfl rfl (fun b20 => ?_) (fun b20 => ?_)
        · refine zv_c1 ht19 rfl rfl ?_
          exact zEv.wk (L := [.retAddr 0, .retAddr 0]) (L' := [.int b, .int 4]) (And.intro (Or.inr rfl) (And.intro (Or.inr rfl) trivial)) (zv_sub (zz := zbo ((b &&& (4 : Int32)) = 4)) (zy := 0) (p := fun zz => zEv (d - 1) 139 12 [.retAddr 0, .retAddr 0] [.int zz] S pst17) (zbo_neg b20) J21)
        · replace b20 : (b &&& (4 : Int32)) = 4 := Classical.not_not.mp b20
          refine zv_c1 ht19 rfl rfl (zv_c1 ht19 rfl rfl ?_)
          exact zEv.wk (L := [.retAddr 0, .retAddr 0]) (L' := [.int b, .int 4]) (And.intro (Or.inr rfl) (And.intro (Or.inr rfl) trivial)) (zv_sub (zz := zbo ((b &&& (4 : Int32)) = 4)) (zy := 1) (p := fun zz => zEv (d - 1) 139 12 [.retAddr 0, .retAddr 0] [.int zz] S pst17) (zbo_pos b20) J21)
      refine zv_cl ht rfl rfl rfl rfl (by omega) (Nat.le_of_ble_eq_true rfl) (C18 _ ?_)
      show zEv d 144 33 [.ref 1592, .int (Int32.ofNat n), .int 12, .int p, .int q, .int a, .int b, .int ((a &&& b) &&& (1 : Int32)), .retAddr 0, .retAddr 0] [.int (zbo ((b &&& (4 : Int32)) = 4))] S post
      refine zv_br ht rfl rfl rfl (fun b24 => ?_) (fun b24 => ?_)
      · replace b24 : ¬ ((b &&& (4 : Int32)) = 4) := (zbo_eq0 : (zbo ((b &&& (4 : Int32)) = 4)) = 0 ↔ ¬ ((b &&& (4 : Int32)) = 4)).mp b24
        exact (J25 (Or.inr b24))
      · replace b24 : (b &&& (4 : Int32)) = 4 := Classical.byContradiction (fun h => b24 ((zbo_eq0 : (zbo ((b &&& (4 : Int32)) = 4)) = 0 ↔ ¬ ((b &&& (4 : Int32)) = 4)).mpr h))
        exact (J27 (Or.inr ⟨b16, b24⟩))
noncomputable def tyP12 (p q a b : Int32) : Option (Int32 × Int32) := zop ((p = 0) ∧ (q = 3)) (0, pt12_e1 a b)
noncomputable def pt13_s1 (S : zS) (n : Nat) (a : Int32) (b : Int32) : zS := sA (sA S 1616 n 0) 1617 n ((((((((a &&& b) &&& (1 : Int32)) ||| (Int32.ofNat (znt ((((a &&& (2 : Int32)) = 2) ∧ ((b &&& (1 : Int32)) = 1)) ∨ (((a &&& (1 : Int32)) = 1) ∧ ((b &&& (2 : Int32)) = 2))) 2 0))) ||| (8 : Int32)) ||| (16 : Int32)) ||| ((a &&& b) &&& (32 : Int32))) ||| (128 : Int32)) ||| (Int32.ofNat (znt ((((a &&& b) &&& (384 : Int32)) = 384) ∧ (((a ||| b) &&& (32 : Int32)) = 32)) 256 0)))
theorem pt13 {d : Nat} {S : zS} (hF : zFin true S) (hd : 2 ≤ d) (n : Nat) (p q a b : Int32)  (hn : n < 3000) {post : Outcome × zS → Prop} (h1 : (p = 0) → ((a &&& (8 : Int32)) = 8) → (q = 3) → ((b &&& (8 : Int32)) = 8) → post (.returned none, pt13_s1 S n a b)) (h2 : ((¬ (p = 0)) ∨ (¬ ((a &&& (8 : Int32)) = 8)) ∨ (¬ (q = 3)) ∨ (¬ ((b &&& (8 : Int32)) = 8))) → post (.returned none, S)) : zCall d 144 [.ref 1592, .int (Int32.ofNat n), .int 13, .int p, .int q, .int a, .int b] S post := by
  have ht : ztab 144 = ztb144 := rfl
  show zEv d 144 0 [.ref 1592, .int (Int32.ofNat n), .int 13, .int p, .int q, .int a, .int b, .retAddr 0, .retAddr 0, .retAddr 0] [] S post
  refine zv_c1 ht rfl rfl (zv_c1 ht rfl rfl ?_)
  refine zv_c1 (st' := [.int (a &&& b)]) (S' := S) ht rfl rfl ?_
  refine zv_c1 ht rfl rfl ?_
  refine zv_c1 (st' := [.int ((a &&& b) &&& (1 : Int32))]) (S' := S) ht rfl rfl ?_
  refine zv_c2 (L' := [.ref 1592, .int (Int32.ofNat n), .int 13, .int p, .int q, .int a, .int b, .int ((a &&& b) &&& (1 : Int32)), .retAddr 0, .retAddr 0]) ht rfl rfl ?_
  refine zv_c1 ht rfl rfl (zv_c1 ht rfl rfl ?_)
  have C2 : ∀ (pst1 : Outcome × zS → Prop), (pst1 (.returned (some (.int (zbo ((a &&& (4 : Int32)) = 4)))), S)) → zCall (d - 1) 139 [.int a, .int 4] S pst1 := by
    intro pst1 k7
    have ht3 : ztab 139 = ztb139 := rfl
    show zEv (d - 1) 139 0 [.int a, .int 4] [] S pst1
    refine zv_c1 ht3 rfl rfl (zv_c1 ht3 rfl rfl ?_)
    refine zv_c1 (st' := [.int (a &&& (4 : Int32))]) (S' := S) ht3 rfl rfl ?_
    refine zv_c1 ht3 rfl rfl ?_
    have J5 : zEv (d - 1) 139 12 [.retAddr 0, .retAddr 0] [.int (zbo ((a &&& (4 : Int32)) = 4))] S pst1 := by
      exact zv_rc ht3 rfl rfl rfl rfl zbo_rng k7
    refine zv_br ht3 rfl rfl rfl (fun b4 => ?_) (fun b4 => ?_)
    · refine zv_c1 ht3 rfl rfl ?_
      exact zEv.wk (L := [.retAddr 0, .retAddr 0]) (L' := [.int a, .int 4]) (And.intro (Or.inr rfl) (And.intro (Or.inr rfl) trivial)) (zv_sub (zz := zbo ((a &&& (4 : Int32)) = 4)) (zy := 0) (p := fun zz => zEv (d - 1) 139 12 [.retAddr 0, .retAddr 0] [.int zz] S pst1) (zbo_neg b4) J5)
    · replace b4 : (a &&& (4 : Int32)) = 4 := Classical.not_not.mp b4
      refine zv_c1 ht3 rfl rfl (zv_c1 ht3 rfl rfl ?_)
      exact zEv.wk (L := [.retAddr 0, .retAddr 0]) (L' := [.int a, .int 4]) (And.intro (Or.inr rfl) (And.intro (Or.inr rfl) trivial)) (zv_sub (zz := zbo ((a &&& (4 : Int32)) = 4)) (zy := 1) (p := fun zz => zEv (d - 1) 139 12 [.retAddr 0, .retAddr 0] [.int zz] S pst1) (zbo_pos b4) J5)
  refine zv_cl ht rfl rfl rfl rfl (by omega) (Nat.le_of_ble_eq_true rfl) (C2 _ ?_)
  show zEv d 144 15 [.ref 1592, .int (Int32.ofNat n), .int 13, .int p, .int q, .int a, .int b, .int ((a &&& b) &&& (1 : Int32)), .retAddr 0, .retAddr 0] [.int (zbo ((a &&& (4 : Int32)) = 4))] S post
  have J29 : zEv d 144 41 [.ref 1592, .int (Int32.ofNat n), .int 13, .int p, .int q, .int a, .int b, .int ((a &&& b) &&& (1 : Int32)), .retAddr 0, .retAddr 0] [.int (zbo (((a &&& (4 : Int32)) = 4) ∨ (((a &&& (1 : Int32)) = 1) ∧ ((b &&& (4 : Int32)) = 4))))] S post := by
    refine zv_c1 ht rfl rfl ?_
    have C32 : ∀ (pst31 : Outcome × zS → Prop), (pst31 (.returned (some (.int (Int32.ofNat (znt (((a &&& (4 : Int32)) = 4) ∨ (((a &&& (1 : Int32)) = 1) ∧ ((b &&& (4 : Int32)) = 4))) 4 0)))), S)) → zCall (d - 1) 140 [.int (zbo (((a &&& (4 : Int32)) = 4) ∨ (((a &&& (1 : Int32)) = 1) ∧ ((b &&& (4 : Int32)) = 4)))), .int 4] S pst31 := by
      intro pst31 k37
      have ht33 : ztab 140 = ztb140 := rfl
      show zEv (d - 1) 140 0 [.int (zbo (((a &&& (4 : Int32)) = 4) ∨ (((a &&& (1 : Int32)) = 1) ∧ ((b &&& (4 : Int32)) = 4)))), .int 4] [] S pst31
      refine zv_c1 ht33 rfl rfl ?_
      have J35 : zEv (d - 1) 140 9 [.retAddr 0, .retAddr 0] [.int (Int32.ofNat (znt (((a &&& (4 : Int32)) = 4) ∨ (((a &&& (1 : Int32)) = 1) ∧ ((b &&& (4 : Int32)) = 4))) 4 0))] S pst31 := by
        exact zv_rt ht33 rfl rfl rfl rfl k37
      refine zv_br ht33 rfl rfl rfl (fun b34 => ?_) (fun b34 => ?_)
      · replace b34 : ¬ (((a &&& (4 : Int32)) = 4) ∨ (((a &&& (1 : Int32)) = 1) ∧ ((b &&& (4 : Int32)) = 4))) := (zbo_eq0 : (zbo (((a &&& (4 : Int32)) = 4) ∨ (((a &&& (1 : Int32)) = 1) ∧ ((b &&& (4 : Int32)) = 4)))) = 0 ↔ ¬ (((a &&& (4 : Int32)) = 4) ∨ (((a &&& (1 : Int32)) = 1) ∧ ((b &&& (4 : Int32)) = 4)))).mp b34
        refine zv_c1 ht33 rfl rfl ?_
        exact zEv.wk (L := [.retAddr 0, .retAddr 0]) (L' := [.int (zbo (((a &&& (4 : Int32)) = 4) ∨ (((a &&& (1 : Int32)) = 1) ∧ ((b &&& (4 : Int32)) = 4)))), .int 4]) (And.intro (Or.inr rfl) (And.intro (Or.inr rfl) trivial)) (zv_sub (zz := Int32.ofNat (znt (((a &&& (4 : Int32)) = 4) ∨ (((a &&& (1 : Int32)) = 1) ∧ ((b &&& (4 : Int32)) = 4))) 4 0)) (zy := 0) (p := fun zz => zEv (d - 1) 140 9 [.retAddr 0, .retAddr 0] [.int zz] S pst31) (congrArg Int32.ofNat (znt_neg b34)) J35)
      · replace b34 : ((a &&& (4 : Int32)) = 4) ∨ (((a &&& (1 : Int32)) = 1) ∧ ((b &&& (4 : Int32)) = 4)) := Classical.byContradiction (fun h => b34 ((zbo_eq0 : (zbo (((a &&& (4 : Int32)) = 4) ∨ (((a &&& (1 : Int32)) = 1) ∧ ((b &&& (4 : Int32)) = 4)))) = 0 ↔ ¬ (((a &&& (4 : Int32)) = 4) ∨ (((a &&& (1 : Int32)) = 1) ∧ ((b &&& (4 : Int32)) = 4)))).mpr h))
        refine zv_c1 ht33 rfl rfl (zv_c1 ht33 rfl rfl ?_)
        exact zEv.wk (L := [.retAddr 0, .retAddr 0]) (L' := [.int (zbo (((a &&& (4 : Int32)) = 4) ∨ (((a &&& (1 : Int32)) = 1) ∧ ((b &&& (4 : Int32)) = 4)))), .int 4]) (And.intro (Or.inr rfl) (And.intro (Or.inr rfl) trivial)) (zv_sub (zz := Int32.ofNat (znt (((a &&& (4 : Int32)) = 4) ∨ (((a &&& (1 : Int32)) = 1) ∧ ((b &&& (4 : Int32)) = 4))) 4 0)) (zy := 4) (p := fun zz => zEv (d - 1) 140 9 [.retAddr 0, .retAddr 0] [.int zz] S pst31) (congrArg Int32.ofNat (znt_pos b34)) J35)
    refine zv_cl ht rfl rfl rfl rfl (by omega) (Nat.le_of_ble_eq_true rfl) (C32 _ ?_)
    show zEv d 144 45 [.ref 1592, .int (Int32.ofNat n), .int 13, .int p, .int q, .int a, .int b, .int ((a &&& b) &&& (1 : Int32)), .retAddr 0, .retAddr 0] [.int (Int32.ofNat (znt (((a &&& (4 : Int32)) = 4) ∨ (((a &&& (1 : Int32)) = 1) ∧ ((b &&& (4 : Int32)) = 4))) 4 0))] S post
    refine zv_c2 (L' := [.ref 1592, .int (Int32.ofNat n), .int 13, .int p, .int q, .int a, .int b, .int ((a &&& b) &&& (1 : Int32)), .int (Int32.ofNat (znt (((a &&& (4 : Int32)) = 4) ∨ (((a &&& (1 : Int32)) = 1) ∧ ((b &&& (4 : Int32)) = 4))) 4 0)), .retAddr 0]) ht rfl rfl ?_
    refine zv_c1 ht rfl rfl (zv_c1 ht rfl rfl ?_)
    refine zv_c1 (st' := [.int (a ||| b)]) (S' := S) ht rfl rfl ?_
    refine zv_c1 ht rfl rfl ?_
    have C39 : ∀ (pst38 : Outcome × zS → Prop), (pst38 (.returned (some (.int (zbo (((a ||| b) &&& (32 : Int32)) = 32)))), S)) → zCall (d - 1) 139 [.int (a ||| b), .int 32] S pst38 := by
      intro pst38 k44
      have ht40 : ztab 139 = ztb139 := rfl
      show zEv (d - 1) 139 0 [.int (a ||| b), .int 32] [] S pst38
      refine zv_c1 ht40 rfl rfl (zv_c1 ht40 rfl rfl ?_)
      refine zv_c1 (st' := [.int ((a ||| b) &&& (32 : Int32))]) (S' := S) ht40 rfl rfl ?_
      refine zv_c1 ht40 rfl rfl ?_
      have J42 : zEv (d - 1) 139 12 [.retAddr 0, .retAddr 0] [.int (zbo (((a ||| b) &&& (32 : Int32)) = 32))] S pst38 := by
        exact zv_rc ht40 rfl rfl rfl rfl zbo_rng k44
      refine zv_br ht40 rfl rfl rfl (fun b41 => ?_) (fun b41 => ?_)
      · refine zv_c1 ht40 rfl rfl ?_
        exact zEv.wk (L := [.retAddr 0, .retAddr 0]) (L' := [.int (a ||| b), .int 32]) (And.intro (Or.inr rfl) (And.intro (Or.inr rfl) trivial)) (zv_sub (zz := zbo (((a ||| b) &&& (32 : Int32)) = 32)) (zy := 0) (p := fun zz => zEv (d - 1) 139 12 [.retAddr 0, .retAddr 0] [.int zz] S pst38) (zbo_neg b41) J42)
      · replace b41 : ((a ||| b) &&& (32 : Int32)) = 32 := Classical.not_not.mp b41
        refine zv_c1 ht40 rfl rfl (zv_c1 ht40 rfl rfl ?_)
        exact zEv.wk (L := [.retAddr 0, .retAddr 0]) (L' := [.int (a ||| b), .int 32]) (And.intro (Or.inr rfl) (And.intro (Or.inr rfl) trivial)) (zv_sub (zz := zbo (((a ||| b) &&& (32 : Int32)) = 32)) (zy := 1) (p := fun zz => zEv (d - 1) 139 12 [.retAddr 0, .retAddr 0] [.int zz] S pst38) (zbo_pos b41) J42)
    refine zv_cl ht rfl rfl rfl rfl (by omega) (Nat.le_of_ble_eq_true rfl) (C39 _ ?_)
    show zEv d 144 57 [.ref 1592, .int (Int32.ofNat n), .int 13, .int p, .int q, .int a, .int b, .int ((a &&& b) &&& (1 : Int32)), .int (Int32.ofNat (znt (((a &&& (4 : Int32)) = 4) ∨ (((a &&& (1 : Int32)) = 1) ∧ ((b &&& (4 : Int32)) = 4))) 4 0)), .retAddr 0] [.int (zbo (((a ||| b) &&& (32 : Int32)) = 32))] S post
    refine zv_c2 (L' := [.ref 1592, .int (Int32.ofNat n), .int 13, .int p, .int q, .int a, .int b, .int ((a &&& b) &&& (1 : Int32)), .int (Int32.ofNat (znt (((a &&& (4 : Int32)) = 4) ∨ (((a &&& (1 : Int32)) = 1) ∧ ((b &&& (4 : Int32)) = 4))) 4 0)), .int (zbo (((a ||| b) &&& (32 : Int32)) = 32))]) ht rfl rfl ?_
    refine zv_c1 ht rfl rfl ?_
    refine zv_sw ht rfl rfl rfl rfl rfl ?_
    refine And.intro (fun h => absurd h (by decide)) (fun _ => ?_)
    refine And.intro (fun h => absurd h (by decide)) (fun _ => ?_)
    refine And.intro (fun _ => ?_) (fun h => absurd (by decide) h)
    refine zv_c1 ht rfl rfl ?_
    have J138 : ((¬ (p = 0)) ∨ (¬ ((a &&& (8 : Int32)) = 8)) ∨ (¬ (q = 3)) ∨ (¬ ((b &&& (8 : Int32)) = 8))) → zEv d 144 341 [.retAddr 0, .retAddr 0, .retAddr 0, .retAddr 0, .retAddr 0, .retAddr 0, .retAddr 0, .retAddr 0, .retAddr 0, .retAddr 0] [] S post := by
      intro b139
      exact zv_rt ht rfl rfl rfl rfl (h2 b139)
    refine zv_br ht rfl rfl rfl (fun b45 => ?_) (fun b45 => ?_)
    · exact zEv.wk (L := [.retAddr 0, .retAddr 0, .retAddr 0, .retAddr 0, .retAddr 0, .retAddr 0, .retAddr 0, .retAddr 0, .retAddr 0, .retAddr 0]) (L' := [.ref 1592, .int (Int32.ofNat n), .int 13, .int p, .int q, .int a, .int b, .int ((a &&& b) &&& (1 : Int32)), .int (Int32.ofNat (znt (((a &&& (4 : Int32)) = 4) ∨ (((a &&& (1 : Int32)) = 1) ∧ ((b &&& (4 : Int32)) = 4))) 4 0)), .int (zbo (((a ||| b) &&& (32 : Int32)) = 32))]) (And.intro (Or.inr rfl) (And.intro (Or.inr rfl) (And.intro (Or.inr rfl) (And.intro (Or.inr rfl) (And.intro (Or.inr rfl) (And.intro (Or.inr rfl) (And.intro (Or.inr rfl) (And.intro (Or.inr rfl) (And.intro (Or.inr rfl) (And.intro (Or.inr rfl) trivial)))))))))) (J138 (Or.inl b45))
    · replace b45 : p = 0 := Classical.not_not.mp b45
      refine zv_c1 ht rfl rfl (zv_c1 ht rfl rfl ?_)
      have C47 : ∀ (pst46 : Outcome × zS → Prop), (pst46 (.returned (some (.int (zbo ((a &&& (8 : Int32)) = 8)))), S)) → zCall (d - 1) 139 [.int a, .int 8] S pst46 := by
        intro pst46 k52
        have ht48 : ztab 139 = ztb139 := rfl
        show zEv (d - 1) 139 0 [.int a, .int 8] [] S pst46
        refine zv_c1 ht48 rfl rfl (zv_c1 ht48 rfl rfl ?_)
        refine zv_c1 (st' := [.int (a &&& (8 : Int32))]) (S' := S) ht48 rfl rfl ?_
        refine zv_c1 ht48 rfl rfl ?_
        have J50 : zEv (d - 1) 139 12 [.retAddr 0, .retAddr 0] [.int (zbo ((a &&& (8 : Int32)) = 8))] S pst46 := by
          exact zv_rc ht48 rfl rfl rfl rfl zbo_rng k52
        refine zv_br ht48 rfl rfl rfl (fun b49 => ?_) (fun b49 => ?_)
        · refine zv_c1 ht48 rfl rfl ?_
          exact zEv.wk (L := [.retAddr 0, .retAddr 0]) (L' := [.int a, .int 8]) (And.intro (Or.inr rfl) (And.intro (Or.inr rfl) trivial)) (zv_sub (zz := zbo ((a &&& (8 : Int32)) = 8)) (zy := 0) (p := fun zz => zEv (d - 1) 139 12 [.retAddr 0, .retAddr 0] [.int zz] S pst46) (zbo_neg b49) J50)
        · replace b49 : (a &&& (8 : Int32)) = 8 := Classical.not_not.mp b49
          refine zv_c1 ht48 rfl rfl (zv_c1 ht48 rfl rfl ?_)
          exact zEv.wk (L := [.retAddr 0, .retAddr 0]) (L' := [.int a, .int 8]) (And.intro (Or.inr rfl) (And.intro (Or.inr rfl) trivial)) (zv_sub (zz := zbo ((a &&& (8 : Int32)) = 8)) (zy := 1) (p := fun zz => zEv (d - 1) 139 12 [.retAddr 0, .retAddr 0] [.int zz] S pst46) (zbo_pos b49) J50)
      refine zv_cl ht rfl rfl rfl rfl (by omega) (Nat.le_of_ble_eq_true rfl) (C47 _ ?_)
      show zEv d 144 322 [.ref 1592, .int (Int32.ofNat n), .int 13, .int p, .int q, .int a, .int b, .int ((a &&& b) &&& (1 : Int32)), .int (Int32.ofNat (znt (((a &&& (4 : Int32)) = 4) ∨ (((a &&& (1 : Int32)) = 1) ∧ ((b &&& (4 : Int32)) = 4))) 4 0)), .int (zbo (((a ||| b) &&& (32 : Int32)) = 32))] [.int (zbo ((a &&& (8 : Int32)) = 8))] S post
      refine zv_br ht rfl rfl rfl (fun b53 => ?_) (fun b53 => ?_)
      · replace b53 : ¬ ((a &&& (8 : Int32)) = 8) := (zbo_eq0 : (zbo ((a &&& (8 : Int32)) = 8)) = 0 ↔ ¬ ((a &&& (8 : Int32)) = 8)).mp b53
        exact zEv.wk (L := [.retAddr 0, .retAddr 0, .retAddr 0, .retAddr 0, .retAddr 0, .retAddr 0, .retAddr 0, .retAddr 0, .retAddr 0, .retAddr 0]) (L' := [.ref 1592, .int (Int32.ofNat n), .int 13, .int p, .int q, .int a, .int b, .int ((a &&& b) &&& (1 : Int32)), .int (Int32.ofNat (znt (((a &&& (4 : Int32)) = 4) ∨ (((a &&& (1 : Int32)) = 1) ∧ ((b &&& (4 : Int32)) = 4))) 4 0)), .int (zbo (((a ||| b) &&& (32 : Int32)) = 32))]) (And.intro (Or.inr rfl) (And.intro (Or.inr rfl) (And.intro (Or.inr rfl) (And.intro (Or.inr rfl) (And.intro (Or.inr rfl) (And.intro (Or.inr rfl) (And.intro (Or.inr rfl) (And.intro (Or.inr rfl) (And.intro (Or.inr rfl) (And.intro (Or.inr rfl) trivial)))))))))) (J138 (Or.inr (Or.inl b53)))
      · replace b53 : (a &&& (8 : Int32)) = 8 := Classical.byContradiction (fun h => b53 ((zbo_eq0 : (zbo ((a &&& (8 : Int32)) = 8)) = 0 ↔ ¬ ((a &&& (8 : Int32)) = 8)).mpr h))
        refine zv_c1 ht rfl rfl (zv_c1 ht rfl rfl ?_)
        refine zv_br ht rfl rfl rfl (fun b54 => ?_) (fun b54 => ?_)
        · exact zEv.wk (L := [.retAddr 0, .retAddr 0, .retAddr 0, .retAddr 0, .retAddr 0, .retAddr 0, .retAddr 0, .retAddr 0, .retAddr 0, .retAddr 0]) (L' := [.ref 1592, .int (Int32.ofNat n), .int 13, .int p, .int q, .int a, .int b, .int ((a &&& b) &&& (1 : Int32)), .int (Int32.ofNat (znt (((a &&& (4 : Int32)) = 4) ∨ (((a &&& (1 : Int32)) = 1) ∧ ((b &&& (4 : Int32)) = 4))) 4 0)), .int (zbo (((a ||| b) &&& (32 : Int32)) = 32))]) (And.intro (Or.inr rfl) (And.intro (Or.inr rfl) (And.intro (Or.inr rfl) (And.intro (Or.inr rfl) (And.intro (Or.inr rfl) (And.intro (Or.inr rfl) (And.intro (Or.inr rfl) (And.intro (Or.inr rfl) (And.intro (Or.inr rfl) (And.intro (Or.inr rfl) trivial)))))))))) (J138 (Or.inr (Or.inr (Or.inl b54))))
        · replace b54 : q = 3 := Classical.not_not.mp b54
          refine zv_c1 ht rfl rfl (zv_c1 ht rfl rfl ?_)
          have C56 : ∀ (pst55 : Outcome × zS → Prop), (pst55 (.returned (some (.int (zbo ((b &&& (8 : Int32)) = 8)))), S)) → zCall (d - 1) 139 [.int b, .int 8] S pst55 := by
            intro pst55 k61
            have ht57 : ztab 139 = ztb139 := rfl
            show zEv (d - 1) 139 0 [.int b, .int 8] [] S pst55
            refine zv_c1 ht57 rfl rfl (zv_c1 ht57 rfl rfl ?_)
            refine zv_c1 (st' := [.int (b &&& (8 : Int32))]) (S' := S) ht57 rfl rfl ?_
            refine zv_c1 ht57 rfl rfl ?_
            have J59 : zEv (d - 1) 139 12 [.retAddr 0, .retAddr 0] [.int (zbo ((b &&& (8 : Int32)) = 8))] S pst55 := by
              exact zv_rc ht57 rfl rfl rfl rfl zbo_rng k61
            refine zv_br ht57 rfl rfl rfl (fun b58 => ?_) (fun b58 => ?_)
            · refine zv_c1 ht57 rfl rfl ?_
              exact zEv.wk (L := [.retAddr 0, .retAddr 0]) (L' := [.int b, .int 8]) (And.intro (Or.inr rfl) (And.intro (Or.inr rfl) trivial)) (zv_sub (zz := zbo ((b &&& (8 : Int32)) = 8)) (zy := 0) (p := fun zz => zEv (d - 1) 139 12 [.retAddr 0, .retAddr 0] [.int zz] S pst55) (zbo_neg b58) J59)
            · replace b58 : (b &&& (8 : Int32)) = 8 := Classical.not_not.mp b58
              refine zv_c1 ht57 rfl rfl (zv_c1 ht57 rfl rfl ?_)
              exact zEv.wk (L := [.retAddr 0, .retAddr 0]) (L' := [.int b, .int 8]) (And.intro (Or.inr rfl) (And.intro (Or.inr rfl) trivial)) (zv_sub (zz := zbo ((b &&& (8 : Int32)) = 8)) (zy := 1) (p := fun zz => zEv (d - 1) 139 12 [.retAddr 0, .retAddr 0] [.int zz] S pst55) (zbo_pos b58) J59)
          refine zv_cl ht rfl rfl rfl rfl (by omega) (Nat.le_of_ble_eq_true rfl) (C56 _ ?_)
          show zEv d 144 338 [.ref 1592, .int (Int32.ofNat n), .int 13, .int p, .int q, .int a, .int b, .int ((a &&& b) &&& (1 : Int32)), .int (Int32.ofNat (znt (((a &&& (4 : Int32)) = 4) ∨ (((a &&& (1 : Int32)) = 1) ∧ ((b &&& (4 : Int32)) = 4))) 4 0)), .int (zbo (((a ||| b) &&& (32 : Int32)) = 32))] [.int (zbo ((b &&& (8 : Int32)) = 8))] S post
          refine zv_br ht rfl rfl rfl (fun b62 => ?_) (fun b62 => ?_)
          · replace b62 : (b &&& (8 : Int32)) = 8 := Classical.byContradiction (fun h => b62 ((zbo_eq0 : (zbo ((b &&& (8 : Int32)) = 8)) = 0 ↔ ¬ ((b &&& (8 : Int32)) = 8)).mpr h))
            refine zv_c1 ht rfl rfl (zv_c1 ht rfl rfl (zv_c1 ht rfl rfl (zv_c1 ht rfl rfl (zv_c1 ht rfl rfl (zv_c1 ht rfl rfl ?_)))))
            have C64 : ∀ (pst63 : Outcome × zS → Prop), (pst63 (.returned (some (.int (Int32.ofNat (znt ((((a &&& (2 : Int32)) = 2) ∧ ((b &&& (1 : Int32)) = 1)) ∨ (((a &&& (1 : Int32)) = 1) ∧ ((b &&& (2 : Int32)) = 2))) 2 0)))), S)) → zCall (d - 1) 145 [.int a, .int b] S pst63 := by
              intro pst63 k113
              have ht65 : ztab 145 = ztb145 := rfl
              show zEv (d - 1) 145 0 [.int a, .int b] [] S pst63
              refine zv_c1 ht65 rfl rfl (zv_c1 ht65 rfl rfl ?_)
              have C67 : ∀ (pst66 : Outcome × zS → Prop), (pst66 (.returned (some (.int (zbo ((a &&& (2 : Int32)) = 2)))), S)) → zCall ((d - 1) - 1) 139 [.int a, .int 2] S pst66 := by
                intro pst66 k72
                have ht68 : ztab 139 = ztb139 := rfl
                show zEv ((d - 1) - 1) 139 0 [.int a, .int 2] [] S pst66
                refine zv_c1 ht68 rfl rfl (zv_c1 ht68 rfl rfl ?_)
                refine zv_c1 (st' := [.int (a &&& (2 : Int32))]) (S' := S) ht68 rfl rfl ?_
                refine zv_c1 ht68 rfl rfl ?_
                have J70 : zEv ((d - 1) - 1) 139 12 [.retAddr 0, .retAddr 0] [.int (zbo ((a &&& (2 : Int32)) = 2))] S pst66 := by
                  exact zv_rc ht68 rfl rfl rfl rfl zbo_rng k72
                refine zv_br ht68 rfl rfl rfl (fun b69 => ?_) (fun b69 => ?_)
                · refine zv_c1 ht68 rfl rfl ?_
                  exact zEv.wk (L := [.retAddr 0, .retAddr 0]) (L' := [.int a, .int 2]) (And.intro (Or.inr rfl) (And.intro (Or.inr rfl) trivial)) (zv_sub (zz := zbo ((a &&& (2 : Int32)) = 2)) (zy := 0) (p := fun zz => zEv ((d - 1) - 1) 139 12 [.retAddr 0, .retAddr 0] [.int zz] S pst66) (zbo_neg b69) J70)
                · replace b69 : (a &&& (2 : Int32)) = 2 := Classical.not_not.mp b69
                  refine zv_c1 ht68 rfl rfl (zv_c1 ht68 rfl rfl ?_)
                  exact zEv.wk (L := [.retAddr 0, .retAddr 0]) (L' := [.int a, .int 2]) (And.intro (Or.inr rfl) (And.intro (Or.inr rfl) trivial)) (zv_sub (zz := zbo ((a &&& (2 : Int32)) = 2)) (zy := 1) (p := fun zz => zEv ((d - 1) - 1) 139 12 [.retAddr 0, .retAddr 0] [.int zz] S pst66) (zbo_pos b69) J70)
              refine zv_cl ht65 rfl rfl rfl rfl (by omega) (Nat.le_of_ble_eq_true rfl) (C67 _ ?_)
              show zEv (d - 1) 145 5 [.int a, .int b] [.int (zbo ((a &&& (2 : Int32)) = 2))] S pst63
              have J104 : zEv (d - 1) 145 37 [.retAddr 0, .retAddr 0] [.int (zbo ((((a &&& (2 : Int32)) = 2) ∧ ((b &&& (1 : Int32)) = 1)) ∨ (((a &&& (1 : Int32)) = 1) ∧ ((b &&& (2 : Int32)) = 2))))] S pst63 := by
                refine zv_c1 ht65 rfl rfl ?_
                have C107 : ∀ (pst106 : Outcome × zS → Prop), (pst106 (.returned (some (.int (Int32.ofNat (znt ((((a &&& (2 : Int32)) = 2) ∧ ((b &&& (1 : Int32)) = 1)) ∨ (((a &&& (1 : Int32)) = 1) ∧ ((b &&& (2 : Int32)) = 2))) 2 0)))), S)) → zCall ((d - 1) - 1) 140 [.int (zbo ((((a &&& (2 : Int32)) = 2) ∧ ((b &&& (1 : Int32)) = 1)) ∨ (((a &&& (1 : Int32)) = 1) ∧ ((b &&& (2 : Int32)) = 2)))), .int 2] S pst106 := by
                  intro pst106 k112
                  have ht108 : ztab 140 = ztb140 := rfl
                  show zEv ((d - 1) - 1) 140 0 [.int (zbo ((((a &&& (2 : Int32)) = 2) ∧ ((b &&& (1 : Int32)) = 1)) ∨ (((a &&& (1 : Int32)) = 1) ∧ ((b &&& (2 : Int32)) = 2)))), .int 2] [] S pst106
                  refine zv_c1 ht108 rfl rfl ?_
                  have J110 : zEv ((d - 1) - 1) 140 9 [.retAddr 0, .retAddr 0] [.int (Int32.ofNat (znt ((((a &&& (2 : Int32)) = 2) ∧ ((b &&& (1 : Int32)) = 1)) ∨ (((a &&& (1 : Int32)) = 1) ∧ ((b &&& (2 : Int32)) = 2))) 2 0))] S pst106 := by
                    exact zv_rt ht108 rfl rfl rfl rfl k112
                  refine zv_br ht108 rfl rfl rfl (fun b109 => ?_) (fun b109 => ?_)
                  · replace b109 : ¬ ((((a &&& (2 : Int32)) = 2) ∧ ((b &&& (1 : Int32)) = 1)) ∨ (((a &&& (1 : Int32)) = 1) ∧ ((b &&& (2 : Int32)) = 2))) := (zbo_eq0 : (zbo ((((a &&& (2 : Int32)) = 2) ∧ ((b &&& (1 : Int32)) = 1)) ∨ (((a &&& (1 : Int32)) = 1) ∧ ((b &&& (2 : Int32)) = 2)))) = 0 ↔ ¬ ((((a &&& (2 : Int32)) = 2) ∧ ((b &&& (1 : Int32)) = 1)) ∨ (((a &&& (1 : Int32)) = 1) ∧ ((b &&& (2 : Int32)) = 2)))).mp b109
                    refine zv_c1 ht108 rfl rfl ?_
                    exact zEv.wk (L := [.retAddr 0, .retAddr 0]) (L' := [.int (zbo ((((a &&& (2 : Int32)) = 2) ∧ ((b &&& (1 : Int32)) = 1)) ∨ (((a &&& (1 : Int32)) = 1) ∧ ((b &&& (2 : Int32)) = 2)))), .int 2]) (And.intro (Or.inr rfl) (And.intro (Or.inr rfl) trivial)) (zv_sub (zz := Int32.ofNat (znt ((((a &&& (2 : Int32)) = 2) ∧ ((b &&& (1 : Int32)) = 1)) ∨ (((a &&& (1 : Int32)) = 1) ∧ ((b &&& (2 : Int32)) = 2))) 2 0)) (zy := 0) (p := fun zz => zEv ((d - 1) - 1) 140 9 [.retAddr 0, .retAddr 0] [.int zz] S pst106) (congrArg Int32.ofNat (znt_neg b109)) J110)
                  · replace b109 : (((a &&& (2 : Int32)) = 2) ∧ ((b &&& (1 : Int32)) = 1)) ∨ (((a &&& (1 : Int32)) = 1) ∧ ((b &&& (2 : Int32)) = 2)) := Classical.byContradiction (fun h => b109 ((zbo_eq0 : (zbo ((((a &&& (2 : Int32)) = 2) ∧ ((b &&& (1 : Int32)) = 1)) ∨ (((a &&& (1 : Int32)) = 1) ∧ ((b &&& (2 : Int32)) = 2)))) = 0 ↔ ¬ ((((a &&& (2 : Int32)) = 2) ∧ ((b &&& (1 : Int32)) = 1)) ∨ (((a &&& (1 : Int32)) = 1) ∧ ((b &&& (2 : Int32)) = 2)))).mpr h))
                    refine zv_c1 ht108 rfl rfl (zv_c1 ht108 rfl rfl ?_)
                    exact zEv.wk (L := [.retAddr 0, .retAddr 0]) (L' := [.int (zbo ((((a &&& (2 : Int32)) = 2) ∧ ((b &&& (1 : Int32)) = 1)) ∨ (((a &&& (1 : Int32)) = 1) ∧ ((b &&& (2 : Int32)) = 2)))), .int 2]) (And.intro (Or.inr rfl) (And.intro (Or.inr rfl) trivial)) (zv_sub (zz := Int32.ofNat (znt ((((a &&& (2 : Int32)) = 2) ∧ ((b &&& (1 : Int32)) = 1)) ∨ (((a &&& (1 : Int32)) = 1) ∧ ((b &&& (2 : Int32)) = 2))) 2 0)) (zy := 2) (p := fun zz => zEv ((d - 1) - 1) 140 9 [.retAddr 0, .retAddr 0] [.int zz] S pst106) (congrArg Int32.ofNat (znt_pos b109)) J110)
                refine zv_cl ht65 rfl rfl rfl rfl (by omega) (Nat.le_of_ble_eq_true rfl) (C107 _ ?_)
                show zEv (d - 1) 145 41 [.retAddr 0, .retAddr 0] [.int (Int32.ofNat (znt ((((a &&& (2 : Int32)) = 2) ∧ ((b &&& (1 : Int32)) = 1)) ∨ (((a &&& (1 : Int32)) = 1) ∧ ((b &&& (2 : Int32)) = 2))) 2 0))] S pst63
                exact zv_rt ht65 rfl rfl rfl rfl k113
              have J102 : ((((a &&& (2 : Int32)) = 2) ∧ ((b &&& (1 : Int32)) = 1)) ∨ (((a &&& (1 : Int32)) = 1) ∧ ((b &&& (2 : Int32)) = 2))) → zEv (d - 1) 145 32 [.retAddr 0, .retAddr 0] [] S pst63 := by
                intro b103
                refine zv_c1 ht65 rfl rfl (zv_c1 ht65 rfl rfl ?_)
                exact (zv_sub (zz := zbo ((((a &&& (2 : Int32)) = 2) ∧ ((b &&& (1 : Int32)) = 1)) ∨ (((a &&& (1 : Int32)) = 1) ∧ ((b &&& (2 : Int32)) = 2)))) (zy := 1) (p := fun zz => zEv (d - 1) 145 37 [.retAddr 0, .retAddr 0] [.int zz] S pst63) (zbo_pos b103) J104)
              have J82 : ((¬ ((a &&& (2 : Int32)) = 2)) ∨ (¬ ((b &&& (1 : Int32)) = 1))) → zEv (d - 1) 145 16 [.int a, .int b] [] S pst63 := by
                intro b83
                refine zv_c1 ht65 rfl rfl (zv_c1 ht65 rfl rfl ?_)
                have C85 : ∀ (pst84 : Outcome × zS → Prop), (pst84 (.returned (some (.int (zbo ((a &&& (1 : Int32)) = 1)))), S)) → zCall ((d - 1) - 1) 139 [.int a, .int 1] S pst84 := by
                  intro pst84 k90
                  have ht86 : ztab 139 = ztb139 := rfl
                  show zEv ((d - 1) - 1) 139 0 [.int a, .int 1] [] S pst84
                  refine zv_c1 ht86 rfl rfl (zv_c1 ht86 rfl rfl ?_)
                  refine zv_c1 (st' := [.int (a &&& (1 : Int32))]) (S' := S) ht86 rfl rfl ?_
                  refine zv_c1 ht86 rfl rfl ?_
                  have J88 : zEv ((d - 1) - 1) 139 12 [.retAddr 0, .retAddr 0] [.int (zbo ((a &&& (1 : Int32)) = 1))] S pst84 := by
                    exact zv_rc ht86 rfl rfl rfl rfl zbo_rng k90
                  refine zv_br ht86 rfl rfl rfl (fun b87 => ?_) (fun b87 => ?_)
                  · refine zv_c1 ht86 rfl rfl ?_
                    exact zEv.wk (L := [.retAddr 0, .retAddr 0]) (L' := [.int a, .int 1]) (And.intro (Or.inr rfl) (And.intro (Or.inr rfl) trivial)) (zv_sub (zz := zbo ((a &&& (1 : Int32)) = 1)) (zy := 0) (p := fun zz => zEv ((d - 1) - 1) 139 12 [.retAddr 0, .retAddr 0] [.int zz] S pst84) (zbo_neg b87) J88)
                  · replace b87 : (a &&& (1 : Int32)) = 1 := Classical.not_not.mp b87
                    refine zv_c1 ht86 rfl rfl (zv_c1 ht86 rfl rfl ?_)
                    exact zEv.wk (L := [.retAddr 0, .retAddr 0]) (L' := [.int a, .int 1]) (And.intro (Or.inr rfl) (And.intro (Or.inr rfl) trivial)) (zv_sub (zz := zbo ((a &&& (1 : Int32)) = 1)) (zy := 1) (p := fun zz => zEv ((d - 1) - 1) 139 12 [.retAddr 0, .retAddr 0] [.int zz] S pst84) (zbo_pos b87) J88)
                refine zv_cl ht65 rfl rfl rfl rfl (by omega) (Nat.le_of_ble_eq_true rfl) (C85 _ ?_)
                show zEv (d - 1) 145 21 [.int a, .int b] [.int (zbo ((a &&& (1 : Int32)) = 1))] S pst63
                have J100 : ((¬ ((a &&& (1 : Int32)) = 1)) ∨ (¬ ((b &&& (2 : Int32)) = 2))) → zEv (d - 1) 145 36 [.retAddr 0, .retAddr 0] [] S pst63 := by
                  intro b101
                  refine zv_c1 ht65 rfl rfl ?_
                  exact (zv_sub (zz := zbo ((((a &&& (2 : Int32)) = 2) ∧ ((b &&& (1 : Int32)) = 1)) ∨ (((a &&& (1 : Int32)) = 1) ∧ ((b &&& (2 : Int32)) = 2)))) (zy := 0) (p := fun zz => zEv (d - 1) 145 37 [.retAddr 0, .retAddr 0] [.int zz] S pst63) (zbo_neg (b83.elim (fun y1 => (b101.elim (fun y2 => (fun h => h.elim (fun h => y1 h.1) (fun h => y2 h.1))) (fun y2 => (fun h => h.elim (fun h => y1 h.1) (fun h => y2 h.2))))) (fun y1 => (b101.elim (fun y2 => (fun h => h.elim (fun h => y1 h.2) (fun h => y2 h.1))) (fun y2 => (fun h => h.elim (fun h => y1 h.2) (fun h => y2 h.2))))))) J104)
                refine zv_br ht65 rfl rfl rfl (fun b91 => ?_) (fun b91 => ?_)
                · replace b91 : ¬ ((a &&& (1 : Int32)) = 1) := (zbo_eq0 : (zbo ((a &&& (1 : Int32)) = 1)) = 0 ↔ ¬ ((a &&& (1 : Int32)) = 1)).mp b91
                  exact zEv.wk (L := [.retAddr 0, .retAddr 0]) (L' := [.int a, .int b]) (And.intro (Or.inr rfl) (And.intro (Or.inr rfl) trivial)) (J100 (Or.inl b91))
                · replace b91 : (a &&& (1 : Int32)) = 1 := Classical.byContradiction (fun h => b91 ((zbo_eq0 : (zbo ((a &&& (1 : Int32)) = 1)) = 0 ↔ ¬ ((a &&& (1 : Int32)) = 1)).mpr h))
                  refine zv_c1 ht65 rfl rfl (zv_c1 ht65 rfl rfl ?_)
                  have C93 : ∀ (pst92 : Outcome × zS → Prop), (pst92 (.returned (some (.int (zbo ((b &&& (2 : Int32)) = 2)))), S)) → zCall ((d - 1) - 1) 139 [.int b, .int 2] S pst92 := by
                    intro pst92 k98
                    have ht94 : ztab 139 = ztb139 := rfl
                    show zEv ((d - 1) - 1) 139 0 [.int b, .int 2] [] S pst92
                    refine zv_c1 ht94 rfl rfl (zv_c1 ht94 rfl rfl ?_)
                    refine zv_c1 (st' := [.int (b &&& (2 : Int32))]) (S' := S) ht94 rfl rfl ?_
                    refine zv_c1 ht94 rfl rfl ?_
                    have J96 : zEv ((d - 1) - 1) 139 12 [.retAddr 0, .retAddr 0] [.int (zbo ((b &&& (2 : Int32)) = 2))] S pst92 := by
                      exact zv_rc ht94 rfl rfl rfl rfl zbo_rng k98
                    refine zv_br ht94 rfl rfl rfl (fun b95 => ?_) (fun b95 => ?_)
                    · refine zv_c1 ht94 rfl rfl ?_
                      exact zEv.wk (L := [.retAddr 0, .retAddr 0]) (L' := [.int b, .int 2]) (And.intro (Or.inr rfl) (And.intro (Or.inr rfl) trivial)) (zv_sub (zz := zbo ((b &&& (2 : Int32)) = 2)) (zy := 0) (p := fun zz => zEv ((d - 1) - 1) 139 12 [.retAddr 0, .retAddr 0] [.int zz] S pst92) (zbo_neg b95) J96)
                    · replace b95 : (b &&& (2 : Int32)) = 2 := Classical.not_not.mp b95
                      refine zv_c1 ht94 rfl rfl (zv_c1 ht94 rfl rfl ?_)
                      exact zEv.wk (L := [.retAddr 0, .retAddr 0]) (L' := [.int b, .int 2]) (And.intro (Or.inr rfl) (And.intro (Or.inr rfl) trivial)) (zv_sub (zz := zbo ((b &&& (2 : Int32)) = 2)) (zy := 1) (p := fun zz => zEv ((d - 1) - 1) 139 12 [.retAddr 0, .retAddr 0] [.int zz] S pst92) (zbo_pos b95) J96)
                  refine zv_cl ht65 rfl rfl rfl rfl (by omega) (Nat.le_of_ble_eq_true rfl) (C93 _ ?_)
                  show zEv (d - 1) 145 29 [.int a, .int b] [.int (zbo ((b &&& (2 : Int32)) = 2))] S pst63
                  refine zv_br ht65 rfl rfl rfl (fun b99 => ?_) (fun b99 => ?_)
                  · replace b99 : ¬ ((b &&& (2 : Int32)) = 2) := (zbo_eq0 : (zbo ((b &&& (2 : Int32)) = 2)) = 0 ↔ ¬ ((b &&& (2 : Int32)) = 2)).mp b99
                    exact zEv.wk (L := [.retAddr 0, .retAddr 0]) (L' := [.int a, .int b]) (And.intro (Or.inr rfl) (And.intro (Or.inr rfl) trivial)) (J100 (Or.inr b99))
                  · replace b99 : (b &&& (2 : Int32)) = 2 := Classical.byContradiction (fun h => b99 ((zbo_eq0 : (zbo ((b &&& (2 : Int32)) = 2)) = 0 ↔ ¬ ((b &&& (2 : Int32)) = 2)).mpr h))
                    exact zEv.wk (L := [.retAddr 0, .retAddr 0]) (L' := [.int a, .int b]) (And.intro (Or.inr rfl) (And.intro (Or.inr rfl) trivial)) (J102 (Or.inr ⟨b91, b99⟩))
              refine zv_br ht65 rfl rfl rfl (fun b73 => ?_) (fun b73 => ?_)
              · replace b73 : ¬ ((a &&& (2 : Int32)) = 2) := (zbo_eq0 : (zbo ((a &&& (2 : Int32)) = 2)) = 0 ↔ ¬ ((a &&& (2 : Int32)) = 2)).mp b73
                exact (J82 (Or.inl b73))
              · replace b73 : (a &&& (2 : Int32)) = 2 := Classical.byContradiction (fun h => b73 ((zbo_eq0 : (zbo ((a &&& (2 : Int32)) = 2)) = 0 ↔ ¬ ((a &&& (2 : Int32)) = 2)).mpr h))
                refine zv_c1 ht65 rfl rfl (zv_c1 ht65 rfl rfl ?_)
                have C75 : ∀ (pst74 : Outcome × zS → Prop), (pst74 (.returned (some (.int (zbo ((b &&& (1 : Int32)) = 1)))), S)) → zCall ((d - 1) - 1) 139 [.int b, .int 1] S pst74 := by
                  intro pst74 k80
                  have ht76 : ztab 139 = ztb139 := rfl
                  show zEv ((d - 1) - 1) 139 0 [.int b, .int 1] [] S pst74
                  refine zv_c1 ht76 rfl rfl (zv_c1 ht76 rfl rfl ?_)
                  refine zv_c1 (st' := [.int (b &&& (1 : Int32))]) (S' := S) ht76 rfl rfl ?_
                  refine zv_c1 ht76 rfl rfl ?_
                  have J78 : zEv ((d - 1) - 1) 139 12 [.retAddr 0, .retAddr 0] [.int (zbo ((b &&& (1 : Int32)) = 1))] S pst74 := by
                    exact zv_rc ht76 rfl rfl rfl rfl zbo_rng k80
                  refine zv_br ht76 rfl rfl rfl (fun b77 => ?_) (fun b77 => ?_)
                  · refine zv_c1 ht76 rfl rfl ?_
                    exact zEv.wk (L := [.retAddr 0, .retAddr 0]) (L' := [.int b, .int 1]) (And.intro (Or.inr rfl) (And.intro (Or.inr rfl) trivial)) (zv_sub (zz := zbo ((b &&& (1 : Int32)) = 1)) (zy := 0) (p := fun zz => zEv ((d - 1) - 1) 139 12 [.retAddr 0, .retAddr 0] [.int zz] S pst74) (zbo_neg b77) J78)
                  · replace b77 : (b &&& (1 : Int32)) = 1 := Classical.not_not.mp b77
                    refine zv_c1 ht76 rfl rfl (zv_c1 ht76 rfl rfl ?_)
                    exact zEv.wk (L := [.retAddr 0, .retAddr 0]) (L' := [.int b, .int 1]) (And.intro (Or.inr rfl) (And.intro (Or.inr rfl) trivial)) (zv_sub (zz := zbo ((b &&& (1 : Int32)) = 1)) (zy := 1) (p := fun zz => zEv ((d - 1) - 1) 139 12 [.retAddr 0, .retAddr 0] [.int zz] S pst74) (zbo_pos b77) J78)
                refine zv_cl ht65 rfl rfl rfl rfl (by omega) (Nat.le_of_ble_eq_true rfl) (C75 _ ?_)
                show zEv (d - 1) 145 13 [.int a, .int b] [.int (zbo ((b &&& (1 : Int32)) = 1))] S pst63
                refine zv_br ht65 rfl rfl rfl (fun b81 => ?_) (fun b81 => ?_)
                · replace b81 : (b &&& (1 : Int32)) = 1 := Classical.byContradiction (fun h => b81 ((zbo_eq0 : (zbo ((b &&& (1 : Int32)) = 1)) = 0 ↔ ¬ ((b &&& (1 : Int32)) = 1)).mpr h))
                  exact zEv.wk (L := [.retAddr 0, .retAddr 0]) (L' := [.int a, .int b]) (And.intro (Or.inr rfl) (And.intro (Or.inr rfl) trivial)) (J102 (Or.inl ⟨b73, b81⟩))
                · replace b81 : ¬ ((b &&& (1 : Int32)) = 1) := (zbo_eq0 : (zbo ((b &&& (1 : Int32)) = 1)) = 0 ↔ ¬ ((b &&& (1 : Int32)) = 1)).mp (Classical.not_not.mp b81)
                  exact (J82 (Or.inr b81))
            refine zv_cl ht rfl rfl rfl rfl (by omega) (Nat.le_of_ble_eq_true rfl) (C64 _ ?_)
            show zEv d 144 354 [.ref 1592, .int (Int32.ofNat n), .int 13, .int p, .int q, .int a, .int b, .int ((a &&& b) &&& (1 : Int32)), .int (Int32.ofNat (znt (((a &&& (4 : Int32)) = 4) ∨ (((a &&& (1 : Int32)) = 1) ∧ ((b &&& (4 : Int32)) = 4))) 4 0)), .int (zbo (((a ||| b) &&& (32 : Int32)) = 32))] [.int (Int32.ofNat (znt ((((a &&& (2 : Int32)) = 2) ∧ ((b &&& (1 : Int32)) = 1)) ∨ (((a &&& (1 : Int32)) = 1) ∧ ((b &&& (2 : Int32)) = 2))) 2 0)), .int ((a &&& b) &&& (1 : Int32)), .int 0, .int (Int32.ofNat n), .ref 1592] S post
            refine zv_c1 (st' := [.int (((a &&& b) &&& (1 : Int32)) ||| (Int32.ofNat (znt ((((a &&& (2 : Int32)) = 2) ∧ ((b &&& (1 : Int32)) = 1)) ∨ (((a &&& (1 : Int32)) = 1) ∧ ((b &&& (2 : Int32)) = 2))) 2 0))), .int 0, .int (Int32.ofNat n), .ref 1592]) (S' := S) ht rfl rfl ?_
            refine zv_c1 ht rfl rfl ?_
            refine zv_c1 (st' := [.int ((((a &&& b) &&& (1 : Int32)) ||| (Int32.ofNat (znt ((((a &&& (2 : Int32)) = 2) ∧ ((b &&& (1 : Int32)) = 1)) ∨ (((a &&& (1 : Int32)) = 1) ∧ ((b &&& (2 : Int32)) = 2))) 2 0))) ||| (8 : Int32)), .int 0, .int (Int32.ofNat n), .ref 1592]) (S' := S) ht rfl rfl ?_
            refine zv_c1 ht rfl rfl ?_
            refine zv_c1 (st' := [.int (((((a &&& b) &&& (1 : Int32)) ||| (Int32.ofNat (znt ((((a &&& (2 : Int32)) = 2) ∧ ((b &&& (1 : Int32)) = 1)) ∨ (((a &&& (1 : Int32)) = 1) ∧ ((b &&& (2 : Int32)) = 2))) 2 0))) ||| (8 : Int32)) ||| (16 : Int32)), .int 0, .int (Int32.ofNat n), .ref 1592]) (S' := S) ht rfl rfl ?_
            refine zv_c1 ht rfl rfl (zv_c1 ht rfl rfl ?_)
            refine zv_c1 (st' := [.int (a &&& b), .int (((((a &&& b) &&& (1 : Int32)) ||| (Int32.ofNat (znt ((((a &&& (2 : Int32)) = 2) ∧ ((b &&& (1 : Int32)) = 1)) ∨ (((a &&& (1 : Int32)) = 1) ∧ ((b &&& (2 : Int32)) = 2))) 2 0))) ||| (8 : Int32)) ||| (16 : Int32)), .int 0, .int (Int32.ofNat n), .ref 1592]) (S' := S) ht rfl rfl ?_
            refine zv_c1 ht rfl rfl ?_
            refine zv_c1 (st' := [.int ((a &&& b) &&& (32 : Int32)), .int (((((a &&& b) &&& (1 : Int32)) ||| (Int32.ofNat (znt ((((a &&& (2 : Int32)) = 2) ∧ ((b &&& (1 : Int32)) = 1)) ∨ (((a &&& (1 : Int32)) = 1) ∧ ((b &&& (2 : Int32)) = 2))) 2 0))) ||| (8 : Int32)) ||| (16 : Int32)), .int 0, .int (Int32.ofNat n), .ref 1592]) (S' := S) ht rfl rfl ?_
            refine zv_c1 (st' := [.int ((((((a &&& b) &&& (1 : Int32)) ||| (Int32.ofNat (znt ((((a &&& (2 : Int32)) = 2) ∧ ((b &&& (1 : Int32)) = 1)) ∨ (((a &&& (1 : Int32)) = 1) ∧ ((b &&& (2 : Int32)) = 2))) 2 0))) ||| (8 : Int32)) ||| (16 : Int32)) ||| ((a &&& b) &&& (32 : Int32))), .int 0, .int (Int32.ofNat n), .ref 1592]) (S' := S) ht rfl rfl ?_
            refine zv_c1 ht rfl rfl ?_
            refine zv_c1 (st' := [.int (((((((a &&& b) &&& (1 : Int32)) ||| (Int32.ofNat (znt ((((a &&& (2 : Int32)) = 2) ∧ ((b &&& (1 : Int32)) = 1)) ∨ (((a &&& (1 : Int32)) = 1) ∧ ((b &&& (2 : Int32)) = 2))) 2 0))) ||| (8 : Int32)) ||| (16 : Int32)) ||| ((a &&& b) &&& (32 : Int32))) ||| (128 : Int32)), .int 0, .int (Int32.ofNat n), .ref 1592]) (S' := S) ht rfl rfl ?_
            refine zv_c1 ht rfl rfl (zv_c1 ht rfl rfl ?_)
            refine zv_c1 (st' := [.int (a &&& b), .int (((((((a &&& b) &&& (1 : Int32)) ||| (Int32.ofNat (znt ((((a &&& (2 : Int32)) = 2) ∧ ((b &&& (1 : Int32)) = 1)) ∨ (((a &&& (1 : Int32)) = 1) ∧ ((b &&& (2 : Int32)) = 2))) 2 0))) ||| (8 : Int32)) ||| (16 : Int32)) ||| ((a &&& b) &&& (32 : Int32))) ||| (128 : Int32)), .int 0, .int (Int32.ofNat n), .ref 1592]) (S' := S) ht rfl rfl ?_
            refine zv_c1 ht rfl rfl ?_
            have C115 : ∀ (pst114 : Outcome × zS → Prop), (pst114 (.returned (some (.int (zbo (((a &&& b) &&& (384 : Int32)) = 384)))), S)) → zCall (d - 1) 139 [.int (a &&& b), .int 384] S pst114 := by
              intro pst114 k120
              have ht116 : ztab 139 = ztb139 := rfl
              show zEv (d - 1) 139 0 [.int (a &&& b), .int 384] [] S pst114
              refine zv_c1 ht116 rfl rfl (zv_c1 ht116 rfl rfl ?_)
              refine zv_c1 (st' := [.int ((a &&& b) &&& (384 : Int32))]) (S' := S) ht116 rfl rfl ?_
              refine zv_c1 ht116 rfl rfl ?_
              have J118 : zEv (d - 1) 139 12 [.retAddr 0, .retAddr 0] [.int (zbo (((a &&& b) &&& (384 : Int32)) = 384))] S pst114 := by
                exact zv_rc ht116 rfl rfl rfl rfl zbo_rng k120
              refine zv_br ht116 rfl rfl rfl (fun b117 => ?_) (fun b117 => ?_)
              · refine zv_c1 ht116 rfl rfl ?_
                exact zEv.wk (L := [.retAddr 0, .retAddr 0]) (L' := [.int (a &&& b), .int 384]) (And.intro (Or.inr rfl) (And.intro (Or.inr rfl) trivial)) (zv_sub (zz := zbo (((a &&& b) &&& (384 : Int32)) = 384)) (zy := 0) (p := fun zz => zEv (d - 1) 139 12 [.retAddr 0, .retAddr 0] [.int zz] S pst114) (zbo_neg b117) J118)
              · replace b117 : ((a &&& b) &&& (384 : Int32)) = 384 := Classical.not_not.mp b117
                refine zv_c1 ht116 rfl rfl (zv_c1 ht116 rfl rfl ?_)
                exact zEv.wk (L := [.retAddr 0, .retAddr 0]) (L' := [.int (a &&& b), .int 384]) (And.intro (Or.inr rfl) (And.intro (Or.inr rfl) trivial)) (zv_sub (zz := zbo (((a &&& b) &&& (384 : Int32)) = 384)) (zy := 1) (p := fun zz => zEv (d - 1) 139 12 [.retAddr 0, .retAddr 0] [.int zz] S pst114) (zbo_pos b117) J118)
            refine zv_cl ht rfl rfl rfl rfl (by omega) (Nat.le_of_ble_eq_true rfl) (C115 _ ?_)
            show zEv d 144 385 [.ref 1592, .int (Int32.ofNat n), .int 13, .int p, .int q, .int a, .int b, .int ((a &&& b) &&& (1 : Int32)), .int (Int32.ofNat (znt (((a &&& (4 : Int32)) = 4) ∨ (((a &&& (1 : Int32)) = 1) ∧ ((b &&& (4 : Int32)) = 4))) 4 0)), .int (zbo (((a ||| b) &&& (32 : Int32)) = 32))] [.int (zbo (((a &&& b) &&& (384 : Int32)) = 384)), .int (((((((a &&& b) &&& (1 : Int32)) ||| (Int32.ofNat (znt ((((a &&& (2 : Int32)) = 2) ∧ ((b &&& (1 : Int32)) = 1)) ∨ (((a &&& (1 : Int32)) = 1) ∧ ((b &&& (2 : Int32)) = 2))) 2 0))) ||| (8 : Int32)) ||| (16 : Int32)) ||| ((a &&& b) &&& (32 : Int32))) ||| (128 : Int32)), .int 0, .int (Int32.ofNat n), .ref 1592] S post
            have J125 : zEv d 144 398 [.retAddr 0, .retAddr 0, .retAddr 0, .retAddr 0, .retAddr 0, .retAddr 0, .retAddr 0, .retAddr 0, .retAddr 0, .retAddr 0] [.int (zbo ((((a &&& b) &&& (384 : Int32)) = 384) ∧ (((a ||| b) &&& (32 : Int32)) = 32))), .int (((((((a &&& b) &&& (1 : Int32)) ||| (Int32.ofNat (znt ((((a &&& (2 : Int32)) = 2) ∧ ((b &&& (1 : Int32)) = 1)) ∨ (((a &&& (1 : Int32)) = 1) ∧ ((b &&& (2 : Int32)) = 2))) 2 0))) ||| (8 : Int32)) ||| (16 : Int32)) ||| ((a &&& b) &&& (32 : Int32))) ||| (128 : Int32)), .int 0, .int (Int32.ofNat n), .ref 1592] S post := by
              refine zv_c1 ht rfl rfl ?_
              have C128 : ∀ (pst127 : Outcome × zS → Prop), (pst127 (.returned (some (.int (Int32.ofNat (znt ((((a &&& b) &&& (384 : Int32)) = 384) ∧ (((a ||| b) &&& (32 : Int32)) = 32)) 256 0)))), S)) → zCall (d - 1) 140 [.int (zbo ((((a &&& b) &&& (384 : Int32)) = 384) ∧ (((a ||| b) &&& (32 : Int32)) = 32))), .int 256] S pst127 := by
                intro pst127 k133
                have ht129 : ztab 140 = ztb140 := rfl
                show zEv (d - 1) 140 0 [.int (zbo ((((a &&& b) &&& (384 : Int32)) = 384) ∧ (((a ||| b) &&& (32 : Int32)) = 32))), .int 256] [] S pst127
                refine zv_c1 ht129 rfl rfl ?_
                have J131 : zEv (d - 1) 140 9 [.retAddr 0, .retAddr 0] [.int (Int32.ofNat (znt ((((a &&& b) &&& (384 : Int32)) = 384) ∧ (((a ||| b) &&& (32 : Int32)) = 32)) 256 0))] S pst127 := by
                  exact zv_rt ht129 rfl rfl rfl rfl k133
                refine zv_br ht129 rfl rfl rfl (fun b130 => ?_) (fun b130 => ?_)
                · replace b130 : ¬ ((((a &&& b) &&& (384 : Int32)) = 384) ∧ (((a ||| b) &&& (32 : Int32)) = 32)) := (zbo_eq0 : (zbo ((((a &&& b) &&& (384 : Int32)) = 384) ∧ (((a ||| b) &&& (32 : Int32)) = 32))) = 0 ↔ ¬ ((((a &&& b) &&& (384 : Int32)) = 384) ∧ (((a ||| b) &&& (32 : Int32)) = 32))).mp b130
                  refine zv_c1 ht129 rfl rfl ?_
                  exact zEv.wk (L := [.retAddr 0, .retAddr 0]) (L' := [.int (zbo ((((a &&& b) &&& (384 : Int32)) = 384) ∧ (((a ||| b) &&& (32 : Int32)) = 32))), .int 256]) (And.intro (Or.inr rfl) (And.intro (Or.inr rfl) trivial)) (zv_sub (zz := Int32.ofNat (znt ((((a &&& b) &&& (384 : Int32)) = 384) ∧ (((a ||| b) &&& (32 : Int32)) = 32)) 256 0)) (zy := 0) (p := fun zz => zEv (d - 1) 140 9 [.retAddr 0, .retAddr 0] [.int zz] S pst127) (congrArg Int32.ofNat (znt_neg b130)) J131)
                · replace b130 : (((a &&& b) &&& (384 : Int32)) = 384) ∧ (((a ||| b) &&& (32 : Int32)) = 32) := Classical.byContradiction (fun h => b130 ((zbo_eq0 : (zbo ((((a &&& b) &&& (384 : Int32)) = 384) ∧ (((a ||| b) &&& (32 : Int32)) = 32))) = 0 ↔ ¬ ((((a &&& b) &&& (384 : Int32)) = 384) ∧ (((a ||| b) &&& (32 : Int32)) = 32))).mpr h))
                  refine zv_c1 ht129 rfl rfl (zv_c1 ht129 rfl rfl ?_)
                  exact zEv.wk (L := [.retAddr 0, .retAddr 0]) (L' := [.int (zbo ((((a &&& b) &&& (384 : Int32)) = 384) ∧ (((a ||| b) &&& (32 : Int32)) = 32))), .int 256]) (And.intro (Or.inr rfl) (And.intro (Or.inr rfl) trivial)) (zv_sub (zz := Int32.ofNat (znt ((((a &&& b) &&& (384 : Int32)) = 384) ∧ (((a ||| b) &&& (32 : Int32)) = 32)) 256 0)) (zy := 256) (p := fun zz => zEv (d - 1) 140 9 [.retAddr 0, .retAddr 0] [.int zz] S pst127) (congrArg Int32.ofNat (znt_pos b130)) J131)
              refine zv_cl ht rfl rfl rfl rfl (by omega) (Nat.le_of_ble_eq_true rfl) (C128 _ ?_)
              show zEv d 144 404 [.retAddr 0, .retAddr 0, .retAddr 0, .retAddr 0, .retAddr 0, .retAddr 0, .retAddr 0, .retAddr 0, .retAddr 0, .retAddr 0] [.int (Int32.ofNat (znt ((((a &&& b) &&& (384 : Int32)) = 384) ∧ (((a ||| b) &&& (32 : Int32)) = 32)) 256 0)), .int (((((((a &&& b) &&& (1 : Int32)) ||| (Int32.ofNat (znt ((((a &&& (2 : Int32)) = 2) ∧ ((b &&& (1 : Int32)) = 1)) ∨ (((a &&& (1 : Int32)) = 1) ∧ ((b &&& (2 : Int32)) = 2))) 2 0))) ||| (8 : Int32)) ||| (16 : Int32)) ||| ((a &&& b) &&& (32 : Int32))) ||| (128 : Int32)), .int 0, .int (Int32.ofNat n), .ref 1592] S post
              refine zv_c1 (st' := [.int ((((((((a &&& b) &&& (1 : Int32)) ||| (Int32.ofNat (znt ((((a &&& (2 : Int32)) = 2) ∧ ((b &&& (1 : Int32)) = 1)) ∨ (((a &&& (1 : Int32)) = 1) ∧ ((b &&& (2 : Int32)) = 2))) 2 0))) ||| (8 : Int32)) ||| (16 : Int32)) ||| ((a &&& b) &&& (32 : Int32))) ||| (128 : Int32)) ||| (Int32.ofNat (znt ((((a &&& b) &&& (384 : Int32)) = 384) ∧ (((a ||| b) &&& (32 : Int32)) = 32)) 256 0))), .int 0, .int (Int32.ofNat n), .ref 1592]) (S' := S) ht rfl rfl ?_
              have C135 : ∀ (pst134 : Outcome × zS → Prop), (pst134 (.returned none, pt13_s1 S n a b)) → zCall (d - 1) 137 [.ref 1592, .int (Int32.ofNat n), .int 0, .int ((((((((a &&& b) &&& (1 : Int32)) ||| (Int32.ofNat (znt ((((a &&& (2 : Int32)) = 2) ∧ ((b &&& (1 : Int32)) = 1)) ∨ (((a &&& (1 : Int32)) = 1) ∧ ((b &&& (2 : Int32)) = 2))) 2 0))) ||| (8 : Int32)) ||| (16 : Int32)) ||| ((a &&& b) &&& (32 : Int32))) ||| (128 : Int32)) ||| (Int32.ofNat (znt ((((a &&& b) &&& (384 : Int32)) = 384) ∧ (((a ||| b) &&& (32 : Int32)) = 32)) 256 0)))] S pst134 := by
                intro pst134 k137
                have ht136 : ztab 137 = ztb137 := rfl
                show zEv (d - 1) 137 0 [.ref 1592, .int (Int32.ofNat n), .int 0, .int ((((((((a &&& b) &&& (1 : Int32)) ||| (Int32.ofNat (znt ((((a &&& (2 : Int32)) = 2) ∧ ((b &&& (1 : Int32)) = 1)) ∨ (((a &&& (1 : Int32)) = 1) ∧ ((b &&& (2 : Int32)) = 2))) 2 0))) ||| (8 : Int32)) ||| (16 : Int32)) ||| ((a &&& b) &&& (32 : Int32))) ||| (128 : Int32)) ||| (Int32.ofNat (znt ((((a &&& b) &&& (384 : Int32)) = 384) ∧ (((a ||| b) &&& (32 : Int32)) = 32)) 256 0)))] [] S pst134
                refine zv_c1 ht136 rfl rfl ?_
                refine zv_gl (st' := [.ref 1616]) ht136 rfl hF rfl rfl rfl ?_
                refine zv_c1 ht136 rfl rfl (zv_c1 ht136 rfl rfl ?_)
                refine zv_is (j := n) (x := 0) ht136 rfl rfl rfl rfl (zi_natE (a := n) rfl (by omega)) ⟨rfl, zi_inE (a := n) (n := 3000) rfl (by omega) (by omega)⟩ ?_
                refine zv_c1 ht136 rfl rfl ?_
                refine zv_gl (st' := [.ref 1617]) ht136 rfl hF rfl rfl rfl ?_
                refine zv_c1 ht136 rfl rfl (zv_c1 ht136 rfl rfl ?_)
                refine zv_is (j := n) (x := (((((((a &&& b) &&& (1 : Int32)) ||| (Int32.ofNat (znt ((((a &&& (2 : Int32)) = 2) ∧ ((b &&& (1 : Int32)) = 1)) ∨ (((a &&& (1 : Int32)) = 1) ∧ ((b &&& (2 : Int32)) = 2))) 2 0))) ||| (8 : Int32)) ||| (16 : Int32)) ||| ((a &&& b) &&& (32 : Int32))) ||| (128 : Int32)) ||| (Int32.ofNat (znt ((((a &&& b) &&& (384 : Int32)) = 384) ∧ (((a ||| b) &&& (32 : Int32)) = 32)) 256 0))) ht136 rfl rfl rfl rfl (zi_natE (a := n) rfl (by omega)) ⟨rfl, zi_inE (a := n) (n := 3000) rfl (by omega) (by omega)⟩ ?_
                exact zv_rt ht136 rfl rfl rfl rfl k137
              refine zv_cl ht rfl rfl rfl rfl (by omega) (Nat.le_of_ble_eq_true rfl) (C135 _ ?_)
              show zEv d 144 408 [.retAddr 0, .retAddr 0, .retAddr 0, .retAddr 0, .retAddr 0, .retAddr 0, .retAddr 0, .retAddr 0, .retAddr 0, .retAddr 0] [] (pt13_s1 S n a b) post
              exact zv_rt ht rfl rfl rfl rfl (h1 b45 b53 b54 b62)
            have J123 : ((¬ (((a &&& b) &&& (384 : Int32)) = 384)) ∨ (¬ (((a ||| b) &&& (32 : Int32)) = 32))) → zEv d 144 397 [.retAddr 0, .retAddr 0, .retAddr 0, .retAddr 0, .retAddr 0, .retAddr 0, .retAddr 0, .retAddr 0, .retAddr 0, .retAddr 0] [.int (((((((a &&& b) &&& (1 : Int32)) ||| (Int32.ofNat (znt ((((a &&& (2 : Int32)) = 2) ∧ ((b &&& (1 : Int32)) = 1)) ∨ (((a &&& (1 : Int32)) = 1) ∧ ((b &&& (2 : Int32)) = 2))) 2 0))) ||| (8 : Int32)) ||| (16 : Int32)) ||| ((a &&& b) &&& (32 : Int32))) ||| (128 : Int32)), .int 0, .int (Int32.ofNat n), .ref 1592] S post := by
              intro b124
              refine zv_c1 ht rfl rfl ?_
              exact (zv_sub (zz := zbo ((((a &&& b) &&& (384 : Int32)) = 384) ∧ (((a ||| b) &&& (32 : Int32)) = 32))) (zy := 0) (p := fun zz => zEv d 144 398 [.retAddr 0, .retAddr 0, .retAddr 0, .retAddr 0, .retAddr 0, .retAddr 0, .retAddr 0, .retAddr 0, .retAddr 0, .retAddr 0] [.int zz, .int (((((((a &&& b) &&& (1 : Int32)) ||| (Int32.ofNat (znt ((((a &&& (2 : Int32)) = 2) ∧ ((b &&& (1 : Int32)) = 1)) ∨ (((a &&& (1 : Int32)) = 1) ∧ ((b &&& (2 : Int32)) = 2))) 2 0))) ||| (8 : Int32)) ||| (16 : Int32)) ||| ((a &&& b) &&& (32 : Int32))) ||| (128 : Int32)), .int 0, .int (Int32.ofNat n), .ref 1592] S post) (zbo_neg (b124.elim (fun y1 => (fun h => y1 h.1)) (fun y1 => (fun h => y1 h.2)))) J125)
            refine zv_br ht rfl rfl rfl (fun b121 => ?_) (fun b121 => ?_)
            · replace b121 : ¬ (((a &&& b) &&& (384 : Int32)) = 384) := (zbo_eq0 : (zbo (((a &&& b) &&& (384 : Int32)) = 384)) = 0 ↔ ¬ (((a &&& b) &&& (384 : Int32)) = 384)).mp b121
              exact zEv.wk (L := [.retAddr 0, .retAddr 0, .retAddr 0, .retAddr 0, .retAddr 0, .retAddr 0, .retAddr 0, .retAddr 0, .retAddr 0, .retAddr 0]) (L' := [.ref 1592, .int (Int32.ofNat n), .int 13, .int p, .int q, .int a, .int b, .int ((a &&& b) &&& (1 : Int32)), .int (Int32.ofNat (znt (((a &&& (4 : Int32)) = 4) ∨ (((a &&& (1 : Int32)) = 1) ∧ ((b &&& (4 : Int32)) = 4))) 4 0)), .int (zbo (((a ||| b) &&& (32 : Int32)) = 32))]) (And.intro (Or.inr rfl) (And.intro (Or.inr rfl) (And.intro (Or.inr rfl) (And.intro (Or.inr rfl) (And.intro (Or.inr rfl) (And.intro (Or.inr rfl) (And.intro (Or.inr rfl) (And.intro (Or.inr rfl) (And.intro (Or.inr rfl) (And.intro (Or.inr rfl) trivial)))))))))) (J123 (Or.inl b121))
            · replace b121 : ((a &&& b) &&& (384 : Int32)) = 384 := Classical.byContradiction (fun h => b121 ((zbo_eq0 : (zbo (((a &&& b) &&& (384 : Int32)) = 384)) = 0 ↔ ¬ (((a &&& b) &&& (384 : Int32)) = 384)).mpr h))
              refine zv_c1 ht rfl rfl ?_
              refine zv_br ht rfl rfl rfl (fun b122 => ?_) (fun b122 => ?_)
              · replace b122 : ¬ (((a ||| b) &&& (32 : Int32)) = 32) := (zbo_eq0 : (zbo (((a ||| b) &&& (32 : Int32)) = 32)) = 0 ↔ ¬ (((a ||| b) &&& (32 : Int32)) = 32)).mp b122
                exact zEv.wk (L := [.retAddr 0, .retAddr 0, .retAddr 0, .retAddr 0, .retAddr 0, .retAddr 0, .retAddr 0, .retAddr 0, .retAddr 0, .retAddr 0]) (L' := [.ref 1592, .int (Int32.ofNat n), .int 13, .int p, .int q, .int a, .int b, .int ((a &&& b) &&& (1 : Int32)), .int (Int32.ofNat (znt (((a &&& (4 : Int32)) = 4) ∨ (((a &&& (1 : Int32)) = 1) ∧ ((b &&& (4 : Int32)) = 4))) 4 0)), .int (zbo (((a ||| b) &&& (32 : Int32)) = 32))]) (And.intro (Or.inr rfl) (And.intro (Or.inr rfl) (And.intro (Or.inr rfl) (And.intro (Or.inr rfl) (And.intro (Or.inr rfl) (And.intro (Or.inr rfl) (And.intro (Or.inr rfl) (And.intro (Or.inr rfl) (And.intro (Or.inr rfl) (And.intro (Or.inr rfl) trivial)))))))))) (J123 (Or.inr b122))
              · replace b122 : ((a ||| b) &&& (32 : Int32)) = 32 := Classical.byContradiction (fun h => b122 ((zbo_eq0 : (zbo (((a ||| b) &&& (32 : Int32)) = 32)) = 0 ↔ ¬ (((a ||| b) &&& (32 : Int32)) = 32)).mpr h))
                refine zv_c1 ht rfl rfl (zv_c1 ht rfl rfl ?_)
                exact zEv.wk (L := [.retAddr 0, .retAddr 0, .retAddr 0, .retAddr 0, .retAddr 0, .retAddr 0, .retAddr 0, .retAddr 0, .retAddr 0, .retAddr 0]) (L' := [.ref 1592, .int (Int32.ofNat n), .int 13, .int p, .int q, .int a, .int b, .int ((a &&& b) &&& (1 : Int32)), .int (Int32.ofNat (znt (((a &&& (4 : Int32)) = 4) ∨ (((a &&& (1 : Int32)) = 1) ∧ ((b &&& (4 : Int32)) = 4))) 4 0)), .int (zbo (((a ||| b) &&& (32 : Int32)) = 32))]) (And.intro (Or.inr rfl) (And.intro (Or.inr rfl) (And.intro (Or.inr rfl) (And.intro (Or.inr rfl) (And.intro (Or.inr rfl) (And.intro (Or.inr rfl) (And.intro (Or.inr rfl) (And.intro (Or.inr rfl) (And.intro (Or.inr rfl) (And.intro (Or.inr rfl) trivial)))))))))) (zv_sub (zz := zbo ((((a &&& b) &&& (384 : Int32)) = 384) ∧ (((a ||| b) &&& (32 : Int32)) = 32))) (zy := 1) (p := fun zz => zEv d 144 398 [.retAddr 0, .retAddr 0, .retAddr 0, .retAddr 0, .retAddr 0, .retAddr 0, .retAddr 0, .retAddr 0, .retAddr 0, .retAddr 0] [.int zz, .int (((((((a &&& b) &&& (1 : Int32)) ||| (Int32.ofNat (znt ((((a &&& (2 : Int32)) = 2) ∧ ((b &&& (1 : Int32)) = 1)) ∨ (((a &&& (1 : Int32)) = 1) ∧ ((b &&& (2 : Int32)) = 2))) 2 0))) ||| (8 : Int32)) ||| (16 : Int32)) ||| ((a &&& b) &&& (32 : Int32))) ||| (128 : Int32)), .int 0, .int (Int32.ofNat n), .ref 1592] S post) (zbo_pos ⟨b121, b122⟩) J125)
          · replace b62 : ¬ ((b &&& (8 : Int32)) = 8) := (zbo_eq0 : (zbo ((b &&& (8 : Int32)) = 8)) = 0 ↔ ¬ ((b &&& (8 : Int32)) = 8)).mp (Classical.not_not.mp b62)
            exact zEv.wk (L := [.retAddr 0, .retAddr 0, .retAddr 0, .retAddr 0, .retAddr 0, .retAddr 0, .retAddr 0, .retAddr 0, .retAddr 0, .retAddr 0]) (L' := [.ref 1592, .int (Int32.ofNat n), .int 13, .int p, .int q, .int a, .int b, .int ((a &&& b) &&& (1 : Int32)), .int (Int32.ofNat (znt (((a &&& (4 : Int32)) = 4) ∨ (((a &&& (1 : Int32)) = 1) ∧ ((b &&& (4 : Int32)) = 4))) 4 0)), .int (zbo (((a ||| b) &&& (32 : Int32)) = 32))]) (And.intro (Or.inr rfl) (And.intro (Or.inr rfl) (And.intro (Or.inr rfl) (And.intro (Or.inr rfl) (And.intro (Or.inr rfl) (And.intro (Or.inr rfl) (And.intro (Or.inr rfl) (And.intro (Or.inr rfl) (And.intro (Or.inr rfl) (And.intro (Or.inr rfl) trivial)))))))))) (J138 (Or.inr (Or.inr (Or.inr b62))))
  have J27 : (((a &&& (4 : Int32)) = 4) ∨ (((a &&& (1 : Int32)) = 1) ∧ ((b &&& (4 : Int32)) = 4))) → zEv d 144 36 [.ref 1592, .int (Int32.ofNat n), .int 13, .int p, .int q, .int a, .int b, .int ((a &&& b) &&& (1 : Int32)), .retAddr 0, .retAddr 0] [] S post := by
    intro b28
    refine zv_c1 ht rfl rfl (zv_c1 ht rfl rfl ?_)
    exact (zv_sub (zz := zbo (((a &&& (4 : Int32)) = 4) ∨ (((a &&& (1 : Int32)) = 1) ∧ ((b &&& (4 : Int32)) = 4)))) (zy := 1) (p := fun zz => zEv d 144 41 [.ref 1592, .int (Int32.ofNat n), .int 13, .int p, .int q, .int a, .int b, .int ((a &&& b) &&& (1 : Int32)), .retAddr 0, .retAddr 0] [.int zz] S post) (zbo_pos b28) J29)
  refine zv_br ht rfl rfl rfl (fun b8 => ?_) (fun b8 => ?_)
  · replace b8 : (a &&& (4 : Int32)) = 4 := Classical.byContradiction (fun h => b8 ((zbo_eq0 : (zbo ((a &&& (4 : Int32)) = 4)) = 0 ↔ ¬ ((a &&& (4 : Int32)) = 4)).mpr h))
    exact (J27 (Or.inl b8))
  · replace b8 : ¬ ((a &&& (4 : Int32)) = 4) := (zbo_eq0 : (zbo ((a &&& (4 : Int32)) = 4)) = 0 ↔ ¬ ((a &&& (4 : Int32)) = 4)).mp (Classical.not_not.mp b8)
    refine zv_c1 ht rfl rfl (zv_c1 ht rfl rfl ?_)
    have C10 : ∀ (pst9 : Outcome × zS → Prop), (pst9 (.returned (some (.int (zbo ((a &&& (1 : Int32)) = 1)))), S)) → zCall (d - 1) 139 [.int a, .int 1] S pst9 := by
      intro pst9 k15
      have ht11 : ztab 139 = ztb139 := rfl
      show zEv (d - 1) 139 0 [.int a, .int 1] [] S pst9
      refine zv_c1 ht11 rfl rfl (zv_c1 ht11 rfl rfl ?_)
      refine zv_c1 (st' := [.int (a &&& (1 : Int32))]) (S' := S) ht11 rfl rfl ?_
      refine zv_c1 ht11 rfl rfl ?_
      have J13 : zEv (d - 1) 139 12 [.retAddr 0, .retAddr 0] [.int (zbo ((a &&& (1 : Int32)) = 1))] S pst9 := by
        exact zv_rc ht11 rfl rfl rfl rfl zbo_rng k15
      refine zv_br ht11 rfl rfl rfl (fun b12 => ?_) (fun b12 => ?_)
      · refine zv_c1 ht11 rfl rfl ?_
        exact zEv.wk (L := [.retAddr 0, .retAddr 0]) (L' := [.int a, .int 1]) (And.intro (Or.inr rfl) (And.intro (Or.inr rfl) trivial)) (zv_sub (zz := zbo ((a &&& (1 : Int32)) = 1)) (zy := 0) (p := fun zz => zEv (d - 1) 139 12 [.retAddr 0, .retAddr 0] [.int zz] S pst9) (zbo_neg b12) J13)
      · replace b12 : (a &&& (1 : Int32)) = 1 := Classical.not_not.mp b12
        refine zv_c1 ht11 rfl rfl (zv_c1 ht11 rfl rfl ?_)
        exact zEv.wk (L := [.retAddr 0, .retAddr 0]) (L' := [.int a, .int 1]) (And.intro (Or.inr rfl) (And.intro (Or.inr rfl) trivial)) (zv_sub (zz := zbo ((a &&& (1 : Int32)) = 1)) (zy := 1) (p := fun zz => zEv (d - 1) 139 12 [.retAddr 0, .retAddr 0] [.int zz] S pst9) (zbo_pos b12) J13)
    refine zv_cl ht rfl rfl rfl rfl (by omega) (Nat.le_of_ble_eq_true rfl) (C10 _ ?_)
    show zEv d 144 24 [.ref 1592, .int (Int32.ofNat n), .int 13, .int p, .int q, .int a, .int b, .int ((a &&& b) &&& (1 : Int32)), .retAddr 0, .retAddr 0] [.int (zbo ((a &&& (1 : Int32)) = 1))] S post
    have J25 : ((¬ ((a &&& (1 : Int32)) = 1)) ∨ (¬ ((b &&& (4 : Int32)) = 4))) → zEv d 144 40 [.ref 1592, .int (Int32.ofNat n), .int 13, .int p, .int q, .int a, .int b, .int ((a &&& b) &&& (1 : Int32)), .retAddr 0, .retAddr 0] [] S post := by
      intro b26
      refine zv_c1 ht rfl rfl ?_
      exact (zv_sub (zz := zbo (((a &&& (4 : Int32)) = 4) ∨ (((a &&& (1 : Int32)) = 1) ∧ ((b &&& (4 : Int32)) = 4)))) (zy := 0) (p := fun zz => zEv d 144 41 [.ref 1592, .int (Int32.ofNat n), .int 13, .int p, .int q, .int a, .int b, .int ((a &&& b) &&& (1 : Int32)), .retAddr 0, .retAddr 0] [.int zz] S post) (zbo_neg (b26.elim (fun y1 => (fun h => h.elim b8 (fun h => y1 h.1))) (fun y1 => (fun h => h.elim b8 (fun h => y1 h.2))))) J29)
    refine zv_br ht rfl rfl rfl (fun b16 => ?_) (fun b16 => ?_)
    · replace b16 : ¬ ((a &&& (1 : Int32)) = 1) := (zbo_eq0 : (zbo ((a &&& (1 : Int32)) = 1)) = 0 ↔ ¬ ((a &&& (1 : Int32)) = 1)).mp b16
      exact (J25 (Or.inl b16))
    · replace b16 : (a &&& (1 : Int32)) = 1 := Classical.byContradiction (fun h => b16 ((zbo_eq0 : (zbo ((a &&& (1 : Int32)) = 1)) = 0 ↔ ¬ ((a &&& (1 : Int32)) = 1)).mpr h))
      refine zv_c1 ht rfl rfl (zv_c1 ht rfl rfl ?_)
      have C18 : ∀ (pst17 : Outcome × zS → Prop), (pst17 (.returned (some (.int (zbo ((b &&& (4 : Int32)) = 4)))), S)) → zCall (d - 1) 139 [.int b, .int 4] S pst17 := by
        intro pst17 k23
        have ht19 : ztab 139 = ztb139 := rfl
        show zEv (d - 1) 139 0 [.int b, .int 4] [] S pst17
        refine zv_c1 ht19 rfl rfl (zv_c1 ht19 rfl rfl ?_)
        refine zv_c1 (st' := [.int (b &&& (4 : Int32))]) (S' := S) ht19 rfl rfl ?_
        refine zv_c1 ht19 rfl rfl ?_
        have J21 : zEv (d - 1) 139 12 [.retAddr 0, .retAddr 0] [.int (zbo ((b &&& (4 : Int32)) = 4))] S pst17 := by
          exact zv_rc ht19 rfl rfl rfl rfl zbo_rng k23
        refine zv_br ht19 rfl rfl rfl (fun b20 => ?_) (fun b20 => ?_)
        · refine zv_c1 ht19 rfl rfl ?_
          exact zEv.wk (L := [.retAddr 0, .retAddr 0]) (L' := [.int b, .int 4]) (And.intro (Or.inr rfl) (And.intro (Or.inr rfl) trivial)) (zv_sub (zz := zbo ((b &&& (4 : Int32)) = 4)) (zy := 0) (p := fun zz => zEv (d - 1) 139 12 [.retAddr 0, .retAddr 0] [.int zz] S pst17) (zbo_neg b20) J21)
        · replace b20 : (b &&& (4 : Int32)) = 4 := Classical.not_not.mp b20
          refine zv_c1 ht19 rfl rfl (zv_c1 ht19 rfl rfl ?_)
          exact zEv.wk (L := [.retAddr 0, .retAddr 0]) (L' := [.int b, .int 4]) (And.intro (Or.inr rfl) (And.intro (Or.inr rfl) trivial)) (zv_sub (zz := zbo ((b &&& (4 : Int32)) = 4)) (zy := 1) (p := fun zz => zEv (d - 1) 139 12 [.retAddr 0, .retAddr 0] [.int zz] S pst17) (zbo_pos b20) J21)
      refine zv_cl ht rfl rfl rfl rfl (by omega) (Nat.le_of_ble_eq_true rfl) (C18 _ ?_)
      show zEv d 144 33 [.ref 1592, .int (Int32.ofNat n), .int 13, .int p, .int q, .int a, .int b, .int ((a &&& b) &&& (1 : Int32)), .retAddr 0, .retAddr 0] [.int (zbo ((b &&& (4 : Int32)) = 4))] S post
      refine zv_br ht rfl rfl rfl (fun b24 => ?_) (fun b24 => ?_)
      · replace b24 : ¬ ((b &&& (4 : Int32)) = 4) := (zbo_eq0 : (zbo ((b &&& (4 : Int32)) = 4)) = 0 ↔ ¬ ((b &&& (4 : Int32)) = 4)).mp b24
        exact (J25 (Or.inr b24))
      · replace b24 : (b &&& (4 : Int32)) = 4 := Classical.byContradiction (fun h => b24 ((zbo_eq0 : (zbo ((b &&& (4 : Int32)) = 4)) = 0 ↔ ¬ ((b &&& (4 : Int32)) = 4)).mpr h))
        exact (J27 (Or.inr ⟨b16, b24⟩))
noncomputable def tyP13 (p q a b : Int32) : Option (Int32 × Int32) := zop ((p = 0) ∧ ((a &&& (8 : Int32)) = 8) ∧ (q = 3) ∧ ((b &&& (8 : Int32)) = 8)) (0, (((((((a &&& b) &&& (1 : Int32)) ||| (Int32.ofNat (znt ((((a &&& (2 : Int32)) = 2) ∧ ((b &&& (1 : Int32)) = 1)) ∨ (((a &&& (1 : Int32)) = 1) ∧ ((b &&& (2 : Int32)) = 2))) 2 0))) ||| (8 : Int32)) ||| (16 : Int32)) ||| ((a &&& b) &&& (32 : Int32))) ||| (128 : Int32)) ||| (Int32.ofNat (znt ((((a &&& b) &&& (384 : Int32)) = 384) ∧ (((a ||| b) &&& (32 : Int32)) = 32)) 256 0)))
noncomputable def pt14_s1 (S : zS) (n : Nat) (a : Int32) (b : Int32) : zS := sA (sA S 1616 n 1) 1617 n ((((((a &&& b) &&& (1 : Int32)) ||| (Int32.ofNat (znt (((a &&& (2 : Int32)) = 2) ∧ ((b &&& (1 : Int32)) = 1)) 2 0))) ||| ((a &&& b) &&& (32 : Int32))) ||| (64 : Int32)) ||| (Int32.ofNat (znt ((((a &&& b) &&& (256 : Int32)) = 256) ∧ ((a &&& (128 : Int32)) = 128) ∧ (((a ||| b) &&& (32 : Int32)) = 32)) 256 0)))
theorem pt14 {d : Nat} {S : zS} (hF : zFin true S) (hd : 1 ≤ d) (n : Nat) (p q a b : Int32)  (hn : n < 3000) {post : Outcome × zS → Prop} (h1 : (p = 0) → ((a &&& (24 : Int32)) = 24) → (q = 1) → post (.returned none, pt14_s1 S n a b)) (h2 : ((¬ (p = 0)) ∨ (¬ ((a &&& (24 : Int32)) = 24)) ∨ (¬ (q = 1))) → post (.returned none, S)) : zCall d 144 [.ref 1592, .int (Int32.ofNat n), .int 14, .int p, .int q, .int a, .int b] S post := by
  have ht : ztab 144 = ztb144 := rfl
  show zEv d 144 0 [.ref 1592, .int (Int32.ofNat n), .int 14, .int p, .int q, .int a, .int b, .retAddr 0, .retAddr 0, .retAddr 0] [] S post
  refine zv_c1 ht rfl rfl (zv_c1 ht rfl rfl ?_)
  refine zv_c1 (st' := [.int (a &&& b)]) (S' := S) ht rfl rfl ?_
  refine zv_c1 ht rfl rfl ?_
  refine zv_c1 (st' := [.int ((a &&& b) &&& (1 : Int32))]) (S' := S) ht rfl rfl ?_
  refine zv_c2 (L' := [.ref 1592, .int (Int32.ofNat n), .int 14, .int p, .int q, .int a, .int b, .int ((a &&& b) &&& (1 : Int32)), .retAddr 0, .retAddr 0]) ht rfl rfl ?_
  refine zv_c1 ht rfl rfl (zv_c1 ht rfl rfl ?_)
  have C2 : ∀ (pst1 : Outcome × zS → Prop), (pst1 (.returned (some (.int (zbo ((a &&& (4 : Int32)) = 4)))), S)) → zCall (d - 1) 139 [.int a, .int 4] S pst1 := by
    intro pst1 k7
    have ht3 : ztab 139 = ztb139 := rfl
    show zEv (d - 1) 139 0 [.int a, .int 4] [] S pst1
    refine zv_c1 ht3 rfl rfl (zv_c1 ht3 rfl rfl ?_)
    refine zv_c1 (st' := [.int (a &&& (4 : Int32))]) (S' := S) ht3 rfl rfl ?_
    refine zv_c1 ht3 rfl rfl ?_
    have J5 : zEv (d - 1) 139 12 [.retAddr 0, .retAddr 0] [.int (zbo ((a &&& (4 : Int32)) = 4))] S pst1 := by
      exact zv_rc ht3 rfl rfl rfl rfl zbo_rng k7
    refine zv_br ht3 rfl rfl rfl (fun b4 => ?_) (fun b4 => ?_)
    · refine zv_c1 ht3 rfl rfl ?_
      exact zEv.wk (L := [.retAddr 0, .retAddr 0]) (L' := [.int a, .int 4]) (And.intro (Or.inr rfl) (And.intro (Or.inr rfl) trivial)) (zv_sub (zz := zbo ((a &&& (4 : Int32)) = 4)) (zy := 0) (p := fun zz => zEv (d - 1) 139 12 [.retAddr 0, .retAddr 0] [.int zz] S pst1) (zbo_neg b4) J5)
    · replace b4 : (a &&& (4 : Int32)) = 4 := Classical.not_not.mp b4
      refine zv_c1 ht3 rfl rfl (zv_c1 ht3 rfl rfl ?_)
      exact zEv.wk (L := [.retAddr 0, .retAddr 0]) (L' := [.int a, .int 4]) (And.intro (Or.inr rfl) (And.intro (Or.inr rfl) trivial)) (zv_sub (zz := zbo ((a &&& (4 : Int32)) = 4)) (zy := 1) (p := fun zz => zEv (d - 1) 139 12 [.retAddr 0, .retAddr 0] [.int zz] S pst1) (zbo_pos b4) J5)
  refine zv_cl ht rfl rfl rfl rfl (by omega) (Nat.le_of_ble_eq_true rfl) (C2 _ ?_)
  show zEv d 144 15 [.ref 1592, .int (Int32.ofNat n), .int 14, .int p, .int q, .int a, .int b, .int ((a &&& b) &&& (1 : Int32)), .retAddr 0, .retAddr 0] [.int (zbo ((a &&& (4 : Int32)) = 4))] S post
  have J29 : zEv d 144 41 [.ref 1592, .int (Int32.ofNat n), .int 14, .int p, .int q, .int a, .int b, .int ((a &&& b) &&& (1 : Int32)), .retAddr 0, .retAddr 0] [.int (zbo (((a &&& (4 : Int32)) = 4) ∨ (((a &&& (1 : Int32)) = 1) ∧ ((b &&& (4 : Int32)) = 4))))] S post := by
    refine zv_c1 ht rfl rfl ?_
    have C32 : ∀ (pst31 : Outcome × zS → Prop), (pst31 (.returned (some (.int (Int32.ofNat (znt (((a &&& (4 : Int32)) = 4) ∨ (((a &&& (1 : Int32)) = 1) ∧ ((b &&& (4 : Int32)) = 4))) 4 0)))), S)) → zCall (d - 1) 140 [.int (zbo (((a &&& (4 : Int32)) = 4) ∨ (((a &&& (1 : Int32)) = 1) ∧ ((b &&& (4 : Int32)) = 4)))), .int 4] S pst31 := by
      intro pst31 k37
      have ht33 : ztab 140 = ztb140 := rfl
      show zEv (d - 1) 140 0 [.int (zbo (((a &&& (4 : Int32)) = 4) ∨ (((a &&& (1 : Int32)) = 1) ∧ ((b &&& (4 : Int32)) = 4)))), .int 4] [] S pst31
      refine zv_c1 ht33 rfl rfl ?_
      have J35 : zEv (d - 1) 140 9 [.retAddr 0, .retAddr 0] [.int (Int32.ofNat (znt (((a &&& (4 : Int32)) = 4) ∨ (((a &&& (1 : Int32)) = 1) ∧ ((b &&& (4 : Int32)) = 4))) 4 0))] S pst31 := by
        exact zv_rt ht33 rfl rfl rfl rfl k37
      refine zv_br ht33 rfl rfl rfl (fun b34 => ?_) (fun b34 => ?_)
      · replace b34 : ¬ (((a &&& (4 : Int32)) = 4) ∨ (((a &&& (1 : Int32)) = 1) ∧ ((b &&& (4 : Int32)) = 4))) := (zbo_eq0 : (zbo (((a &&& (4 : Int32)) = 4) ∨ (((a &&& (1 : Int32)) = 1) ∧ ((b &&& (4 : Int32)) = 4)))) = 0 ↔ ¬ (((a &&& (4 : Int32)) = 4) ∨ (((a &&& (1 : Int32)) = 1) ∧ ((b &&& (4 : Int32)) = 4)))).mp b34
        refine zv_c1 ht33 rfl rfl ?_
        exact zEv.wk (L := [.retAddr 0, .retAddr 0]) (L' := [.int (zbo (((a &&& (4 : Int32)) = 4) ∨ (((a &&& (1 : Int32)) = 1) ∧ ((b &&& (4 : Int32)) = 4)))), .int 4]) (And.intro (Or.inr rfl) (And.intro (Or.inr rfl) trivial)) (zv_sub (zz := Int32.ofNat (znt (((a &&& (4 : Int32)) = 4) ∨ (((a &&& (1 : Int32)) = 1) ∧ ((b &&& (4 : Int32)) = 4))) 4 0)) (zy := 0) (p := fun zz => zEv (d - 1) 140 9 [.retAddr 0, .retAddr 0] [.int zz] S pst31) (congrArg Int32.ofNat (znt_neg b34)) J35)
      · replace b34 : ((a &&& (4 : Int32)) = 4) ∨ (((a &&& (1 : Int32)) = 1) ∧ ((b &&& (4 : Int32)) = 4)) := Classical.byContradiction (fun h => b34 ((zbo_eq0 : (zbo (((a &&& (4 : Int32)) = 4) ∨ (((a &&& (1 : Int32)) = 1) ∧ ((b &&& (4 : Int32)) = 4)))) = 0 ↔ ¬ (((a &&& (4 : Int32)) = 4) ∨ (((a &&& (1 : Int32)) = 1) ∧ ((b &&& (4 : Int32)) = 4)))).mpr h))
        refine zv_c1 ht33 rfl rfl (zv_c1 ht33 rfl rfl ?_)
        exact zEv.wk (L := [.retAddr 0, .retAddr 0]) (L' := [.int (zbo (((a &&& (4 : Int32)) = 4) ∨ (((a &&& (1 : Int32)) = 1) ∧ ((b &&& (4 : Int32)) = 4)))), .int 4]) (And.intro (Or.inr rfl) (And.intro (Or.inr rfl) trivial)) (zv_sub (zz := Int32.ofNat (znt (((a &&& (4 : Int32)) = 4) ∨ (((a &&& (1 : Int32)) = 1) ∧ ((b &&& (4 : Int32)) = 4))) 4 0)) (zy := 4) (p := fun zz => zEv (d - 1) 140 9 [.retAddr 0, .retAddr 0] [.int zz] S pst31) (congrArg Int32.ofNat (znt_pos b34)) J35)
    refine zv_cl ht rfl rfl rfl rfl (by omega) (Nat.le_of_ble_eq_true rfl) (C32 _ ?_)
    show zEv d 144 45 [.ref 1592, .int (Int32.ofNat n), .int 14, .int p, .int q, .int a, .int b, .int ((a &&& b) &&& (1 : Int32)), .retAddr 0, .retAddr 0] [.int (Int32.ofNat (znt (((a &&& (4 : Int32)) = 4) ∨ (((a &&& (1 : Int32)) = 1) ∧ ((b &&& (4 : Int32)) = 4))) 4 0))] S post
    refine zv_c2 (L' := [.ref 1592, .int (Int32.ofNat n), .int 14, .int p, .int q, .int a, .int b, .int ((a &&& b) &&& (1 : Int32)), .int (Int32.ofNat (znt (((a &&& (4 : Int32)) = 4) ∨ (((a &&& (1 : Int32)) = 1) ∧ ((b &&& (4 : Int32)) = 4))) 4 0)), .retAddr 0]) ht rfl rfl ?_
    refine zv_c1 ht rfl rfl (zv_c1 ht rfl rfl ?_)
    refine zv_c1 (st' := [.int (a ||| b)]) (S' := S) ht rfl rfl ?_
    refine zv_c1 ht rfl rfl ?_
    have C39 : ∀ (pst38 : Outcome × zS → Prop), (pst38 (.returned (some (.int (zbo (((a ||| b) &&& (32 : Int32)) = 32)))), S)) → zCall (d - 1) 139 [.int (a ||| b), .int 32] S pst38 := by
      intro pst38 k44
      have ht40 : ztab 139 = ztb139 := rfl
      show zEv (d - 1) 139 0 [.int (a ||| b), .int 32] [] S pst38
      refine zv_c1 ht40 rfl rfl (zv_c1 ht40 rfl rfl ?_)
      refine zv_c1 (st' := [.int ((a ||| b) &&& (32 : Int32))]) (S' := S) ht40 rfl rfl ?_
      refine zv_c1 ht40 rfl rfl ?_
      have J42 : zEv (d - 1) 139 12 [.retAddr 0, .retAddr 0] [.int (zbo (((a ||| b) &&& (32 : Int32)) = 32))] S pst38 := by
        exact zv_rc ht40 rfl rfl rfl rfl zbo_rng k44
      refine zv_br ht40 rfl rfl rfl (fun b41 => ?_) (fun b41 => ?_)
      · refine zv_c1 ht40 rfl rfl ?_
        exact zEv.wk (L := [.retAddr 0, .retAddr 0]) (L' := [.int (a ||| b), .int 32]) (And.intro (Or.inr rfl) (And.intro (Or.inr rfl) trivial)) (zv_sub (zz := zbo (((a ||| b) &&& (32 : Int32)) = 32)) (zy := 0) (p := fun zz => zEv (d - 1) 139 12 [.retAddr 0, .retAddr 0] [.int zz] S pst38) (zbo_neg b41) J42)
      · replace b41 : ((a ||| b) &&& (32 : Int32)) = 32 := Classical.not_not.mp b41
        refine zv_c1 ht40 rfl rfl (zv_c1 ht40 rfl rfl ?_)
        exact zEv.wk (L := [.retAddr 0, .retAddr 0]) (L' := [.int (a ||| b), .int 32]) (And.intro (Or.inr rfl) (And.intro (Or.inr rfl) trivial)) (zv_sub (zz := zbo (((a ||| b) &&& (32 : Int32)) = 32)) (zy := 1) (p := fun zz => zEv (d - 1) 139 12 [.retAddr 0, .retAddr 0] [.int zz] S pst38) (zbo_pos b41) J42)
    refine zv_cl ht rfl rfl rfl rfl (by omega) (Nat.le_of_ble_eq_true rfl) (C39 _ ?_)
    show zEv d 144 57 [.ref 1592, .int (Int32.ofNat n), .int 14, .int p, .int q, .int a, .int b, .int ((a &&& b) &&& (1 : Int32)), .int (Int32.ofNat (znt (((a &&& (4 : Int32)) = 4) ∨ (((a &&& (1 : Int32)) = 1) ∧ ((b &&& (4 : Int32)) = 4))) 4 0)), .retAddr 0] [.int (zbo (((a ||| b) &&& (32 : Int32)) = 32))] S post
    refine zv_c2 (L' := [.ref 1592, .int (Int32.ofNat n), .int 14, .int p, .int q, .int a, .int b, .int ((a &&& b) &&& (1 : Int32)), .int (Int32.ofNat (znt (((a &&& (4 : Int32)) = 4) ∨ (((a &&& (1 : Int32)) = 1) ∧ ((b &&& (4 : Int32)) = 4))) 4 0)), .int (zbo (((a ||| b) &&& (32 : Int32)) = 32))]) ht rfl rfl ?_
    refine zv_c1 ht rfl rfl ?_
    refine zv_sw ht rfl rfl rfl rfl rfl ?_
    refine And.intro (fun h => absurd h (by decide)) (fun _ => ?_)
    refine And.intro (fun h => absurd h (by decide)) (fun _ => ?_)
    refine And.intro (fun h => absurd h (by decide)) (fun _ => ?_)
    refine And.intro (fun _ => ?_) (fun h => absurd (by decide) h)
    refine zv_c1 ht rfl rfl ?_
    have J114 : ((¬ (p = 0)) ∨ (¬ ((a &&& (24 : Int32)) = 24)) ∨ (¬ (q = 1))) → zEv d 144 429 [.retAddr 0, .retAddr 0, .retAddr 0, .retAddr 0, .retAddr 0, .retAddr 0, .retAddr 0, .retAddr 0, .retAddr 0, .retAddr 0] [] S post := by
      intro b115
      exact zv_rt ht rfl rfl rfl rfl (h2 b115)
    refine zv_br ht rfl rfl rfl (fun b45 => ?_) (fun b45 => ?_)
    · exact zEv.wk (L := [.retAddr 0, .retAddr 0, .retAddr 0, .retAddr 0, .retAddr 0, .retAddr 0, .retAddr 0, .retAddr 0, .retAddr 0, .retAddr 0]) (L' := [.ref 1592, .int (Int32.ofNat n), .int 14, .int p, .int q, .int a, .int b, .int ((a &&& b) &&& (1 : Int32)), .int (Int32.ofNat (znt (((a &&& (4 : Int32)) = 4) ∨ (((a &&& (1 : Int32)) = 1) ∧ ((b &&& (4 : Int32)) = 4))) 4 0)), .int (zbo (((a ||| b) &&& (32 : Int32)) = 32))]) (And.intro (Or.inr rfl) (And.intro (Or.inr rfl) (And.intro (Or.inr rfl) (And.intro (Or.inr rfl) (And.intro (Or.inr rfl) (And.intro (Or.inr rfl) (And.intro (Or.inr rfl) (And.intro (Or.inr rfl) (And.intro (Or.inr rfl) (And.intro (Or.inr rfl) trivial)))))))))) (J114 (Or.inl b45))
    · replace b45 : p = 0 := Classical.not_not.mp b45
      refine zv_c1 ht rfl rfl (zv_c1 ht rfl rfl ?_)
      have C47 : ∀ (pst46 : Outcome × zS → Prop), (pst46 (.returned (some (.int (zbo ((a &&& (24 : Int32)) = 24)))), S)) → zCall (d - 1) 139 [.int a, .int 24] S pst46 := by
        intro pst46 k52
        have ht48 : ztab 139 = ztb139 := rfl
        show zEv (d - 1) 139 0 [.int a, .int 24] [] S pst46
        refine zv_c1 ht48 rfl rfl (zv_c1 ht48 rfl rfl ?_)
        refine zv_c1 (st' := [.int (a &&& (24 : Int32))]) (S' := S) ht48 rfl rfl ?_
        refine zv_c1 ht48 rfl rfl ?_
        have J50 : zEv (d - 1) 139 12 [.retAddr 0, .retAddr 0] [.int (zbo ((a &&& (24 : Int32)) = 24))] S pst46 := by
          exact zv_rc ht48 rfl rfl rfl rfl zbo_rng k52
        refine zv_br ht48 rfl rfl rfl (fun b49 => ?_) (fun b49 => ?_)
        · refine zv_c1 ht48 rfl rfl ?_
          exact zEv.wk (L := [.retAddr 0, .retAddr 0]) (L' := [.int a, .int 24]) (And.intro (Or.inr rfl) (And.intro (Or.inr rfl) trivial)) (zv_sub (zz := zbo ((a &&& (24 : Int32)) = 24)) (zy := 0) (p := fun zz => zEv (d - 1) 139 12 [.retAddr 0, .retAddr 0] [.int zz] S pst46) (zbo_neg b49) J50)
        · replace b49 : (a &&& (24 : Int32)) = 24 := Classical.not_not.mp b49
          refine zv_c1 ht48 rfl rfl (zv_c1 ht48 rfl rfl ?_)
          exact zEv.wk (L := [.retAddr 0, .retAddr 0]) (L' := [.int a, .int 24]) (And.intro (Or.inr rfl) (And.intro (Or.inr rfl) trivial)) (zv_sub (zz := zbo ((a &&& (24 : Int32)) = 24)) (zy := 1) (p := fun zz => zEv (d - 1) 139 12 [.retAddr 0, .retAddr 0] [.int zz] S pst46) (zbo_pos b49) J50)
      refine zv_cl ht rfl rfl rfl rfl (by omega) (Nat.le_of_ble_eq_true rfl) (C47 _ ?_)
      show zEv d 144 420 [.ref 1592, .int (Int32.ofNat n), .int 14, .int p, .int q, .int a, .int b, .int ((a &&& b) &&& (1 : Int32)), .int (Int32.ofNat (znt (((a &&& (4 : Int32)) = 4) ∨ (((a &&& (1 : Int32)) = 1) ∧ ((b &&& (4 : Int32)) = 4))) 4 0)), .int (zbo (((a ||| b) &&& (32 : Int32)) = 32))] [.int (zbo ((a &&& (24 : Int32)) = 24))] S post
      refine zv_br ht rfl rfl rfl (fun b53 => ?_) (fun b53 => ?_)
      · replace b53 : ¬ ((a &&& (24 : Int32)) = 24) := (zbo_eq0 : (zbo ((a &&& (24 : Int32)) = 24)) = 0 ↔ ¬ ((a &&& (24 : Int32)) = 24)).mp b53
        exact zEv.wk (L := [.retAddr 0, .retAddr 0, .retAddr 0, .retAddr 0, .retAddr 0, .retAddr 0, .retAddr 0, .retAddr 0, .retAddr 0, .retAddr 0]) (L' := [.ref 1592, .int (Int32.ofNat n), .int 14, .int p, .int q, .int a, .int b, .int ((a &&& b) &&& (1 : Int32)), .int (Int32.ofNat (znt (((a &&& (4 : Int32)) = 4) ∨ (((a &&& (1 : Int32)) = 1) ∧ ((b &&& (4 : Int32)) = 4))) 4 0)), .int (zbo (((a ||| b) &&& (32 : Int32)) = 32))]) (And.intro (Or.inr rfl) (And.intro (Or.inr rfl) (And.intro (Or.inr rfl) (And.intro (Or.inr rfl) (And.intro (Or.inr rfl) (And.intro (Or.inr rfl) (And.intro (Or.inr rfl) (And.intro (Or.inr rfl) (And.intro (Or.inr rfl) (And.intro (Or.inr rfl) trivial)))))))))) (J114 (Or.inr (Or.inl b53)))
      · replace b53 : (a &&& (24 : Int32)) = 24 := Classical.byContradiction (fun h => b53 ((zbo_eq0 : (zbo ((a &&& (24 : Int32)) = 24)) = 0 ↔ ¬ ((a &&& (24 : Int32)) = 24)).mpr h))
        refine zv_c1 ht rfl rfl (zv_c1 ht rfl rfl ?_)
        refine zv_br ht rfl rfl rfl (fun b54 => ?_) (fun b54 => ?_)
        · refine zv_c1 ht rfl rfl (zv_c1 ht rfl rfl (zv_c1 ht rfl rfl (zv_c1 ht rfl rfl (zv_c1 ht rfl rfl (zv_c1 ht rfl rfl ?_)))))
          have C56 : ∀ (pst55 : Outcome × zS → Prop), (pst55 (.returned (some (.int (zbo ((a &&& (2 : Int32)) = 2)))), S)) → zCall (d - 1) 139 [.int a, .int 2] S pst55 := by
            intro pst55 k61
            have ht57 : ztab 139 = ztb139 := rfl
            show zEv (d - 1) 139 0 [.int a, .int 2] [] S pst55
            refine zv_c1 ht57 rfl rfl (zv_c1 ht57 rfl rfl ?_)
            refine zv_c1 (st' := [.int (a &&& (2 : Int32))]) (S' := S) ht57 rfl rfl ?_
            refine zv_c1 ht57 rfl rfl ?_
            have J59 : zEv (d - 1) 139 12 [.retAddr 0, .retAddr 0] [.int (zbo ((a &&& (2 : Int32)) = 2))] S pst55 := by
              exact zv_rc ht57 rfl rfl rfl rfl zbo_rng k61
            refine zv_br ht57 rfl rfl rfl (fun b58 => ?_) (fun b58 => ?_)
            · refine zv_c1 ht57 rfl rfl ?_
              exact zEv.wk (L := [.retAddr 0, .retAddr 0]) (L' := [.int a, .int 2]) (And.intro (Or.inr rfl) (And.intro (Or.inr rfl) trivial)) (zv_sub (zz := zbo ((a &&& (2 : Int32)) = 2)) (zy := 0) (p := fun zz => zEv (d - 1) 139 12 [.retAddr 0, .retAddr 0] [.int zz] S pst55) (zbo_neg b58) J59)
            · replace b58 : (a &&& (2 : Int32)) = 2 := Classical.not_not.mp b58
              refine zv_c1 ht57 rfl rfl (zv_c1 ht57 rfl rfl ?_)
              exact zEv.wk (L := [.retAddr 0, .retAddr 0]) (L' := [.int a, .int 2]) (And.intro (Or.inr rfl) (And.intro (Or.inr rfl) trivial)) (zv_sub (zz := zbo ((a &&& (2 : Int32)) = 2)) (zy := 1) (p := fun zz => zEv (d - 1) 139 12 [.retAddr 0, .retAddr 0] [.int zz] S pst55) (zbo_pos b58) J59)
          refine zv_cl ht rfl rfl rfl rfl (by omega) (Nat.le_of_ble_eq_true rfl) (C56 _ ?_)
          show zEv d 144 441 [.ref 1592, .int (Int32.ofNat n), .int 14, .int p, .int q, .int a, .int b, .int ((a &&& b) &&& (1 : Int32)), .int (Int32.ofNat (znt (((a &&& (4 : Int32)) = 4) ∨ (((a &&& (1 : Int32)) = 1) ∧ ((b &&& (4 : Int32)) = 4))) 4 0)), .int (zbo (((a ||| b) &&& (32 : Int32)) = 32))] [.int (zbo ((a &&& (2 : Int32)) = 2)), .int ((a &&& b) &&& (1 : Int32)), .int 1, .int (Int32.ofNat n), .ref 1592] S post
          have J73 : zEv d 144 458 [.retAddr 0, .retAddr 0, .retAddr 0, .retAddr 0, .retAddr 0, .int a, .int b, .retAddr 0, .retAddr 0, .int (zbo (((a ||| b) &&& (32 : Int32)) = 32))] [.int (zbo (((a &&& (2 : Int32)) = 2) ∧ ((b &&& (1 : Int32)) = 1))), .int ((a &&& b) &&& (1 : Int32)), .int 1, .int (Int32.ofNat n), .ref 1592] S post := by
            refine zv_c1 ht rfl rfl ?_
            have C76 : ∀ (pst75 : Outcome × zS → Prop), (pst75 (.returned (some (.int (Int32.ofNat (znt (((a &&& (2 : Int32)) = 2) ∧ ((b &&& (1 : Int32)) = 1)) 2 0)))), S)) → zCall (d - 1) 140 [.int (zbo (((a &&& (2 : Int32)) = 2) ∧ ((b &&& (1 : Int32)) = 1))), .int 2] S pst75 := by
              intro pst75 k81
              have ht77 : ztab 140 = ztb140 := rfl
              show zEv (d - 1) 140 0 [.int (zbo (((a &&& (2 : Int32)) = 2) ∧ ((b &&& (1 : Int32)) = 1))), .int 2] [] S pst75
              refine zv_c1 ht77 rfl rfl ?_
              have J79 : zEv (d - 1) 140 9 [.retAddr 0, .retAddr 0] [.int (Int32.ofNat (znt (((a &&& (2 : Int32)) = 2) ∧ ((b &&& (1 : Int32)) = 1)) 2 0))] S pst75 := by
                exact zv_rt ht77 rfl rfl rfl rfl k81
              refine zv_br ht77 rfl rfl rfl (fun b78 => ?_) (fun b78 => ?_)
              · replace b78 : ¬ (((a &&& (2 : Int32)) = 2) ∧ ((b &&& (1 : Int32)) = 1)) := (zbo_eq0 : (zbo (((a &&& (2 : Int32)) = 2) ∧ ((b &&& (1 : Int32)) = 1))) = 0 ↔ ¬ (((a &&& (2 : Int32)) = 2) ∧ ((b &&& (1 : Int32)) = 1))).mp b78
                refine zv_c1 ht77 rfl rfl ?_
                exact zEv.wk (L := [.retAddr 0, .retAddr 0]) (L' := [.int (zbo (((a &&& (2 : Int32)) = 2) ∧ ((b &&& (1 : Int32)) = 1))), .int 2]) (And.intro (Or.inr rfl) (And.intro (Or.inr rfl) trivial)) (zv_sub (zz := Int32.ofNat (znt (((a &&& (2 : Int32)) = 2) ∧ ((b &&& (1 : Int32)) = 1)) 2 0)) (zy := 0) (p := fun zz => zEv (d - 1) 140 9 [.retAddr 0, .retAddr 0] [.int zz] S pst75) (congrArg Int32.ofNat (znt_neg b78)) J79)
              · replace b78 : ((a &&& (2 : Int32)) = 2) ∧ ((b &&& (1 : Int32)) = 1) := Classical.byContradiction (fun h => b78 ((zbo_eq0 : (zbo (((a &&& (2 : Int32)) = 2) ∧ ((b &&& (1 : Int32)) = 1))) = 0 ↔ ¬ (((a &&& (2 : Int32)) = 2) ∧ ((b &&& (1 : Int32)) = 1))).mpr h))
                refine zv_c1 ht77 rfl rfl (zv_c1 ht77 rfl rfl ?_)
                exact zEv.wk (L := [.retAddr 0, .retAddr 0]) (L' := [.int (zbo (((a &&& (2 : Int32)) = 2) ∧ ((b &&& (1 : Int32)) = 1))), .int 2]) (And.intro (Or.inr rfl) (And.intro (Or.inr rfl) trivial)) (zv_sub (zz := Int32.ofNat (znt (((a &&& (2 : Int32)) = 2) ∧ ((b &&& (1 : Int32)) = 1)) 2 0)) (zy := 2) (p := fun zz => zEv (d - 1) 140 9 [.retAddr 0, .retAddr 0] [.int zz] S pst75) (congrArg Int32.ofNat (znt_pos b78)) J79)
            refine zv_cl ht rfl rfl rfl rfl (by omega) (Nat.le_of_ble_eq_true rfl) (C76 _ ?_)
            show zEv d 144 462 [.retAddr 0, .retAddr 0, .retAddr 0, .retAddr 0, .retAddr 0, .int a, .int b, .retAddr 0, .retAddr 0, .int (zbo (((a ||| b) &&& (32 : Int32)) = 32))] [.int (Int32.ofNat (znt (((a &&& (2 : Int32)) = 2) ∧ ((b &&& (1 : Int32)) = 1)) 2 0)), .int ((a &&& b) &&& (1 : Int32)), .int 1, .int (Int32.ofNat n), .ref 1592] S post
            refine zv_c1 (st' := [.int (((a &&& b) &&& (1 : Int32)) ||| (Int32.ofNat (znt (((a &&& (2 : Int32)) = 2) ∧ ((b &&& (1 : Int32)) = 1)) 2 0))), .int 1, .int (Int32.ofNat n), .ref 1592]) (S' := S) ht rfl rfl ?_
            refine zv_c1 ht rfl rfl (zv_c1 ht rfl rfl ?_)
            refine zv_c1 (st' := [.int (a &&& b), .int (((a &&& b) &&& (1 : Int32)) ||| (Int32.ofNat (znt (((a &&& (2 : Int32)) = 2) ∧ ((b &&& (1 : Int32)) = 1)) 2 0))), .int 1, .int (Int32.ofNat n), .ref 1592]) (S' := S) ht rfl rfl ?_
            refine zv_c1 ht rfl rfl ?_
            refine zv_c1 (st' := [.int ((a &&& b) &&& (32 : Int32)), .int (((a &&& b) &&& (1 : Int32)) ||| (Int32.ofNat (znt (((a &&& (2 : Int32)) = 2) ∧ ((b &&& (1 : Int32)) = 1)) 2 0))), .int 1, .int (Int32.ofNat n), .ref 1592]) (S' := S) ht rfl rfl ?_
            refine zv_c1 (st' := [.int ((((a &&& b) &&& (1 : Int32)) ||| (Int32.ofNat (znt (((a &&& (2 : Int32)) = 2) ∧ ((b &&& (1 : Int32)) = 1)) 2 0))) ||| ((a &&& b) &&& (32 : Int32))), .int 1, .int (Int32.ofNat n), .ref 1592]) (S' := S) ht rfl rfl ?_
            refine zv_c1 ht rfl rfl ?_
            refine zv_c1 (st' := [.int (((((a &&& b) &&& (1 : Int32)) ||| (Int32.ofNat (znt (((a &&& (2 : Int32)) = 2) ∧ ((b &&& (1 : Int32)) = 1)) 2 0))) ||| ((a &&& b) &&& (32 : Int32))) ||| (64 : Int32)), .int 1, .int (Int32.ofNat n), .ref 1592]) (S' := S) ht rfl rfl ?_
            refine zv_c1 ht rfl rfl (zv_c1 ht rfl rfl ?_)
            refine zv_c1 (st' := [.int (a &&& b), .int (((((a &&& b) &&& (1 : Int32)) ||| (Int32.ofNat (znt (((a &&& (2 : Int32)) = 2) ∧ ((b &&& (1 : Int32)) = 1)) 2 0))) ||| ((a &&& b) &&& (32 : Int32))) ||| (64 : Int32)), .int 1, .int (Int32.ofNat n), .ref 1592]) (S' := S) ht rfl rfl ?_
            refine zv_c1 ht rfl rfl ?_
            have C83 : ∀ (pst82 : Outcome × zS → Prop), (pst82 (.returned (some (.int (zbo (((a &&& b) &&& (256 : Int32)) = 256)))), S)) → zCall (d - 1) 139 [.int (a &&& b), .int 256] S pst82 := by
              intro pst82 k88
              have ht84 : ztab 139 = ztb139 := rfl
              show zEv (d - 1) 139 0 [.int (a &&& b), .int 256] [] S pst82
              refine zv_c1 ht84 rfl rfl (zv_c1 ht84 rfl rfl ?_)
              refine zv_c1 (st' := [.int ((a &&& b) &&& (256 : Int32))]) (S' := S) ht84 rfl rfl ?_
              refine zv_c1 ht84 rfl rfl ?_
              have J86 : zEv (d - 1) 139 12 [.retAddr 0, .retAddr 0] [.int (zbo (((a &&& b) &&& (256 : Int32)) = 256))] S pst82 := by
                exact zv_rc ht84 rfl rfl rfl rfl zbo_rng k88
              refine zv_br ht84 rfl rfl rfl (fun b85 => ?_) (fun b85 => ?_)
              · refine zv_c1 ht84 rfl rfl ?_
                exact zEv.wk (L := [.retAddr 0, .retAddr 0]) (L' := [.int (a &&& b), .int 256]) (And.intro (Or.inr rfl) (And.intro (Or.inr rfl) trivial)) (zv_sub (zz := zbo (((a &&& b) &&& (256 : Int32)) = 256)) (zy := 0) (p := fun zz => zEv (d - 1) 139 12 [.retAddr 0, .retAddr 0] [.int zz] S pst82) (zbo_neg b85) J86)
              · replace b85 : ((a &&& b) &&& (256 : Int32)) = 256 := Classical.not_not.mp b85
                refine zv_c1 ht84 rfl rfl (zv_c1 ht84 rfl rfl ?_)
                exact zEv.wk (L := [.retAddr 0, .retAddr 0]) (L' := [.int (a &&& b), .int 256]) (And.intro (Or.inr rfl) (And.intro (Or.inr rfl) trivial)) (zv_sub (zz := zbo (((a &&& b) &&& (256 : Int32)) = 256)) (zy := 1) (p := fun zz => zEv (d - 1) 139 12 [.retAddr 0, .retAddr 0] [.int zz] S pst82) (zbo_pos b85) J86)
            refine zv_cl ht rfl rfl rfl rfl (by omega) (Nat.le_of_ble_eq_true rfl) (C83 _ ?_)
            show zEv d 144 486 [.retAddr 0, .retAddr 0, .retAddr 0, .retAddr 0, .retAddr 0, .int a, .int b, .retAddr 0, .retAddr 0, .int (zbo (((a ||| b) &&& (32 : Int32)) = 32))] [.int (zbo (((a &&& b) &&& (256 : Int32)) = 256)), .int (((((a &&& b) &&& (1 : Int32)) ||| (Int32.ofNat (znt (((a &&& (2 : Int32)) = 2) ∧ ((b &&& (1 : Int32)) = 1)) 2 0))) ||| ((a &&& b) &&& (32 : Int32))) ||| (64 : Int32)), .int 1, .int (Int32.ofNat n), .ref 1592] S post
            have J101 : zEv d 144 510 [.retAddr 0, .retAddr 0, .retAddr 0, .retAddr 0, .retAddr 0, .retAddr 0, .retAddr 0, .retAddr 0, .retAddr 0, .retAddr 0] [.int (zbo ((((a &&& b) &&& (256 : Int32)) = 256) ∧ ((a &&& (128 : Int32)) = 128) ∧ (((a ||| b) &&& (32 : Int32)) = 32))), .int (((((a &&& b) &&& (1 : Int32)) ||| (Int32.ofNat (znt (((a &&& (2 : Int32)) = 2) ∧ ((b &&& (1 : Int32)) = 1)) 2 0))) ||| ((a &&& b) &&& (32 : Int32))) ||| (64 : Int32)), .int 1, .int (Int32.ofNat n), .ref 1592] S post := by
              refine zv_c1 ht rfl rfl ?_
              have C104 : ∀ (pst103 : Outcome × zS → Prop), (pst103 (.returned (some (.int (Int32.ofNat (znt ((((a &&& b) &&& (256 : Int32)) = 256) ∧ ((a &&& (128 : Int32)) = 128) ∧ (((a ||| b) &&& (32 : Int32)) = 32)) 256 0)))), S)) → zCall (d - 1) 140 [.int (zbo ((((a &&& b) &&& (256 : Int32)) = 256) ∧ ((a &&& (128 : Int32)) = 128) ∧ (((a ||| b) &&& (32 : Int32)) = 32))), .int 256] S pst103 := by
                intro pst103 k109
                have ht105 : ztab 140 = ztb140 := rfl
                show zEv (d - 1) 140 0 [.int (zbo ((((a &&& b) &&& (256 : Int32)) = 256) ∧ ((a &&& (128 : Int32)) = 128) ∧ (((a ||| b) &&& (32 : Int32)) = 32))), .int 256] [] S pst103
                refine zv_c1 ht105 rfl rfl ?_
                have J107 : zEv (d - 1) 140 9 [.retAddr 0, .retAddr 0] [.int (Int32.ofNat (znt ((((a &&& b) &&& (256 : Int32)) = 256) ∧ ((a &&& (128 : Int32)) = 128) ∧ (((a ||| b) &&& (32 : Int32)) = 32)) 256 0))] S pst103 := by
                  exact zv_rt ht105 rfl rfl rfl rfl k109
                refine zv_br ht105 rfl rfl rfl (fun b106 => ?_) (fun b106 => ?_)
                · replace b106 : ¬ ((((a &&& b) &&& (256 : Int32)) = 256) ∧ ((a &&& (128 : Int32)) = 128) ∧ (((a ||| b) &&& (32 : Int32)) = 32)) := (zbo_eq0 : (zbo ((((a &&& b) &&& (256 : Int32)) = 256) ∧ ((a &&& (128 : Int32)) = 128) ∧ (((a ||| b) &&& (32 : Int32)) = 32))) = 0 ↔ ¬ ((((a &&& b) &&& (256 : Int32)) = 256) ∧ ((a &&& (128 : Int32)) = 128) ∧ (((a ||| b) &&& (32 : Int32)) = 32))).mp b106
                  refine zv_c1 ht105 rfl rfl ?_
                  exact zEv.wk (L := [.retAddr 0, .retAddr 0]) (L' := [.int (zbo ((((a &&& b) &&& (256 : Int32)) = 256) ∧ ((a &&& (128 : Int32)) = 128) ∧ (((a ||| b) &&& (32 : Int32)) = 32))), .int 256]) (And.intro (Or.inr rfl) (And.intro (Or.inr rfl) trivial)) (zv_sub (zz := Int32.ofNat (znt ((((a &&& b) &&& (256 : Int32)) = 256) ∧ ((a &&& (128 : Int32)) = 128) ∧ (((a ||| b) &&& (32 : Int32)) = 32)) 256 0)) (zy := 0) (p := fun zz => zEv (d - 1) 140 9 [.retAddr 0, .retAddr 0] [.int zz] S pst103) (congrArg Int32.ofNat (znt_neg b106)) J107)
                · replace b106 : (((a &&& b) &&& (256 : Int32)) = 256) ∧ ((a &&& (128 : Int32)) = 128) ∧ (((a ||| b) &&& (32 : Int32)) = 32) := Classical.byContradiction (fun h => b106 ((zbo_eq0 : (zbo ((((a &&& b) &&& (256 : Int32)) = 256) ∧ ((a &&& (128 : Int32)) = 128) ∧ (((a ||| b) &&& (32 : Int32)) = 32))) = 0 ↔ ¬ ((((a &&& b) &&& (256 : Int32)) = 256) ∧ ((a &&& (128 : Int32)) = 128) ∧ (((a ||| b) &&& (32 : Int32)) = 32))).mpr h))
                  refine zv_c1 ht105 rfl rfl (zv_c1 ht105 rfl rfl ?_)
                  exact zEv.wk (L := [.retAddr 0, .retAddr 0]) (L' := [.int (zbo ((((a &&& b) &&& (256 : Int32)) = 256) ∧ ((a &&& (128 : Int32)) = 128) ∧ (((a ||| b) &&& (32 : Int32)) = 32))), .int 256]) (And.intro (Or.inr rfl) (And.intro (Or.inr rfl) trivial)) (zv_sub (zz := Int32.ofNat (znt ((((a &&& b) &&& (256 : Int32)) = 256) ∧ ((a &&& (128 : Int32)) = 128) ∧ (((a ||| b) &&& (32 : Int32)) = 32)) 256 0)) (zy := 256) (p := fun zz => zEv (d - 1) 140 9 [.retAddr 0, .retAddr 0] [.int zz] S pst103) (congrArg Int32.ofNat (znt_pos b106)) J107)
              refine zv_cl ht rfl rfl rfl rfl (by omega) (Nat.le_of_ble_eq_true rfl) (C104 _ ?_)
              show zEv d 144 516 [.retAddr 0, .retAddr 0, .retAddr 0, .retAddr 0, .retAddr 0, .retAddr 0, .retAddr 0, .retAddr 0, .retAddr 0, .retAddr 0] [.int (Int32.ofNat (znt ((((a &&& b) &&& (256 : Int32)) = 256) ∧ ((a &&& (128 : Int32)) = 128) ∧ (((a ||| b) &&& (32 : Int32)) = 32)) 256 0)), .int (((((a &&& b) &&& (1 : Int32)) ||| (Int32.ofNat (znt (((a &&& (2 : Int32)) = 2) ∧ ((b &&& (1 : Int32)) = 1)) 2 0))) ||| ((a &&& b) &&& (32 : Int32))) ||| (64 : Int32)), .int 1, .int (Int32.ofNat n), .ref 1592] S post
              refine zv_c1 (st' := [.int ((((((a &&& b) &&& (1 : Int32)) ||| (Int32.ofNat (znt (((a &&& (2 : Int32)) = 2) ∧ ((b &&& (1 : Int32)) = 1)) 2 0))) ||| ((a &&& b) &&& (32 : Int32))) ||| (64 : Int32)) ||| (Int32.ofNat (znt ((((a &&& b) &&& (256 : Int32)) = 256) ∧ ((a &&& (128 : Int32)) = 128) ∧ (((a ||| b) &&& (32 : Int32)) = 32)) 256 0))), .int 1, .int (Int32.ofNat n), .ref 1592]) (S' := S) ht rfl rfl ?_
              have C111 : ∀ (pst110 : Outcome × zS → Prop), (pst110 (.returned none, pt14_s1 S n a b)) → zCall (d - 1) 137 [.ref 1592, .int (Int32.ofNat n), .int 1, .int ((((((a &&& b) &&& (1 : Int32)) ||| (Int32.ofNat (znt (((a &&& (2 : Int32)) = 2) ∧ ((b &&& (1 : Int32)) = 1)) 2 0))) ||| ((a &&& b) &&& (32 : Int32))) ||| (64 : Int32)) ||| (Int32.ofNat (znt ((((a &&& b) &&& (256 : Int32)) = 256) ∧ ((a &&& (128 : Int32)) = 128) ∧ (((a ||| b) &&& (32 : Int32)) = 32)) 256 0)))] S pst110 := by
                intro pst110 k113
                have ht112 : ztab 137 = ztb137 := rfl
                show zEv (d - 1) 137 0 [.ref 1592, .int (Int32.ofNat n), .int 1, .int ((((((a &&& b) &&& (1 : Int32)) ||| (Int32.ofNat (znt (((a &&& (2 : Int32)) = 2) ∧ ((b &&& (1 : Int32)) = 1)) 2 0))) ||| ((a &&& b) &&& (32 : Int32))) ||| (64 : Int32)) ||| (Int32.ofNat (znt ((((a &&& b) &&& (256 : Int32)) = 256) ∧ ((a &&& (128 : Int32)) = 128) ∧ (((a ||| b) &&& (32 : Int32)) = 32)) 256 0)))] [] S pst110
                refine zv_c1 ht112 rfl rfl ?_
                refine zv_gl (st' := [.ref 1616]) ht112 rfl hF rfl rfl rfl ?_
                refine zv_c1 ht112 rfl rfl (zv_c1 ht112 rfl rfl ?_)
                refine zv_is (j := n) (x := 1) ht112 rfl rfl rfl rfl (zi_natE (a := n) rfl (by omega)) ⟨rfl, zi_inE (a := n) (n := 3000) rfl (by omega) (by omega)⟩ ?_
                refine zv_c1 ht112 rfl rfl ?_
                refine zv_gl (st' := [.ref 1617]) ht112 rfl hF rfl rfl rfl ?_
                refine zv_c1 ht112 rfl rfl (zv_c1 ht112 rfl rfl ?_)
                refine zv_is (j := n) (x := (((((a &&& b) &&& (1 : Int32)) ||| (Int32.ofNat (znt (((a &&& (2 : Int32)) = 2) ∧ ((b &&& (1 : Int32)) = 1)) 2 0))) ||| ((a &&& b) &&& (32 : Int32))) ||| (64 : Int32)) ||| (Int32.ofNat (znt ((((a &&& b) &&& (256 : Int32)) = 256) ∧ ((a &&& (128 : Int32)) = 128) ∧ (((a ||| b) &&& (32 : Int32)) = 32)) 256 0))) ht112 rfl rfl rfl rfl (zi_natE (a := n) rfl (by omega)) ⟨rfl, zi_inE (a := n) (n := 3000) rfl (by omega) (by omega)⟩ ?_
                exact zv_rt ht112 rfl rfl rfl rfl k113
              refine zv_cl ht rfl rfl rfl rfl (by omega) (Nat.le_of_ble_eq_true rfl) (C111 _ ?_)
              show zEv d 144 520 [.retAddr 0, .retAddr 0, .retAddr 0, .retAddr 0, .retAddr 0, .retAddr 0, .retAddr 0, .retAddr 0, .retAddr 0, .retAddr 0] [] (pt14_s1 S n a b) post
              exact zv_rt ht rfl rfl rfl rfl (h1 b45 b53 b54)
            have J99 : ((¬ (((a &&& b) &&& (256 : Int32)) = 256)) ∨ (¬ ((a &&& (128 : Int32)) = 128)) ∨ (¬ (((a ||| b) &&& (32 : Int32)) = 32))) → zEv d 144 509 [.retAddr 0, .retAddr 0, .retAddr 0, .retAddr 0, .retAddr 0, .retAddr 0, .retAddr 0, .retAddr 0, .retAddr 0, .retAddr 0] [.int (((((a &&& b) &&& (1 : Int32)) ||| (Int32.ofNat (znt (((a &&& (2 : Int32)) = 2) ∧ ((b &&& (1 : Int32)) = 1)) 2 0))) ||| ((a &&& b) &&& (32 : Int32))) ||| (64 : Int32)), .int 1, .int (Int32.ofNat n), .ref 1592] S post := by
              intro b100
              refine zv_c1 ht rfl rfl ?_
              exact (zv_sub (zz := zbo ((((a &&& b) &&& (256 : Int32)) = 256) ∧ ((a &&& (128 : Int32)) = 128) ∧ (((a ||| b) &&& (32 : Int32)) = 32))) (zy := 0) (p := fun zz => zEv d 144 510 [.retAddr 0, .retAddr 0, .retAddr 0, .retAddr 0, .retAddr 0, .retAddr 0, .retAddr 0, .retAddr 0, .retAddr 0, .retAddr 0] [.int zz, .int (((((a &&& b) &&& (1 : Int32)) ||| (Int32.ofNat (znt (((a &&& (2 : Int32)) = 2) ∧ ((b &&& (1 : Int32)) = 1)) 2 0))) ||| ((a &&& b) &&& (32 : Int32))) ||| (64 : Int32)), .int 1, .int (Int32.ofNat n), .ref 1592] S post) (zbo_neg (b100.elim (fun y1 => (fun h => y1 h.1)) (fun y1 => (y1.elim (fun y2 => (fun h => (fun h => y2 h.1) h.2)) (fun y2 => (fun h => (fun h => y2 h.2) h.2)))))) J101)
            refine zv_br ht rfl rfl rfl (fun b89 => ?_) (fun b89 => ?_)
            · replace b89 : ¬ (((a &&& b) &&& (256 : Int32)) = 256) := (zbo_eq0 : (zbo (((a &&& b) &&& (256 : Int32)) = 256)) = 0 ↔ ¬ (((a &&& b) &&& (256 : Int32)) = 256)).mp b89
              exact zEv.wk (L := [.retAddr 0, .retAddr 0, .retAddr 0, .retAddr 0, .retAddr 0, .retAddr 0, .retAddr 0, .retAddr 0, .retAddr 0, .retAddr 0]) (L' := [.retAddr 0, .retAddr 0, .retAddr 0, .retAddr 0, .retAddr 0, .int a, .int b, .retAddr 0, .retAddr 0, .int (zbo (((a ||| b) &&& (32 : Int32)) = 32))]) (And.intro (Or.inl rfl) (And.intro (Or.inl rfl) (And.intro (Or.inl rfl) (And.intro (Or.inl rfl) (And.intro (Or.inl rfl) (And.intro (Or.inr rfl) (And.intro (Or.inr rfl) (And.intro (Or.inl rfl) (And.intro (Or.inl rfl) (And.intro (Or.inr rfl) trivial)))))))))) (J99 (Or.inl b89))
            · replace b89 : ((a &&& b) &&& (256 : Int32)) = 256 := Classical.byContradiction (fun h => b89 ((zbo_eq0 : (zbo (((a &&& b) &&& (256 : Int32)) = 256)) = 0 ↔ ¬ (((a &&& b) &&& (256 : Int32)) = 256)).mpr h))
              refine zv_c1 ht rfl rfl (zv_c1 ht rfl rfl ?_)
              have C91 : ∀ (pst90 : Outcome × zS → Prop), (pst90 (.returned (some (.int (zbo ((a &&& (128 : Int32)) = 128)))), S)) → zCall (d - 1) 139 [.int a, .int 128] S pst90 := by
                intro pst90 k96
                have ht92 : ztab 139 = ztb139 := rfl
                show zEv (d - 1) 139 0 [.int a, .int 128] [] S pst90
                refine zv_c1 ht92 rfl rfl (zv_c1 ht92 rfl rfl ?_)
                refine zv_c1 (st' := [.int (a &&& (128 : Int32))]) (S' := S) ht92 rfl rfl ?_
                refine zv_c1 ht92 rfl rfl ?_
                have J94 : zEv (d - 1) 139 12 [.retAddr 0, .retAddr 0] [.int (zbo ((a &&& (128 : Int32)) = 128))] S pst90 := by
                  exact zv_rc ht92 rfl rfl rfl rfl zbo_rng k96
                refine zv_br ht92 rfl rfl rfl (fun b93 => ?_) (fun b93 => ?_)
                · refine zv_c1 ht92 rfl rfl ?_
                  exact zEv.wk (L := [.retAddr 0, .retAddr 0]) (L' := [.int a, .int 128]) (And.intro (Or.inr rfl) (And.intro (Or.inr rfl) trivial)) (zv_sub (zz := zbo ((a &&& (128 : Int32)) = 128)) (zy := 0) (p := fun zz => zEv (d - 1) 139 12 [.retAddr 0, .retAddr 0] [.int zz] S pst90) (zbo_neg b93) J94)
                · replace b93 : (a &&& (128 : Int32)) = 128 := Classical.not_not.mp b93
                  refine zv_c1 ht92 rfl rfl (zv_c1 ht92 rfl rfl ?_)
                  exact zEv.wk (L := [.retAddr 0, .retAddr 0]) (L' := [.int a, .int 128]) (And.intro (Or.inr rfl) (And.intro (Or.inr rfl) trivial)) (zv_sub (zz := zbo ((a &&& (128 : Int32)) = 128)) (zy := 1) (p := fun zz => zEv (d - 1) 139 12 [.retAddr 0, .retAddr 0] [.int zz] S pst90) (zbo_pos b93) J94)
              refine zv_cl ht rfl rfl rfl rfl (by omega) (Nat.le_of_ble_eq_true rfl) (C91 _ ?_)
              show zEv d 144 497 [.retAddr 0, .retAddr 0, .retAddr 0, .retAddr 0, .retAddr 0, .int a, .int b, .retAddr 0, .retAddr 0, .int (zbo (((a ||| b) &&& (32 : Int32)) = 32))] [.int (zbo ((a &&& (128 : Int32)) = 128)), .int (((((a &&& b) &&& (1 : Int32)) ||| (Int32.ofNat (znt (((a &&& (2 : Int32)) = 2) ∧ ((b &&& (1 : Int32)) = 1)) 2 0))) ||| ((a &&& b) &&& (32 : Int32))) ||| (64 : Int32)), .int 1, .int (Int32.ofNat n), .ref 1592] S post
              refine zv_br ht rfl rfl rfl (fun b97 => ?_) (fun b97 => ?_)
              · replace b97 : ¬ ((a &&& (128 : Int32)) = 128) := (zbo_eq0 : (zbo ((a &&& (128 : Int32)) = 128)) = 0 ↔ ¬ ((a &&& (128 : Int32)) = 128)).mp b97
                exact zEv.wk (L := [.retAddr 0, .retAddr 0, .retAddr 0, .retAddr 0, .retAddr 0, .retAddr 0, .retAddr 0, .retAddr 0, .retAddr 0, .retAddr 0]) (L' := [.retAddr 0, .retAddr 0, .retAddr 0, .retAddr 0, .retAddr 0, .int a, .int b, .retAddr 0, .retAddr 0, .int (zbo (((a ||| b) &&& (32 : Int32)) = 32))]) (And.intro (Or.inl rfl) (And.intro (Or.inl rfl) (And.intro (Or.inl rfl) (And.intro (Or.inl rfl) (And.intro (Or.inl rfl) (And.intro (Or.inr rfl) (And.intro (Or.inr rfl) (And.intro (Or.inl rfl) (And.intro (Or.inl rfl) (And.intro (Or.inr rfl) trivial)))))))))) (J99 (Or.inr (Or.inl b97)))
              · replace b97 : (a &&& (128 : Int32)) = 128 := Classical.byContradiction (fun h => b97 ((zbo_eq0 : (zbo ((a &&& (128 : Int32)) = 128)) = 0 ↔ ¬ ((a &&& (128 : Int32)) = 128)).mpr h))
                refine zv_c1 ht rfl rfl ?_
                refine zv_br ht rfl rfl rfl (fun b98 => ?_) (fun b98 => ?_)
                · replace b98 : ¬ (((a ||| b) &&& (32 : Int32)) = 32) := (zbo_eq0 : (zbo (((a ||| b) &&& (32 : Int32)) = 32)) = 0 ↔ ¬ (((a ||| b) &&& (32 : Int32)) = 32)).mp b98
                  exact zEv.wk (L := [.retAddr 0, .retAddr 0, .retAddr 0, .retAddr 0, .retAddr 0, .retAddr 0, .retAddr 0, .retAddr 0, .retAddr 0, .retAddr 0]) (L' := [.retAddr 0, .retAddr 0, .retAddr 0, .retAddr 0, .retAddr 0, .int a, .int b, .retAddr 0, .retAddr 0, .int (zbo (((a ||| b) &&& (32 : Int32)) = 32))]) (And.intro (Or.inl rfl) (And.intro (Or.inl rfl) (And.intro (Or.inl rfl) (And.intro (Or.inl rfl) (And.intro (Or.inl rfl) (And.intro (Or.inr rfl) (And.intro (Or.inr rfl) (And.intro (Or.inl rfl) (And.intro (Or.inl rfl) (And.intro (Or.inr rfl) trivial)))))))))) (J99 (Or.inr (Or.inr b98)))
                · replace b98 : ((a ||| b) &&& (32 : Int32)) = 32 := Classical.byContradiction (fun h => b98 ((zbo_eq0 : (zbo (((a ||| b) &&& (32 : Int32)) = 32)) = 0 ↔ ¬ (((a ||| b) &&& (32 : Int32)) = 32)).mpr h))
                  refine zv_c1 ht rfl rfl (zv_c1 ht rfl rfl ?_)
                  exact zEv.wk (L := [.retAddr 0, .retAddr 0, .retAddr 0, .retAddr 0, .retAddr 0, .retAddr 0, .retAddr 0, .retAddr 0, .retAddr 0, .retAddr 0]) (L' := [.retAddr 0, .retAddr 0, .retAddr 0, .retAddr 0, .retAddr 0, .int a, .int b, .retAddr 0, .retAddr 0, .int (zbo (((a ||| b) &&& (32 : Int32)) = 32))]) (And.intro (Or.inl rfl) (And.intro (Or.inl rfl) (And.intro (Or.inl rfl) (And.intro (Or.inl rfl) (And.intro (Or.inl rfl) (And.intro (Or.inr rfl) (And.intro (Or.inr rfl) (And.intro (Or.inl rfl) (And.intro (Or.inl rfl) (And.intro (Or.inr rfl) trivial)))))))))) (zv_sub (zz := zbo ((((a &&& b) &&& (256 : Int32)) = 256) ∧ ((a &&& (128 : Int32)) = 128) ∧ (((a ||| b) &&& (32 : Int32)) = 32))) (zy := 1) (p := fun zz => zEv d 144 510 [.retAddr 0, .retAddr 0, .retAddr 0, .retAddr 0, .retAddr 0, .retAddr 0, .retAddr 0, .retAddr 0, .retAddr 0, .retAddr 0] [.int zz, .int (((((a &&& b) &&& (1 : Int32)) ||| (Int32.ofNat (znt (((a &&& (2 : Int32)) = 2) ∧ ((b &&& (1 : Int32)) = 1)) 2 0))) ||| ((a &&& b) &&& (32 : Int32))) ||| (64 : Int32)), .int 1, .int (Int32.ofNat n), .ref 1592] S post) (zbo_pos ⟨b89, ⟨b97, b98⟩⟩) J101)
          have J71 : ((¬ ((a &&& (2 : Int32)) = 2)) ∨ (¬ ((b &&& (1 : Int32)) = 1))) → zEv d 144 457 [.retAddr 0, .retAddr 0, .retAddr 0, .retAddr 0, .retAddr 0, .int a, .int b, .retAddr 0, .retAddr 0, .int (zbo (((a ||| b) &&& (32 : Int32)) = 32))] [.int ((a &&& b) &&& (1 : Int32)), .int 1, .int (Int32.ofNat n), .ref 1592] S post := by
            intro b72
            refine zv_c1 ht rfl rfl ?_
            exact (zv_sub (zz := zbo (((a &&& (2 : Int32)) = 2) ∧ ((b &&& (1 : Int32)) = 1))) (zy := 0) (p := fun zz => zEv d 144 458 [.retAddr 0, .retAddr 0, .retAddr 0, .retAddr 0, .retAddr 0, .int a, .int b, .retAddr 0, .retAddr 0, .int (zbo (((a ||| b) &&& (32 : Int32)) = 32))] [.int zz, .int ((a &&& b) &&& (1 : Int32)), .int 1, .int (Int32.ofNat n), .ref 1592] S post) (zbo_neg (b72.elim (fun y1 => (fun h => y1 h.1)) (fun y1 => (fun h => y1 h.2)))) J73)
          refine zv_br ht rfl rfl rfl (fun b62 => ?_) (fun b62 => ?_)
          · replace b62 : ¬ ((a &&& (2 : Int32)) = 2) := (zbo_eq0 : (zbo ((a &&& (2 : Int32)) = 2)) = 0 ↔ ¬ ((a &&& (2 : Int32)) = 2)).mp b62
            exact zEv.wk (L := [.retAddr 0, .retAddr 0, .retAddr 0, .retAddr 0, .retAddr 0, .int a, .int b, .retAddr 0, .retAddr 0, .int (zbo (((a ||| b) &&& (32 : Int32)) = 32))]) (L' := [.ref 1592, .int (Int32.ofNat n), .int 14, .int p, .int q, .int a, .int b, .int ((a &&& b) &&& (1 : Int32)), .int (Int32.ofNat (znt (((a &&& (4 : Int32)) = 4) ∨ (((a &&& (1 : Int32)) = 1) ∧ ((b &&& (4 : Int32)) = 4))) 4 0)), .int (zbo (((a ||| b) &&& (32 : Int32)) = 32))]) (And.intro (Or.inr rfl) (And.intro (Or.inr rfl) (And.intro (Or.inr rfl) (And.intro (Or.inr rfl) (And.intro (Or.inr rfl) (And.intro (Or.inl rfl) (And.intro (Or.inl rfl) (And.intro (Or.inr rfl) (And.intro (Or.inr rfl) (And.intro (Or.inl rfl) trivial)))))))))) (J71 (Or.inl b62))
          · replace b62 : (a &&& (2 : Int32)) = 2 := Classical.byContradiction (fun h => b62 ((zbo_eq0 : (zbo ((a &&& (2 : Int32)) = 2)) = 0 ↔ ¬ ((a &&& (2 : Int32)) = 2)).mpr h))
            refine zv_c1 ht rfl rfl (zv_c1 ht rfl rfl ?_)
            have C64 : ∀ (pst63 : Outcome × zS → Prop), (pst63 (.returned (some (.int (zbo ((b &&& (1 : Int32)) = 1)))), S)) → zCall (d - 1) 139 [.int b, .int 1] S pst63 := by
              intro pst63 k69
              have ht65 : ztab 139 = ztb139 := rfl
              show zEv (d - 1) 139 0 [.int b, .int 1] [] S pst63
              refine zv_c1 ht65 rfl rfl (zv_c1 ht65 rfl rfl ?_)
              refine zv_c1 (st' := [.int (b &&& (1 : Int32))]) (S' := S) ht65 rfl rfl ?_
              refine zv_c1 ht65 rfl rfl ?_
              have J67 : zEv (d - 1) 139 12 [.retAddr 0, .retAddr 0] [.int (zbo ((b &&& (1 : Int32)) = 1))] S pst63 := by
                exact zv_rc ht65 rfl rfl rfl rfl zbo_rng k69
              refine zv_br ht65 rfl rfl rfl (fun b66 => ?_) (fun b66 => ?_)
              · refine zv_c1 ht65 rfl rfl ?_
                exact zEv.wk (L := [.retAddr 0, .retAddr 0]) (L' := [.int b, .int 1]) (And.intro (Or.inr rfl) (And.intro (Or.inr rfl) trivial)) (zv_sub (zz := zbo ((b &&& (1 : Int32)) = 1)) (zy := 0) (p := fun zz => zEv (d - 1) 139 12 [.retAddr 0, .retAddr 0] [.int zz] S pst63) (zbo_neg b66) J67)
              · replace b66 : (b &&& (1 : Int32)) = 1 := Classical.not_not.mp b66
                refine zv_c1 ht65 rfl rfl (zv_c1 ht65 rfl rfl ?_)
                exact zEv.wk (L := [.retAddr 0, .retAddr 0]) (L' := [.int b, .int 1]) (And.intro (Or.inr rfl) (And.intro (Or.inr rfl) trivial)) (zv_sub (zz := zbo ((b &&& (1 : Int32)) = 1)) (zy := 1) (p := fun zz => zEv (d - 1) 139 12 [.retAddr 0, .retAddr 0] [.int zz] S pst63) (zbo_pos b66) J67)
            refine zv_cl ht rfl rfl rfl rfl (by omega) (Nat.le_of_ble_eq_true rfl) (C64 _ ?_)
            show zEv d 144 450 [.ref 1592, .int (Int32.ofNat n), .int 14, .int p, .int q, .int a, .int b, .int ((a &&& b) &&& (1 : Int32)), .int (Int32.ofNat (znt (((a &&& (4 : Int32)) = 4) ∨ (((a &&& (1 : Int32)) = 1) ∧ ((b &&& (4 : Int32)) = 4))) 4 0)), .int (zbo (((a ||| b) &&& (32 : Int32)) = 32))] [.int (zbo ((b &&& (1 : Int32)) = 1)), .int ((a &&& b) &&& (1 : Int32)), .int 1, .int (Int32.ofNat n), .ref 1592] S post
            refine zv_br ht rfl rfl rfl (fun b70 => ?_) (fun b70 => ?_)
            · replace b70 : ¬ ((b &&& (1 : Int32)) = 1) := (zbo_eq0 : (zbo ((b &&& (1 : Int32)) = 1)) = 0 ↔ ¬ ((b &&& (1 : Int32)) = 1)).mp b70
              exact zEv.wk (L := [.retAddr 0, .retAddr 0, .retAddr 0, .retAddr 0, .retAddr 0, .int a, .int b, .retAddr 0, .retAddr 0, .int (zbo (((a ||| b) &&& (32 : Int32)) = 32))]) (L' := [.ref 1592, .int (Int32.ofNat n), .int 14, .int p, .int q, .int a, .int b, .int ((a &&& b) &&& (1 : Int32)), .int (Int32.ofNat (znt (((a &&& (4 : Int32)) = 4) ∨ (((a &&& (1 : Int32)) = 1) ∧ ((b &&& (4 : Int32)) = 4))) 4 0)), .int (zbo (((a ||| b) &&& (32 : Int32)) = 32))]) (And.intro (Or.inr rfl) (And.intro (Or.inr rfl) (And.intro (Or.inr rfl) (And.intro (Or.inr rfl) (And.intro (Or.inr rfl) (And.intro (Or.inl rfl) (And.intro (Or.inl rfl) (And.intro (Or.inr rfl) (And.intro (Or.inr rfl) (And.intro (Or.inl rfl) trivial)))))))))) (J71 (Or.inr b70))
            · replace b70 : (b &&& (1 : Int32)) = 1 := Classical.byContradiction (fun h => b70 ((zbo_eq0 : (zbo ((b &&& (1 : Int32)) = 1)) = 0 ↔ ¬ ((b &&& (1 : Int32)) = 1)).mpr h))
              refine zv_c1 ht rfl rfl (zv_c1 ht rfl rfl ?_)
              exact zEv.wk (L := [.retAddr 0, .retAddr 0, .retAddr 0, .retAddr 0, .retAddr 0, .int a, .int b, .retAddr 0, .retAddr 0, .int (zbo (((a ||| b) &&& (32 : Int32)) = 32))]) (L' := [.ref 1592, .int (Int32.ofNat n), .int 14, .int p, .int q, .int a, .int b, .int ((a &&& b) &&& (1 : Int32)), .int (Int32.ofNat (znt (((a &&& (4 : Int32)) = 4) ∨ (((a &&& (1 : Int32)) = 1) ∧ ((b &&& (4 : Int32)) = 4))) 4 0)), .int (zbo (((a ||| b) &&& (32 : Int32)) = 32))]) (And.intro (Or.inr rfl) (And.intro (Or.inr rfl) (And.intro (Or.inr rfl) (And.intro (Or.inr rfl) (And.intro (Or.inr rfl) (And.intro (Or.inl rfl) (And.intro (Or.inl rfl) (And.intro (Or.inr rfl) (And.intro (Or.inr rfl) (And.intro (Or.inl rfl) trivial)))))))))) (zv_sub (zz := zbo (((a &&& (2 : Int32)) = 2) ∧ ((b &&& (1 : Int32)) = 1))) (zy := 1) (p := fun zz => zEv d 144 458 [.retAddr 0, .retAddr 0, .retAddr 0, .retAddr 0, .retAddr 0, .int a, .int b, .retAddr 0, .retAddr 0, .int (zbo (((a ||| b) &&& (32 : Int32)) = 32))] [.int zz, .int ((a &&& b) &&& (1 : Int32)), .int 1, .int (Int32.ofNat n), .ref 1592] S post) (zbo_pos ⟨b62, b70⟩) J73)
        · exact zEv.wk (L := [.retAddr 0, .retAddr 0, .retAddr 0, .retAddr 0, .retAddr 0, .retAddr 0, .retAddr 0, .retAddr 0, .retAddr 0, .retAddr 0]) (L' := [.ref 1592, .int (Int32.ofNat n), .int 14, .int p, .int q, .int a, .int b, .int ((a &&& b) &&& (1 : Int32)), .int (Int32.ofNat (znt (((a &&& (4 : Int32)) = 4) ∨ (((a &&& (1 : Int32)) = 1) ∧ ((b &&& (4 : Int32)) = 4))) 4 0)), .int (zbo (((a ||| b) &&& (32 : Int32)) = 32))]) (And.intro (Or.inr rfl) (And.intro (Or.inr rfl) (And.intro (Or.inr rfl) (And.intro (Or.inr rfl) (And.intro (Or.inr rfl) (And.intro (Or.inr rfl) (And.intro (Or.inr rfl) (And.intro (Or.inr rfl) (And.intro (Or.inr rfl) (And.intro (Or.inr rfl) trivial)))))))))) (J114 (Or.inr (Or.inr b54)))
  have J27 : (((a &&& (4 : Int32)) = 4) ∨ (((a &&& (1 : Int32)) = 1) ∧ ((b &&& (4 : Int32)) = 4))) → zEv d 144 36 [.ref 1592, .int (Int32.ofNat n), .int 14, .int p, .int q, .int a, .int b, .int ((a &&& b) &&& (1 : Int32)), .retAddr 0, .retAddr 0] [] S post := by
    intro b28
    refine zv_c1 ht rfl rfl (zv_c1 ht rfl rfl ?_)
    exact (zv_sub (zz := zbo (((a &&& (4 : Int32)) = 4) ∨ (((a &&& (1 : Int32)) = 1) ∧ ((b &&& (4 : Int32)) = 4)))) (zy := 1) (p := fun zz => zEv d 144 41 [.ref 1592, .int (Int32.ofNat n), .int 14, .int p, .int q, .int a, .int b, .int ((a &&& b) &&& (1 : Int32)), .retAddr 0, .retAddr 0] [.int zz] S post) (zbo_pos b28) J29)
  refine zv_br ht rfl rfl rfl (fun b8 => ?_) (fun b8 => ?_)
  · replace b8 : (a &&& (4 : Int32)) = 4 := Classical.byContradiction (fun h => b8 ((zbo_eq0 : (zbo ((a &&& (4 : Int32)) = 4)) = 0 ↔ ¬ ((a &&& (4 : Int32)) = 4)).mpr h))
    exact (J27 (Or.inl b8))
  · replace b8 : ¬ ((a &&& (4 : Int32)) = 4) := (zbo_eq0 : (zbo ((a &&& (4 : Int32)) = 4)) = 0 ↔ ¬ ((a &&& (4 : Int32)) = 4)).mp (Classical.not_not.mp b8)
    refine zv_c1 ht rfl rfl (zv_c1 ht rfl rfl ?_)
    have C10 : ∀ (pst9 : Outcome × zS → Prop), (pst9 (.returned (some (.int (zbo ((a &&& (1 : Int32)) = 1)))), S)) → zCall (d - 1) 139 [.int a, .int 1] S pst9 := by
      intro pst9 k15
      have ht11 : ztab 139 = ztb139 := rfl
      show zEv (d - 1) 139 0 [.int a, .int 1] [] S pst9
      refine zv_c1 ht11 rfl rfl (zv_c1 ht11 rfl rfl ?_)
      refine zv_c1 (st' := [.int (a &&& (1 : Int32))]) (S' := S) ht11 rfl rfl ?_
      refine zv_c1 ht11 rfl rfl ?_
      have J13 : zEv (d - 1) 139 12 [.retAddr 0, .retAddr 0] [.int (zbo ((a &&& (1 : Int32)) = 1))] S pst9 := by
        exact zv_rc ht11 rfl rfl rfl rfl zbo_rng k15
      refine zv_br ht11 rfl rfl rfl (fun b12 => ?_) (fun b12 => ?_)
      · refine zv_c1 ht11 rfl rfl ?_
        exact zEv.wk (L := [.retAddr 0, .retAddr 0]) (L' := [.int a, .int 1]) (And.intro (Or.inr rfl) (And.intro (Or.inr rfl) trivial)) (zv_sub (zz := zbo ((a &&& (1 : Int32)) = 1)) (zy := 0) (p := fun zz => zEv (d - 1) 139 12 [.retAddr 0, .retAddr 0] [.int zz] S pst9) (zbo_neg b12) J13)
      · replace b12 : (a &&& (1 : Int32)) = 1 := Classical.not_not.mp b12
        refine zv_c1 ht11 rfl rfl (zv_c1 ht11 rfl rfl ?_)
        exact zEv.wk (L := [.retAddr 0, .retAddr 0]) (L' := [.int a, .int 1]) (And.intro (Or.inr rfl) (And.intro (Or.inr rfl) trivial)) (zv_sub (zz := zbo ((a &&& (1 : Int32)) = 1)) (zy := 1) (p := fun zz => zEv (d - 1) 139 12 [.retAddr 0, .retAddr 0] [.int zz] S pst9) (zbo_pos b12) J13)
    refine zv_cl ht rfl rfl rfl rfl (by omega) (Nat.le_of_ble_eq_true rfl) (C10 _ ?_)
    show zEv d 144 24 [.ref 1592, .int (Int32.ofNat n), .int 14, .int p, .int q, .int a, .int b, .int ((a &&& b) &&& (1 : Int32)), .retAddr 0, .retAddr 0] [.int (zbo ((a &&& (1 : Int32)) = 1))] S post
    have J25 : ((¬ ((a &&& (1 : Int32)) = 1)) ∨ (¬ ((b &&& (4 : Int32)) = 4))) → zEv d 144 40 [.ref 1592, .int (Int32.ofNat n), .int 14, .int p, .int q, .int a, .int b, .int ((a &&& b) &&& (1 : Int32)), .retAddr 0, .retAddr 0] [] S post := by
      intro b26
      refine zv_c1 ht rfl rfl ?_
      exact (zv_sub (zz := zbo (((a &&& (4 : Int32)) = 4) ∨ (((a &&& (1 : Int32)) = 1) ∧ ((b &&& (4 : Int32)) = 4)))) (zy := 0) (p := fun zz => zEv d 144 41 [.ref 1592, .int (Int32.ofNat n), .int 14, .int p, .int q, .int a, .int b, .int ((a &&& b) &&& (1 : Int32)), .retAddr 0, .retAddr 0] [.int zz] S post) (zbo_neg (b26.elim (fun y1 => (fun h => h.elim b8 (fun h => y1 h.1))) (fun y1 => (fun h => h.elim b8 (fun h => y1 h.2))))) J29)
    refine zv_br ht rfl rfl rfl (fun b16 => ?_) (fun b16 => ?_)
    · replace b16 : ¬ ((a &&& (1 : Int32)) = 1) := (zbo_eq0 : (zbo ((a &&& (1 : Int32)) = 1)) = 0 ↔ ¬ ((a &&& (1 : Int32)) = 1)).mp b16
      exact (J25 (Or.inl b16))
    · replace b16 : (a &&& (1 : Int32)) = 1 := Classical.byContradiction (fun h => b16 ((zbo_eq0 : (zbo ((a &&& (1 : Int32)) = 1)) = 0 ↔ ¬ ((a &&& (1 : Int32)) = 1)).mpr h))
      refine zv_c1 ht rfl rfl (zv_c1 ht rfl rfl ?_)
      have C18 : ∀ (pst17 : Outcome × zS → Prop), (pst17 (.returned (some (.int (zbo ((b &&& (4 : Int32)) = 4)))), S)) → zCall (d - 1) 139 [.int b, .int 4] S pst17 := by
        intro pst17 k23
        have ht19 : ztab 139 = ztb139 := rfl
        show zEv (d - 1) 139 0 [.int b, .int 4] [] S pst17
        refine zv_c1 ht19 rfl rfl (zv_c1 ht19 rfl rfl ?_)
        refine zv_c1 (st' := [.int (b &&& (4 : Int32))]) (S' := S) ht19 rfl rfl ?_
        refine zv_c1 ht19 rfl rfl ?_
        have J21 : zEv (d - 1) 139 12 [.retAddr 0, .retAddr 0] [.int (zbo ((b &&& (4 : Int32)) = 4))] S pst17 := by
          exact zv_rc ht19 rfl rfl rfl rfl zbo_rng k23
        refine zv_br ht19 rfl rfl rfl (fun b20 => ?_) (fun b20 => ?_)
        · refine zv_c1 ht19 rfl rfl ?_
          exact zEv.wk (L := [.retAddr 0, .retAddr 0]) (L' := [.int b, .int 4]) (And.intro (Or.inr rfl) (And.intro (Or.inr rfl) trivial)) (zv_sub (zz := zbo ((b &&& (4 : Int32)) = 4)) (zy := 0) (p := fun zz => zEv (d - 1) 139 12 [.retAddr 0, .retAddr 0] [.int zz] S pst17) (zbo_neg b20) J21)
        · replace b20 : (b &&& (4 : Int32)) = 4 := Classical.not_not.mp b20
          refine zv_c1 ht19 rfl rfl (zv_c1 ht19 rfl rfl ?_)
          exact zEv.wk (L := [.retAddr 0, .retAddr 0]) (L' := [.int b, .int 4]) (And.intro (Or.inr rfl) (And.intro (Or.inr rfl) trivial)) (zv_sub (zz := zbo ((b &&& (4 : Int32)) = 4)) (zy := 1) (p := fun zz => zEv (d - 1) 139 12 [.retAddr 0, .retAddr 0] [.int zz] S pst17) (zbo_pos b20) J21)
      refine zv_cl ht rfl rfl rfl rfl (by omega) (Nat.le_of_ble_eq_true rfl) (C18 _ ?_)
      show zEv d 144 33 [.ref 1592, .int (Int32.ofNat n), .int 14, .int p, .int q, .int a, .int b, .int ((a &&& b) &&& (1 : Int32)), .retAddr 0, .retAddr 0] [.int (zbo ((b &&& (4 : Int32)) = 4))] S post
      refine zv_br ht rfl rfl rfl (fun b24 => ?_) (fun b24 => ?_)
      · replace b24 : ¬ ((b &&& (4 : Int32)) = 4) := (zbo_eq0 : (zbo ((b &&& (4 : Int32)) = 4)) = 0 ↔ ¬ ((b &&& (4 : Int32)) = 4)).mp b24
        exact (J25 (Or.inr b24))
      · replace b24 : (b &&& (4 : Int32)) = 4 := Classical.byContradiction (fun h => b24 ((zbo_eq0 : (zbo ((b &&& (4 : Int32)) = 4)) = 0 ↔ ¬ ((b &&& (4 : Int32)) = 4)).mpr h))
        exact (J27 (Or.inr ⟨b16, b24⟩))
noncomputable def tyP14 (p q a b : Int32) : Option (Int32 × Int32) := zop ((p = 0) ∧ ((a &&& (24 : Int32)) = 24) ∧ (q = 1)) (1, (((((a &&& b) &&& (1 : Int32)) ||| (Int32.ofNat (znt (((a &&& (2 : Int32)) = 2) ∧ ((b &&& (1 : Int32)) = 1)) 2 0))) ||| ((a &&& b) &&& (32 : Int32))) ||| (64 : Int32)) ||| (Int32.ofNat (znt ((((a &&& b) &&& (256 : Int32)) = 256) ∧ ((a &&& (128 : Int32)) = 128) ∧ (((a ||| b) &&& (32 : Int32)) = 32)) 256 0)))
noncomputable def pt15_s1 (S : zS) (n : Nat) (a : Int32) (b : Int32) : zS := sA (sA S 1616 n 0) 1617 n ((((((a &&& b) &&& (1 : Int32)) ||| (Int32.ofNat (znt (((a &&& (2 : Int32)) = 2) ∧ ((b &&& (1 : Int32)) = 1)) 2 0))) ||| (b &&& (216 : Int32))) ||| ((a &&& b) &&& (32 : Int32))) ||| (Int32.ofNat (znt ((((a &&& b) &&& (256 : Int32)) = 256) ∧ ((a &&& (128 : Int32)) = 128) ∧ (((a ||| b) &&& (32 : Int32)) = 32)) 256 0)))
theorem pt15 {d : Nat} {S : zS} (hF : zFin true S) (hd : 1 ≤ d) (n : Nat) (p q a b : Int32)  (hn : n < 3000) {post : Outcome × zS → Prop} (h1 : (p = 0) → ((a &&& (24 : Int32)) = 24) → (q = 0) → post (.returned none, pt15_s1 S n a b)) (h2 : ((¬ (p = 0)) ∨ (¬ ((a &&& (24 : Int32)) = 24)) ∨ (¬ (q = 0))) → post (.returned none, S)) : zCall d 144 [.ref 1592, .int (Int32.ofNat n), .int 15, .int p, .int q, .int a, .int b] S post := by
  have ht : ztab 144 = ztb144 := rfl
  show zEv d 144 0 [.ref 1592, .int (Int32.ofNat n), .int 15, .int p, .int q, .int a, .int b, .retAddr 0, .retAddr 0, .retAddr 0] [] S post
  refine zv_c1 ht rfl rfl (zv_c1 ht rfl rfl ?_)
  refine zv_c1 (st' := [.int (a &&& b)]) (S' := S) ht rfl rfl ?_
  refine zv_c1 ht rfl rfl ?_
  refine zv_c1 (st' := [.int ((a &&& b) &&& (1 : Int32))]) (S' := S) ht rfl rfl ?_
  refine zv_c2 (L' := [.ref 1592, .int (Int32.ofNat n), .int 15, .int p, .int q, .int a, .int b, .int ((a &&& b) &&& (1 : Int32)), .retAddr 0, .retAddr 0]) ht rfl rfl ?_
  refine zv_c1 ht rfl rfl (zv_c1 ht rfl rfl ?_)
  have C2 : ∀ (pst1 : Outcome × zS → Prop), (pst1 (.returned (some (.int (zbo ((a &&& (4 : Int32)) = 4)))), S)) → zCall (d - 1) 139 [.int a, .int 4] S pst1 := by
    intro pst1 k7
    have ht3 : ztab 139 = ztb139 := rfl
    show zEv (d - 1) 139 0 [.int a, .int 4] [] S pst1
    refine zv_c1 ht3 rfl rfl (zv_c1 ht3 rfl rfl ?_)
    refine zv_c1 (st' := [.int (a &&& (4 : Int32))]) (S' := S) ht3 rfl rfl ?_
    refine zv_c1 ht3 rfl rfl ?_
    have J5 : zEv (d - 1) 139 12 [.retAddr 0, .retAddr 0] [.int (zbo ((a &&& (4 : Int32)) = 4))] S pst1 := by
      exact zv_rc ht3 rfl rfl rfl rfl zbo_rng k7
    refine zv_br ht3 rfl rfl rfl (fun b4 => ?_) (fun b4 => ?_)
    · refine zv_c1 ht3 rfl rfl ?_
      exact zEv.wk (L := [.retAddr 0, .retAddr 0]) (L' := [.int a, .int 4]) (And.intro (Or.inr rfl) (And.intro (Or.inr rfl) trivial)) (zv_sub (zz := zbo ((a &&& (4 : Int32)) = 4)) (zy := 0) (p := fun zz => zEv (d - 1) 139 12 [.retAddr 0, .retAddr 0] [.int zz] S pst1) (zbo_neg b4) J5)
    · replace b4 : (a &&& (4 : Int32)) = 4 := Classical.not_not.mp b4
      refine zv_c1 ht3 rfl rfl (zv_c1 ht3 rfl rfl ?_)
      exact zEv.wk (L := [.retAddr 0, .retAddr 0]) (L' := [.int a, .int 4]) (And.intro (Or.inr rfl) (And.intro (Or.inr rfl) trivial)) (zv_sub (zz := zbo ((a &&& (4 : Int32)) = 4)) (zy := 1) (p := fun zz => zEv (d - 1) 139 12 [.retAddr 0, .retAddr 0] [.int zz] S pst1) (zbo_pos b4) J5)
  refine zv_cl ht rfl rfl rfl rfl (by omega) (Nat.le_of_ble_eq_true rfl) (C2 _ ?_)
  show zEv d 144 15 [.ref 1592, .int (Int32.ofNat n), .int 15, .int p, .int q, .int a, .int b, .int ((a &&& b) &&& (1 : Int32)), .retAddr 0, .retAddr 0] [.int (zbo ((a &&& (4 : Int32)) = 4))] S post
  have J29 : zEv d 144 41 [.ref 1592, .int (Int32.ofNat n), .int 15, .int p, .int q, .int a, .int b, .int ((a &&& b) &&& (1 : Int32)), .retAddr 0, .retAddr 0] [.int (zbo (((a &&& (4 : Int32)) = 4) ∨ (((a &&& (1 : Int32)) = 1) ∧ ((b &&& (4 : Int32)) = 4))))] S post := by
    refine zv_c1 ht rfl rfl ?_
    have C32 : ∀ (pst31 : Outcome × zS → Prop), (pst31 (.returned (some (.int (Int32.ofNat (znt (((a &&& (4 : Int32)) = 4) ∨ (((a &&& (1 : Int32)) = 1) ∧ ((b &&& (4 : Int32)) = 4))) 4 0)))), S)) → zCall (d - 1) 140 [.int (zbo (((a &&& (4 : Int32)) = 4) ∨ (((a &&& (1 : Int32)) = 1) ∧ ((b &&& (4 : Int32)) = 4)))), .int 4] S pst31 := by
      intro pst31 k37
      have ht33 : ztab 140 = ztb140 := rfl
      show zEv (d - 1) 140 0 [.int (zbo (((a &&& (4 : Int32)) = 4) ∨ (((a &&& (1 : Int32)) = 1) ∧ ((b &&& (4 : Int32)) = 4)))), .int 4] [] S pst31
      refine zv_c1 ht33 rfl rfl ?_
      have J35 : zEv (d - 1) 140 9 [.retAddr 0, .retAddr 0] [.int (Int32.ofNat (znt (((a &&& (4 : Int32)) = 4) ∨ (((a &&& (1 : Int32)) = 1) ∧ ((b &&& (4 : Int32)) = 4))) 4 0))] S pst31 := by
        exact zv_rt ht33 rfl rfl rfl rfl k37
      refine zv_br ht33 rfl rfl rfl (fun b34 => ?_) (fun b34 => ?_)
      · replace b34 : ¬ (((a &&& (4 : Int32)) = 4) ∨ (((a &&& (1 : Int32)) = 1) ∧ ((b &&& (4 : Int32)) = 4))) := (zbo_eq0 : (zbo (((a &&& (4 : Int32)) = 4) ∨ (((a &&& (1 : Int32)) = 1) ∧ ((b &&& (4 : Int32)) = 4)))) = 0 ↔ ¬ (((a &&& (4 : Int32)) = 4) ∨ (((a &&& (1 : Int32)) = 1) ∧ ((b &&& (4 : Int32)) = 4)))).mp b34
        refine zv_c1 ht33 rfl rfl ?_
        exact zEv.wk (L := [.retAddr 0, .retAddr 0]) (L' := [.int (zbo (((a &&& (4 : Int32)) = 4) ∨ (((a &&& (1 : Int32)) = 1) ∧ ((b &&& (4 : Int32)) = 4)))), .int 4]) (And.intro (Or.inr rfl) (And.intro (Or.inr rfl) trivial)) (zv_sub (zz := Int32.ofNat (znt (((a &&& (4 : Int32)) = 4) ∨ (((a &&& (1 : Int32)) = 1) ∧ ((b &&& (4 : Int32)) = 4))) 4 0)) (zy := 0) (p := fun zz => zEv (d - 1) 140 9 [.retAddr 0, .retAddr 0] [.int zz] S pst31) (congrArg Int32.ofNat (znt_neg b34)) J35)
      · replace b34 : ((a &&& (4 : Int32)) = 4) ∨ (((a &&& (1 : Int32)) = 1) ∧ ((b &&& (4 : Int32)) = 4)) := Classical.byContradiction (fun h => b34 ((zbo_eq0 : (zbo (((a &&& (4 : Int32)) = 4) ∨ (((a &&& (1 : Int32)) = 1) ∧ ((b &&& (4 : Int32)) = 4)))) = 0 ↔ ¬ (((a &&& (4 : Int32)) = 4) ∨ (((a &&& (1 : Int32)) = 1) ∧ ((b &&& (4 : Int32)) = 4)))).mpr h))
        refine zv_c1 ht33 rfl rfl (zv_c1 ht33 rfl rfl ?_)
        exact zEv.wk (L := [.retAddr 0, .retAddr 0]) (L' := [.int (zbo (((a &&& (4 : Int32)) = 4) ∨ (((a &&& (1 : Int32)) = 1) ∧ ((b &&& (4 : Int32)) = 4)))), .int 4]) (And.intro (Or.inr rfl) (And.intro (Or.inr rfl) trivial)) (zv_sub (zz := Int32.ofNat (znt (((a &&& (4 : Int32)) = 4) ∨ (((a &&& (1 : Int32)) = 1) ∧ ((b &&& (4 : Int32)) = 4))) 4 0)) (zy := 4) (p := fun zz => zEv (d - 1) 140 9 [.retAddr 0, .retAddr 0] [.int zz] S pst31) (congrArg Int32.ofNat (znt_pos b34)) J35)
    refine zv_cl ht rfl rfl rfl rfl (by omega) (Nat.le_of_ble_eq_true rfl) (C32 _ ?_)
    show zEv d 144 45 [.ref 1592, .int (Int32.ofNat n), .int 15, .int p, .int q, .int a, .int b, .int ((a &&& b) &&& (1 : Int32)), .retAddr 0, .retAddr 0] [.int (Int32.ofNat (znt (((a &&& (4 : Int32)) = 4) ∨ (((a &&& (1 : Int32)) = 1) ∧ ((b &&& (4 : Int32)) = 4))) 4 0))] S post
    refine zv_c2 (L' := [.ref 1592, .int (Int32.ofNat n), .int 15, .int p, .int q, .int a, .int b, .int ((a &&& b) &&& (1 : Int32)), .int (Int32.ofNat (znt (((a &&& (4 : Int32)) = 4) ∨ (((a &&& (1 : Int32)) = 1) ∧ ((b &&& (4 : Int32)) = 4))) 4 0)), .retAddr 0]) ht rfl rfl ?_
    refine zv_c1 ht rfl rfl (zv_c1 ht rfl rfl ?_)
    refine zv_c1 (st' := [.int (a ||| b)]) (S' := S) ht rfl rfl ?_
    refine zv_c1 ht rfl rfl ?_
    have C39 : ∀ (pst38 : Outcome × zS → Prop), (pst38 (.returned (some (.int (zbo (((a ||| b) &&& (32 : Int32)) = 32)))), S)) → zCall (d - 1) 139 [.int (a ||| b), .int 32] S pst38 := by
      intro pst38 k44
      have ht40 : ztab 139 = ztb139 := rfl
      show zEv (d - 1) 139 0 [.int (a ||| b), .int 32] [] S pst38
      refine zv_c1 ht40 rfl rfl (zv_c1 ht40 rfl rfl ?_)
      refine zv_c1 (st' := [.int ((a ||| b) &&& (32 : Int32))]) (S' := S) ht40 rfl rfl ?_
      refine zv_c1 ht40 rfl rfl ?_
      have J42 : zEv (d - 1) 139 12 [.retAddr 0, .retAddr 0] [.int (zbo (((a ||| b) &&& (32 : Int32)) = 32))] S pst38 := by
        exact zv_rc ht40 rfl rfl rfl rfl zbo_rng k44
      refine zv_br ht40 rfl rfl rfl (fun b41 => ?_) (fun b41 => ?_)
      · refine zv_c1 ht40 rfl rfl ?_
        exact zEv.wk (L := [.retAddr 0, .retAddr 0]) (L' := [.int (a ||| b), .int 32]) (And.intro (Or.inr rfl) (And.intro (Or.inr rfl) trivial)) (zv_sub (zz := zbo (((a ||| b) &&& (32 : Int32)) = 32)) (zy := 0) (p := fun zz => zEv (d - 1) 139 12 [.retAddr 0, .retAddr 0] [.int zz] S pst38) (zbo_neg b41) J42)
      · replace b41 : ((a ||| b) &&& (32 : Int32)) = 32 := Classical.not_not.mp b41
        refine zv_c1 ht40 rfl rfl (zv_c1 ht40 rfl rfl ?_)
        exact zEv.wk (L := [.retAddr 0, .retAddr 0]) (L' := [.int (a ||| b), .int 32]) (And.intro (Or.inr rfl) (And.intro (Or.inr rfl) trivial)) (zv_sub (zz := zbo (((a ||| b) &&& (32 : Int32)) = 32)) (zy := 1) (p := fun zz => zEv (d - 1) 139 12 [.retAddr 0, .retAddr 0] [.int zz] S pst38) (zbo_pos b41) J42)
    refine zv_cl ht rfl rfl rfl rfl (by omega) (Nat.le_of_ble_eq_true rfl) (C39 _ ?_)
    show zEv d 144 57 [.ref 1592, .int (Int32.ofNat n), .int 15, .int p, .int q, .int a, .int b, .int ((a &&& b) &&& (1 : Int32)), .int (Int32.ofNat (znt (((a &&& (4 : Int32)) = 4) ∨ (((a &&& (1 : Int32)) = 1) ∧ ((b &&& (4 : Int32)) = 4))) 4 0)), .retAddr 0] [.int (zbo (((a ||| b) &&& (32 : Int32)) = 32))] S post
    refine zv_c2 (L' := [.ref 1592, .int (Int32.ofNat n), .int 15, .int p, .int q, .int a, .int b, .int ((a &&& b) &&& (1 : Int32)), .int (Int32.ofNat (znt (((a &&& (4 : Int32)) = 4) ∨ (((a &&& (1 : Int32)) = 1) ∧ ((b &&& (4 : Int32)) = 4))) 4 0)), .int (zbo (((a ||| b) &&& (32 : Int32)) = 32))]) ht rfl rfl ?_
    refine zv_c1 ht rfl rfl ?_
    refine zv_sw ht rfl rfl rfl rfl rfl ?_
    refine And.intro (fun h => absurd h (by decide)) (fun _ => ?_)
    refine And.intro (fun h => absurd h (by decide)) (fun _ => ?_)
    refine And.intro (fun h => absurd h (by decide)) (fun _ => ?_)
    refine And.intro (fun h => absurd h (by decide)) (fun _ => ?_)
    refine And.intro (fun _ => ?_) (fun h => absurd (by decide) h)
    refine zv_c1 ht rfl rfl ?_
    have J114 : ((¬ (p = 0)) ∨ (¬ ((a &&& (24 : Int32)) = 24)) ∨ (¬ (q = 0))) → zEv d 144 540 [.retAddr 0, .retAddr 0, .retAddr 0, .retAddr 0, .retAddr 0, .retAddr 0, .retAddr 0, .retAddr 0, .retAddr 0, .retAddr 0] [] S post := by
      intro b115
      exact zv_rt ht rfl rfl rfl rfl (h2 b115)
    refine zv_br ht rfl rfl rfl (fun b45 => ?_) (fun b45 => ?_)
    · exact zEv.wk (L := [.retAddr 0, .retAddr 0, .retAddr 0, .retAddr 0, .retAddr 0, .retAddr 0, .retAddr 0, .retAddr 0, .retAddr 0, .retAddr 0]) (L' := [.ref 1592, .int (Int32.ofNat n), .int 15, .int p, .int q, .int a, .int b, .int ((a &&& b) &&& (1 : Int32)), .int (Int32.ofNat (znt (((a &&& (4 : Int32)) = 4) ∨ (((a &&& (1 : Int32)) = 1) ∧ ((b &&& (4 : Int32)) = 4))) 4 0)), .int (zbo (((a ||| b) &&& (32 : Int32)) = 32))]) (And.intro (Or.inr rfl) (And.intro (Or.inr rfl) (And.intro (Or.inr rfl) (And.intro (Or.inr rfl) (And.intro (Or.inr rfl) (And.intro (Or.inr rfl) (And.intro (Or.inr rfl) (And.intro (Or.inr rfl) (And.intro (Or.inr rfl) (And.intro (Or.inr rfl) trivial)))))))))) (J114 (Or.inl b45))
    · replace b45 : p = 0 := Classical.not_not.mp b45
      refine zv_c1 ht rfl rfl (zv_c1 ht rfl rfl ?_)
      have C47 : ∀ (pst46 : Outcome × zS → Prop), (pst46 (.returned (some (.int (zbo ((a &&& (24 : Int32)) = 24)))), S)) → zCall (d - 1) 139 [.int a, .int 24] S pst46 := by
        intro pst46 k52
        have ht48 : ztab 139 = ztb139 := rfl
        show zEv (d - 1) 139 0 [.int a, .int 24] [] S pst46
        refine zv_c1 ht48 rfl rfl (zv_c1 ht48 rfl rfl ?_)
        refine zv_c1 (st' := [.int (a &&& (24 : Int32))]) (S' := S) ht48 rfl rfl ?_
        refine zv_c1 ht48 rfl rfl ?_
        have J50 : zEv (d - 1) 139 12 [.retAddr 0, .retAddr 0] [.int (zbo ((a &&& (24 : Int32)) = 24))] S pst46 := by
          exact zv_rc ht48 rfl rfl rfl rfl zbo_rng k52
        refine zv_br ht48 rfl rfl rfl (fun b49 => ?_) (fun b49 => ?_)
        · refine zv_c1 ht48 rfl rfl ?_
          exact zEv.wk (L := [.retAddr 0, .retAddr 0]) (L' := [.int a, .int 24]) (And.intro (Or.inr rfl) (And.intro (Or.inr rfl) trivial)) (zv_sub (zz := zbo ((a &&& (24 : Int32)) = 24)) (zy := 0) (p := fun zz => zEv (d - 1) 139 12 [.retAddr 0, .retAddr 0] [.int zz] S pst46) (zbo_neg b49) J50)
        · replace b49 : (a &&& (24 : Int32)) = 24 := Classical.not_not.mp b49
          refine zv_c1 ht48 rfl rfl (zv_c1 ht48 rfl rfl ?_)
          exact zEv.wk (L := [.retAddr 0, .retAddr 0]) (L' := [.int a, .int 24]) (And.intro (Or.inr rfl) (And.intro (Or.inr rfl) trivial)) (zv_sub (zz := zbo ((a &&& (24 : Int32)) = 24)) (zy := 1) (p := fun zz => zEv (d - 1) 139 12 [.retAddr 0, .retAddr 0] [.int zz] S pst46) (zbo_pos b49) J50)
      refine zv_cl ht rfl rfl rfl rfl (by omega) (Nat.le_of_ble_eq_true rfl) (C47 _ ?_)
      show zEv d 144 532 [.ref 1592, .int (Int32.ofNat n), .int 15, .int p, .int q, .int a, .int b, .int ((a &&& b) &&& (1 : Int32)), .int (Int32.ofNat (znt (((a &&& (4 : Int32)) = 4) ∨ (((a &&& (1 : Int32)) = 1) ∧ ((b &&& (4 : Int32)) = 4))) 4 0)), .int (zbo (((a ||| b) &&& (32 : Int32)) = 32))] [.int (zbo ((a &&& (24 : Int32)) = 24))] S post
      refine zv_br ht rfl rfl rfl (fun b53 => ?_) (fun b53 => ?_)
      · replace b53 : ¬ ((a &&& (24 : Int32)) = 24) := (zbo_eq0 : (zbo ((a &&& (24 : Int32)) = 24)) = 0 ↔ ¬ ((a &&& (24 : Int32)) = 24)).mp b53
        exact zEv.wk (L := [.retAddr 0, .retAddr 0, .retAddr 0, .retAddr 0, .retAddr 0, .retAddr 0, .retAddr 0, .retAddr 0, .retAddr 0, .retAddr 0]) (L' := [.ref 1592, .int (Int32.ofNat n), .int 15, .int p, .int q, .int a, .int b, .int ((a &&& b) &&& (1 : Int32)), .int (Int32.ofNat (znt (((a &&& (4 : Int32)) = 4) ∨ (((a &&& (1 : Int32)) = 1) ∧ ((b &&& (4 : Int32)) = 4))) 4 0)), .int (zbo (((a ||| b) &&& (32 : Int32)) = 32))]) (And.intro (Or.inr rfl) (And.intro (Or.inr rfl) (And.intro (Or.inr rfl) (And.intro (Or.inr rfl) (And.intro (Or.inr rfl) (And.intro (Or.inr rfl) (And.intro (Or.inr rfl) (And.intro (Or.inr rfl) (And.intro (Or.inr rfl) (And.intro (Or.inr rfl) trivial)))))))))) (J114 (Or.inr (Or.inl b53)))
      · replace b53 : (a &&& (24 : Int32)) = 24 := Classical.byContradiction (fun h => b53 ((zbo_eq0 : (zbo ((a &&& (24 : Int32)) = 24)) = 0 ↔ ¬ ((a &&& (24 : Int32)) = 24)).mpr h))
        refine zv_c1 ht rfl rfl ?_
        refine zv_br ht rfl rfl rfl (fun b54 => ?_) (fun b54 => ?_)
        · refine zv_c1 ht rfl rfl (zv_c1 ht rfl rfl (zv_c1 ht rfl rfl (zv_c1 ht rfl rfl (zv_c1 ht rfl rfl (zv_c1 ht rfl rfl ?_)))))
          have C56 : ∀ (pst55 : Outcome × zS → Prop), (pst55 (.returned (some (.int (zbo ((a &&& (2 : Int32)) = 2)))), S)) → zCall (d - 1) 139 [.int a, .int 2] S pst55 := by
            intro pst55 k61
            have ht57 : ztab 139 = ztb139 := rfl
            show zEv (d - 1) 139 0 [.int a, .int 2] [] S pst55
            refine zv_c1 ht57 rfl rfl (zv_c1 ht57 rfl rfl ?_)
            refine zv_c1 (st' := [.int (a &&& (2 : Int32))]) (S' := S) ht57 rfl rfl ?_
            refine zv_c1 ht57 rfl rfl ?_
            have J59 : zEv (d - 1) 139 12 [.retAddr 0, .retAddr 0] [.int (zbo ((a &&& (2 : Int32)) = 2))] S pst55 := by
              exact zv_rc ht57 rfl rfl rfl rfl zbo_rng k61
            refine zv_br ht57 rfl rfl rfl (fun b58 => ?_) (fun b58 => ?_)
            · refine zv_c1 ht57 rfl rfl ?_
              exact zEv.wk (L := [.retAddr 0, .retAddr 0]) (L' := [.int a, .int 2]) (And.intro (Or.inr rfl) (And.intro (Or.inr rfl) trivial)) (zv_sub (zz := zbo ((a &&& (2 : Int32)) = 2)) (zy := 0) (p := fun zz => zEv (d - 1) 139 12 [.retAddr 0, .retAddr 0] [.int zz] S pst55) (zbo_neg b58) J59)
            · replace b58 : (a &&& (2 : Int32)) = 2 := Classical.not_not.mp b58
              refine zv_c1 ht57 rfl rfl (zv_c1 ht57 rfl rfl ?_)
              exact zEv.wk (L := [.retAddr 0, .retAddr 0]) (L' := [.int a, .int 2]) (And.intro (Or.inr rfl) (And.intro (Or.inr rfl) trivial)) (zv_sub (zz := zbo ((a &&& (2 : Int32)) = 2)) (zy := 1) (p := fun zz => zEv (d - 1) 139 12 [.retAddr 0, .retAddr 0] [.int zz] S pst55) (zbo_pos b58) J59)
          refine zv_cl ht rfl rfl rfl rfl (by omega) (Nat.le_of_ble_eq_true rfl) (C56 _ ?_)
          show zEv d 144 552 [.ref 1592, .int (Int32.ofNat n), .int 15, .int p, .int q, .int a, .int b, .int ((a &&& b) &&& (1 : Int32)), .int (Int32.ofNat (znt (((a &&& (4 : Int32)) = 4) ∨ (((a &&& (1 : Int32)) = 1) ∧ ((b &&& (4 : Int32)) = 4))) 4 0)), .int (zbo (((a ||| b) &&& (32 : Int32)) = 32))] [.int (zbo ((a &&& (2 : Int32)) = 2)), .int ((a &&& b) &&& (1 : Int32)), .int 0, .int (Int32.ofNat n), .ref 1592] S post
          have J73 : zEv d 144 569 [.retAddr 0, .retAddr 0, .retAddr 0, .retAddr 0, .retAddr 0, .int a, .int b, .retAddr 0, .retAddr 0, .int (zbo (((a ||| b) &&& (32 : Int32)) = 32))] [.int (zbo (((a &&& (2 : Int32)) = 2) ∧ ((b &&& (1 : Int32)) = 1))), .int ((a &&& b) &&& (1 : Int32)), .int 0, .int (Int32.ofNat n), .ref 1592] S post := by
            refine zv_c1 ht rfl rfl ?_
            have C76 : ∀ (pst75 : Outcome × zS → Prop), (pst75 (.returned (some (.int (Int32.ofNat (znt (((a &&& (2 : Int32)) = 2) ∧ ((b &&& (1 : Int32)) = 1)) 2 0)))), S)) → zCall (d - 1) 140 [.int (zbo (((a &&& (2 : Int32)) = 2) ∧ ((b &&& (1 : Int32)) = 1))), .int 2] S pst75 := by
              intro pst75 k81
              have ht77 : ztab 140 = ztb140 := rfl
              show zEv (d - 1) 140 0 [.int (zbo (((a &&& (2 : Int32)) = 2) ∧ ((b &&& (1 : Int32)) = 1))), .int 2] [] S pst75
              refine zv_c1 ht77 rfl rfl ?_
              have J79 : zEv (d - 1) 140 9 [.retAddr 0, .retAddr 0] [.int (Int32.ofNat (znt (((a &&& (2 : Int32)) = 2) ∧ ((b &&& (1 : Int32)) = 1)) 2 0))] S pst75 := by
                exact zv_rt ht77 rfl rfl rfl rfl k81
              refine zv_br ht77 rfl rfl rfl (fun b78 => ?_) (fun b78 => ?_)
              · replace b78 : ¬ (((a &&& (2 : Int32)) = 2) ∧ ((b &&& (1 : Int32)) = 1)) := (zbo_eq0 : (zbo (((a &&& (2 : Int32)) = 2) ∧ ((b &&& (1 : Int32)) = 1))) = 0 ↔ ¬ (((a &&& (2 : Int32)) = 2) ∧ ((b &&& (1 : Int32)) = 1))).mp b78
                refine zv_c1 ht77 rfl rfl ?_
                exact zEv.wk (L := [.retAddr 0, .retAddr 0]) (L' := [.int (zbo (((a &&& (2 : Int32)) = 2) ∧ ((b &&& (1 : Int32)) = 1))), .int 2]) (And.intro (Or.inr rfl) (And.intro (Or.inr rfl) trivial)) (zv_sub (zz := Int32.ofNat (znt (((a &&& (2 : Int32)) = 2) ∧ ((b &&& (1 : Int32)) = 1)) 2 0)) (zy := 0) (p := fun zz => zEv (d - 1) 140 9 [.retAddr 0, .retAddr 0] [.int zz] S pst75) (congrArg Int32.ofNat (znt_neg b78)) J79)
              · replace b78 : ((a &&& (2 : Int32)) = 2) ∧ ((b &&& (1 : Int32)) = 1) := Classical.byContradiction (fun h => b78 ((zbo_eq0 : (zbo (((a &&& (2 : Int32)) = 2) ∧ ((b &&& (1 : Int32)) = 1))) = 0 ↔ ¬ (((a &&& (2 : Int32)) = 2) ∧ ((b &&& (1 : Int32)) = 1))).mpr h))
                refine zv_c1 ht77 rfl rfl (zv_c1 ht77 rfl rfl ?_)
                exact zEv.wk (L := [.retAddr 0, .retAddr 0]) (L' := [.int (zbo (((a &&& (2 : Int32)) = 2) ∧ ((b &&& (1 : Int32)) = 1))), .int 2]) (And.intro (Or.inr rfl) (And.intro (Or.inr rfl) trivial)) (zv_sub (zz := Int32.ofNat (znt (((a &&& (2 : Int32)) = 2) ∧ ((b &&& (1 : Int32)) = 1)) 2 0)) (zy := 2) (p := fun zz => zEv (d - 1) 140 9 [.retAddr 0, .retAddr 0] [.int zz] S pst75) (congrArg Int32.ofNat (znt_pos b78)) J79)
            refine zv_cl ht rfl rfl rfl rfl (by omega) (Nat.le_of_ble_eq_true rfl) (C76 _ ?_)
            show zEv d 144 573 [.retAddr 0, .retAddr 0, .retAddr 0, .retAddr 0, .retAddr 0, .int a, .int b, .retAddr 0, .retAddr 0, .int (zbo (((a ||| b) &&& (32 : Int32)) = 32))] [.int (Int32.ofNat (znt (((a &&& (2 : Int32)) = 2) ∧ ((b &&& (1 : Int32)) = 1)) 2 0)), .int ((a &&& b) &&& (1 : Int32)), .int 0, .int (Int32.ofNat n), .ref 1592] S post
            refine zv_c1 (st' := [.int (((a &&& b) &&& (1 : Int32)) ||| (Int32.ofNat (znt (((a &&& (2 : Int32)) = 2) ∧ ((b &&& (1 : Int32)) = 1)) 2 0))), .int 0, .int (Int32.ofNat n), .ref 1592]) (S' := S) ht rfl rfl ?_
            refine zv_c1 ht rfl rfl (zv_c1 ht rfl rfl ?_)
            refine zv_c1 (st' := [.int (b &&& (216 : Int32)), .int (((a &&& b) &&& (1 : Int32)) ||| (Int32.ofNat (znt (((a &&& (2 : Int32)) = 2) ∧ ((b &&& (1 : Int32)) = 1)) 2 0))), .int 0, .int (Int32.ofNat n), .ref 1592]) (S' := S) ht rfl rfl ?_
            refine zv_c1 (st' := [.int ((((a &&& b) &&& (1 : Int32)) ||| (Int32.ofNat (znt (((a &&& (2 : Int32)) = 2) ∧ ((b &&& (1 : Int32)) = 1)) 2 0))) ||| (b &&& (216 : Int32))), .int 0, .int (Int32.ofNat n), .ref 1592]) (S' := S) ht rfl rfl ?_
            refine zv_c1 ht rfl rfl (zv_c1 ht rfl rfl ?_)
            refine zv_c1 (st' := [.int (a &&& b), .int ((((a &&& b) &&& (1 : Int32)) ||| (Int32.ofNat (znt (((a &&& (2 : Int32)) = 2) ∧ ((b &&& (1 : Int32)) = 1)) 2 0))) ||| (b &&& (216 : Int32))), .int 0, .int (Int32.ofNat n), .ref 1592]) (S' := S) ht rfl rfl ?_
            refine zv_c1 ht rfl rfl ?_
            refine zv_c1 (st' := [.int ((a &&& b) &&& (32 : Int32)), .int ((((a &&& b) &&& (1 : Int32)) ||| (Int32.ofNat (znt (((a &&& (2 : Int32)) = 2) ∧ ((b &&& (1 : Int32)) = 1)) 2 0))) ||| (b &&& (216 : Int32))), .int 0, .int (Int32.ofNat n), .ref 1592]) (S' := S) ht rfl rfl ?_
            refine zv_c1 (st' := [.int (((((a &&& b) &&& (1 : Int32)) ||| (Int32.ofNat (znt (((a &&& (2 : Int32)) = 2) ∧ ((b &&& (1 : Int32)) = 1)) 2 0))) ||| (b &&& (216 : Int32))) ||| ((a &&& b) &&& (32 : Int32))), .int 0, .int (Int32.ofNat n), .ref 1592]) (S' := S) ht rfl rfl ?_
            refine zv_c1 ht rfl rfl (zv_c1 ht rfl rfl ?_)
            refine zv_c1 (st' := [.int (a &&& b), .int (((((a &&& b) &&& (1 : Int32)) ||| (Int32.ofNat (znt (((a &&& (2 : Int32)) = 2) ∧ ((b &&& (1 : Int32)) = 1)) 2 0))) ||| (b &&& (216 : Int32))) ||| ((a &&& b) &&& (32 : Int32))), .int 0, .int (Int32.ofNat n), .ref 1592]) (S' := S) ht rfl rfl ?_
            refine zv_c1 ht rfl rfl ?_
            have C83 : ∀ (pst82 : Outcome × zS → Prop), (pst82 (.returned (some (.int (zbo (((a &&& b) &&& (256 : Int32)) = 256)))), S)) → zCall (d - 1) 139 [.int (a &&& b), .int 256] S pst82 := by
              intro pst82 k88
              have ht84 : ztab 139 = ztb139 := rfl
              show zEv (d - 1) 139 0 [.int (a &&& b), .int 256] [] S pst82
              refine zv_c1 ht84 rfl rfl (zv_c1 ht84 rfl rfl ?_)
              refine zv_c1 (st' := [.int ((a &&& b) &&& (256 : Int32))]) (S' := S) ht84 rfl rfl ?_
              refine zv_c1 ht84 rfl rfl ?_
              have J86 : zEv (d - 1) 139 12 [.retAddr 0, .retAddr 0] [.int (zbo (((a &&& b) &&& (256 : Int32)) = 256))] S pst82 := by
                exact zv_rc ht84 rfl rfl rfl rfl zbo_rng k88
              refine zv_br ht84 rfl rfl rfl (fun b85 => ?_) (fun b85 => ?_)
              · refine zv_c1 ht84 rfl rfl ?_
                exact zEv.wk (L := [.retAddr 0, .retAddr 0]) (L' := [.int (a &&& b), .int 256]) (And.intro (Or.inr rfl) (And.intro (Or.inr rfl) trivial)) (zv_sub (zz := zbo (((a &&& b) &&& (256 : Int32)) = 256)) (zy := 0) (p := fun zz => zEv (d - 1) 139 12 [.retAddr 0, .retAddr 0] [.int zz] S pst82) (zbo_neg b85) J86)
              · replace b85 : ((a &&& b) &&& (256 : Int32)) = 256 := Classical.not_not.mp b85
                refine zv_c1 ht84 rfl rfl (zv_c1 ht84 rfl rfl ?_)
                exact zEv.wk (L := [.retAddr 0, .retAddr 0]) (L' := [.int (a &&& b), .int 256]) (And.intro (Or.inr rfl) (And.intro (Or.inr rfl) trivial)) (zv_sub (zz := zbo (((a &&& b) &&& (256 : Int32)) = 256)) (zy := 1) (p := fun zz => zEv (d - 1) 139 12 [.retAddr 0, .retAddr 0] [.int zz] S pst82) (zbo_pos b85) J86)
            refine zv_cl ht rfl rfl rfl rfl (by omega) (Nat.le_of_ble_eq_true rfl) (C83 _ ?_)
            show zEv d 144 601 [.retAddr 0, .retAddr 0, .retAddr 0, .retAddr 0, .retAddr 0, .int a, .int b, .retAddr 0, .retAddr 0, .int (zbo (((a ||| b) &&& (32 : Int32)) = 32))] [.int (zbo (((a &&& b) &&& (256 : Int32)) = 256)), .int (((((a &&& b) &&& (1 : Int32)) ||| (Int32.ofNat (znt (((a &&& (2 : Int32)) = 2) ∧ ((b &&& (1 : Int32)) = 1)) 2 0))) ||| (b &&& (216 : Int32))) ||| ((a &&& b) &&& (32 : Int32))), .int 0, .int (Int32.ofNat n), .ref 1592] S post
            have J101 : zEv d 144 625 [.retAddr 0, .retAddr 0, .retAddr 0, .retAddr 0, .retAddr 0, .retAddr 0, .retAddr 0, .retAddr 0, .retAddr 0, .retAddr 0] [.int (zbo ((((a &&& b) &&& (256 : Int32)) = 256) ∧ ((a &&& (128 : Int32)) = 128) ∧ (((a ||| b) &&& (32 : Int32)) = 32))), .int (((((a &&& b) &&& (1 : Int32)) ||| (Int32.ofNat (znt (((a &&& (2 : Int32)) = 2) ∧ ((b &&& (1 : Int32)) = 1)) 2 0))) ||| (b &&& (216 : Int32))) ||| ((a &&& b) &&& (32 : Int32))), .int 0, .int (Int32.ofNat n), .ref 1592] S post := by
              refine zv_c1 ht rfl rfl ?_
              have C104 : ∀ (pst103 : Outcome × zS → Prop), (pst103 (.returned (some (.int (Int32.ofNat (znt ((((a &&& b) &&& (256 : Int32)) = 256) ∧ ((a &&& (128 : Int32)) = 128) ∧ (((a ||| b) &&& (32 : Int32)) = 32)) 256 0)))), S)) → zCall (d - 1) 140 [.int (zbo ((((a &&& b) &&& (256 : Int32)) = 256) ∧ ((a &&& (128 : Int32)) = 128) ∧ (((a ||| b) &&& (32 : Int32)) = 32))), .int 256] S pst103 := by
                intro pst103 k109
                have ht105 : ztab 140 = ztb140 := rfl
                show zEv (d - 1) 140 0 [.int (zbo ((((a &&& b) &&& (256 : Int32)) = 256) ∧ ((a &&& (128 : Int32)) = 128) ∧ (((a ||| b) &&& (32 : Int32)) = 32))), .int 256] [] S pst103
                refine zv_c1 ht105 rfl rfl ?_
                have J107 : zEv (d - 1) 140 9 [.retAddr 0, .retAddr 0] [.int (Int32.ofNat (znt ((((a &&& b) &&& (256 : Int32)) = 256) ∧ ((a &&& (128 : Int32)) = 128) ∧ (((a ||| b) &&& (32 : Int32)) = 32)) 256 0))] S pst103 := by
                  exact zv_rt ht105 rfl rfl rfl rfl k109
                refine zv_br ht105 rfl rfl rfl (fun b106 => ?_) (fun b106 => ?_)
                · replace b106 : ¬ ((((a &&& b) &&& (256 : Int32)) = 256) ∧ ((a &&& (128 : Int32)) = 128) ∧ (((a ||| b) &&& (32 : Int32)) = 32)) := (zbo_eq0 : (zbo ((((a &&& b) &&& (256 : Int32)) = 256) ∧ ((a &&& (128 : Int32)) = 128) ∧ (((a ||| b) &&& (32 : Int32)) = 32))) = 0 ↔ ¬ ((((a &&& b) &&& (256 : Int32)) = 256) ∧ ((a &&& (128 : Int32)) = 128) ∧ (((a ||| b) &&& (32 : Int32)) = 32))).mp b106
                  refine zv_c1 ht105 rfl rfl ?_
                  exact zEv.wk (L := [.retAddr 0, .retAddr 0]) (L' := [.int (zbo ((((a &&& b) &&& (256 : Int32)) = 256) ∧ ((a &&& (128 : Int32)) = 128) ∧ (((a ||| b) &&& (32 : Int32)) = 32))), .int 256]) (And.intro (Or.inr rfl) (And.intro (Or.inr rfl) trivial)) (zv_sub (zz := Int32.ofNat (znt ((((a &&& b) &&& (256 : Int32)) = 256) ∧ ((a &&& (128 : Int32)) = 128) ∧ (((a ||| b) &&& (32 : Int32)) = 32)) 256 0)) (zy := 0) (p := fun zz => zEv (d - 1) 140 9 [.retAddr 0, .retAddr 0] [.int zz] S pst103) (congrArg Int32.ofNat (znt_neg b106)) J107)
                · replace b106 : (((a &&& b) &&& (256 : Int32)) = 256) ∧ ((a &&& (128 : Int32)) = 128) ∧ (((a ||| b) &&& (32 : Int32)) = 32) := Classical.byContradiction (fun h => b106 ((zbo_eq0 : (zbo ((((a &&& b) &&& (256 : Int32)) = 256) ∧ ((a &&& (128 : Int32)) = 128) ∧ (((a ||| b) &&& (32 : Int32)) = 32))) = 0 ↔ ¬ ((((a &&& b) &&& (256 : Int32)) = 256) ∧ ((a &&& (128 : Int32)) = 128) ∧ (((a ||| b) &&& (32 : Int32)) = 32))).mpr h))
                  refine zv_c1 ht105 rfl rfl (zv_c1 ht105 rfl rfl ?_)
                  exact zEv.wk (L := [.retAddr 0, .retAddr 0]) (L' := [.int (zbo ((((a &&& b) &&& (256 : Int32)) = 256) ∧ ((a &&& (128 : Int32)) = 128) ∧ (((a ||| b) &&& (32 : Int32)) = 32))), .int 256]) (And.intro (Or.inr rfl) (And.intro (Or.inr rfl) trivial)) (zv_sub (zz := Int32.ofNat (znt ((((a &&& b) &&& (256 : Int32)) = 256) ∧ ((a &&& (128 : Int32)) = 128) ∧ (((a ||| b) &&& (32 : Int32)) = 32)) 256 0)) (zy := 256) (p := fun zz => zEv (d - 1) 140 9 [.retAddr 0, .retAddr 0] [.int zz] S pst103) (congrArg Int32.ofNat (znt_pos b106)) J107)
              refine zv_cl ht rfl rfl rfl rfl (by omega) (Nat.le_of_ble_eq_true rfl) (C104 _ ?_)
              show zEv d 144 631 [.retAddr 0, .retAddr 0, .retAddr 0, .retAddr 0, .retAddr 0, .retAddr 0, .retAddr 0, .retAddr 0, .retAddr 0, .retAddr 0] [.int (Int32.ofNat (znt ((((a &&& b) &&& (256 : Int32)) = 256) ∧ ((a &&& (128 : Int32)) = 128) ∧ (((a ||| b) &&& (32 : Int32)) = 32)) 256 0)), .int (((((a &&& b) &&& (1 : Int32)) ||| (Int32.ofNat (znt (((a &&& (2 : Int32)) = 2) ∧ ((b &&& (1 : Int32)) = 1)) 2 0))) ||| (b &&& (216 : Int32))) ||| ((a &&& b) &&& (32 : Int32))), .int 0, .int (Int32.ofNat n), .ref 1592] S post
              refine zv_c1 (st' := [.int ((((((a &&& b) &&& (1 : Int32)) ||| (Int32.ofNat (znt (((a &&& (2 : Int32)) = 2) ∧ ((b &&& (1 : Int32)) = 1)) 2 0))) ||| (b &&& (216 : Int32))) ||| ((a &&& b) &&& (32 : Int32))) ||| (Int32.ofNat (znt ((((a &&& b) &&& (256 : Int32)) = 256) ∧ ((a &&& (128 : Int32)) = 128) ∧ (((a ||| b) &&& (32 : Int32)) = 32)) 256 0))), .int 0, .int (Int32.ofNat n), .ref 1592]) (S' := S) ht rfl rfl ?_
              have C111 : ∀ (pst110 : Outcome × zS → Prop), (pst110 (.returned none, pt15_s1 S n a b)) → zCall (d - 1) 137 [.ref 1592, .int (Int32.ofNat n), .int 0, .int ((((((a &&& b) &&& (1 : Int32)) ||| (Int32.ofNat (znt (((a &&& (2 : Int32)) = 2) ∧ ((b &&& (1 : Int32)) = 1)) 2 0))) ||| (b &&& (216 : Int32))) ||| ((a &&& b) &&& (32 : Int32))) ||| (Int32.ofNat (znt ((((a &&& b) &&& (256 : Int32)) = 256) ∧ ((a &&& (128 : Int32)) = 128) ∧ (((a ||| b) &&& (32 : Int32)) = 32)) 256 0)))] S pst110 := by
                intro pst110 k113
                have ht112 : ztab 137 = ztb137 := rfl
                show zEv (d - 1) 137 0 [.ref 1592, .int (Int32.ofNat n), .int 0, .int ((((((a &&& b) &&& (1 : Int32)) ||| (Int32.ofNat (znt (((a &&& (2 : Int32)) = 2) ∧ ((b &&& (1 : Int32)) = 1)) 2 0))) ||| (b &&& (216 : Int32))) ||| ((a &&& b) &&& (32 : Int32))) ||| (Int32.ofNat (znt ((((a &&& b) &&& (256 : Int32)) = 256) ∧ ((a &&& (128 : Int32)) = 128) ∧ (((a ||| b) &&& (32 : Int32)) = 32)) 256 0)))] [] S pst110
                refine zv_c1 ht112 rfl rfl ?_
                refine zv_gl (st' := [.ref 1616]) ht112 rfl hF rfl rfl rfl ?_
                refine zv_c1 ht112 rfl rfl (zv_c1 ht112 rfl rfl ?_)
                refine zv_is (j := n) (x := 0) ht112 rfl rfl rfl rfl (zi_natE (a := n) rfl (by omega)) ⟨rfl, zi_inE (a := n) (n := 3000) rfl (by omega) (by omega)⟩ ?_
                refine zv_c1 ht112 rfl rfl ?_
                refine zv_gl (st' := [.ref 1617]) ht112 rfl hF rfl rfl rfl ?_
                refine zv_c1 ht112 rfl rfl (zv_c1 ht112 rfl rfl ?_)
                refine zv_is (j := n) (x := (((((a &&& b) &&& (1 : Int32)) ||| (Int32.ofNat (znt (((a &&& (2 : Int32)) = 2) ∧ ((b &&& (1 : Int32)) = 1)) 2 0))) ||| (b &&& (216 : Int32))) ||| ((a &&& b) &&& (32 : Int32))) ||| (Int32.ofNat (znt ((((a &&& b) &&& (256 : Int32)) = 256) ∧ ((a &&& (128 : Int32)) = 128) ∧ (((a ||| b) &&& (32 : Int32)) = 32)) 256 0))) ht112 rfl rfl rfl rfl (zi_natE (a := n) rfl (by omega)) ⟨rfl, zi_inE (a := n) (n := 3000) rfl (by omega) (by omega)⟩ ?_
                exact zv_rt ht112 rfl rfl rfl rfl k113
              refine zv_cl ht rfl rfl rfl rfl (by omega) (Nat.le_of_ble_eq_true rfl) (C111 _ ?_)
              show zEv d 144 635 [.retAddr 0, .retAddr 0, .retAddr 0, .retAddr 0, .retAddr 0, .retAddr 0, .retAddr 0, .retAddr 0, .retAddr 0, .retAddr 0] [] (pt15_s1 S n a b) post
              exact zv_rt ht rfl rfl rfl rfl (h1 b45 b53 b54)
            have J99 : ((¬ (((a &&& b) &&& (256 : Int32)) = 256)) ∨ (¬ ((a &&& (128 : Int32)) = 128)) ∨ (¬ (((a ||| b) &&& (32 : Int32)) = 32))) → zEv d 144 624 [.retAddr 0, .retAddr 0, .retAddr 0, .retAddr 0, .retAddr 0, .retAddr 0, .retAddr 0, .retAddr 0, .retAddr 0, .retAddr 0] [.int (((((a &&& b) &&& (1 : Int32)) ||| (Int32.ofNat (znt (((a &&& (2 : Int32)) = 2) ∧ ((b &&& (1 : Int32)) = 1)) 2 0))) ||| (b &&& (216 : Int32))) ||| ((a &&& b) &&& (32 : Int32))), .int 0, .int (Int32.ofNat n), .ref 1592] S post := by
              intro b100
              refine zv_c1 ht rfl rfl ?_
              exact (zv_sub (zz := zbo ((((a &&& b) &&& (256 : Int32)) = 256) ∧ ((a &&& (128 : Int32)) = 128) ∧ (((a ||| b) &&& (32 : Int32)) = 32))) (zy := 0) (p := fun zz => zEv d 144 625 [.retAddr 0, .retAddr 0, .retAddr 0, .retAddr 0, .retAddr 0, .retAddr 0, .retAddr 0, .retAddr 0, .retAddr 0, .retAddr 0] [.int zz, .int (((((a &&& b) &&& (1 : Int32)) ||| (Int32.ofNat (znt (((a &&& (2 : Int32)) = 2) ∧ ((b &&& (1 : Int32)) = 1)) 2 0))) ||| (b &&& (216 : Int32))) ||| ((a &&& b) &&& (32 : Int32))), .int 0, .int (Int32.ofNat n), .ref 1592] S post) (zbo_neg (b100.elim (fun y1 => (fun h => y1 h.1)) (fun y1 => (y1.elim (fun y2 => (fun h => (fun h => y2 h.1) h.2)) (fun y2 => (fun h => (fun h => y2 h.2) h.2)))))) J101)
            refine zv_br ht rfl rfl rfl (fun b89 => ?_) (fun b89 => ?_)
            · replace b89 : ¬ (((a &&& b) &&& (256 : Int32)) = 256) := (zbo_eq0 : (zbo (((a &&& b) &&& (256 : Int32)) = 256)) = 0 ↔ ¬ (((a &&& b) &&& (256 : Int32)) = 256)).mp b89
              exact zEv.wk (L := [.retAddr 0, .retAddr 0, .retAddr 0, .retAddr 0, .retAddr 0, .retAddr 0, .retAddr 0, .retAddr 0, .retAddr 0, .retAddr 0]) (L' := [.retAddr 0, .retAddr 0, .retAddr 0, .retAddr 0, .retAddr 0, .int a, .int b, .retAddr 0, .retAddr 0, .int (zbo (((a ||| b) &&& (32 : Int32)) = 32))]) (And.intro (Or.inl rfl) (And.intro (Or.inl rfl) (And.intro (Or.inl rfl) (And.intro (Or.inl rfl) (And.intro (Or.inl rfl) (And.intro (Or.inr rfl) (And.intro (Or.inr rfl) (And.intro (Or.inl rfl) (And.intro (Or.inl rfl) (And.intro (Or.inr rfl) trivial)))))))))) (J99 (Or.inl b89))
            · replace b89 : ((a &&& b) &&& (256 : Int32)) = 256 := Classical.byContradiction (fun h => b89 ((zbo_eq0 : (zbo (((a &&& b) &&& (256 : Int32)) = 256)) = 0 ↔ ¬ (((a &&& b) &&& (256 : Int32)) = 256)).mpr h))
              refine zv_c1 ht rfl rfl (zv_c1 ht rfl rfl ?_)
              have C91 : ∀ (pst90 : Outcome × zS → Prop), (pst90 (.returned (some (.int (zbo ((a &&& (128 : Int32)) = 128)))), S)) → zCall (d - 1) 139 [.int a, .int 128] S pst90 := by
                intro pst90 k96
                have ht92 : ztab 139 = ztb139 := rfl
                show zEv (d - 1) 139 0 [.int a, .int 128] [] S pst90
                refine zv_c1 ht92 rfl rfl (zv_c1 ht92 rfl rfl ?_)
                refine zv_c1 (st' := [.int (a &&& (128 : Int32))]) (S' := S) ht92 rfl rfl ?_
                refine zv_c1 ht92 rfl rfl ?_
                have J94 : zEv (d - 1) 139 12 [.retAddr 0, .retAddr 0] [.int (zbo ((a &&& (128 : Int32)) = 128))] S pst90 := by
                  exact zv_rc ht92 rfl rfl rfl rfl zbo_rng k96
                refine zv_br ht92 rfl rfl rfl (fun b93 => ?_) (fun b93 => ?_)
                · refine zv_c1 ht92 rfl rfl ?_
                  exact zEv.wk (L := [.retAddr 0, .retAddr 0]) (L' := [.int a, .int 128]) (And.intro (Or.inr rfl) (And.intro (Or.inr rfl) trivial)) (zv_sub (zz := zbo ((a &&& (128 : Int32)) = 128)) (zy := 0) (p := fun zz => zEv (d - 1) 139 12 [.retAddr 0, .retAddr 0] [.int zz] S pst90) (zbo_neg b93) J94)
                · replace b93 : (a &&& (128 : Int32)) = 128 := Classical.not_not.mp b93
                  refine zv_c1 ht92 rfl rfl (zv_c1 ht92 rfl rfl ?_)
                  exact zEv.wk (L := [.retAddr 0, .retAddr 0]) (L' := [.int a, .int 128]) (And.intro (Or.inr rfl) (And.intro (Or.inr rfl) trivial)) (zv_sub (zz := zbo ((a &&& (128 : Int32)) = 128)) (zy := 1) (p := fun zz => zEv (d - 1) 139 12 [.retAddr 0, .retAddr 0] [.int zz] S pst90) (zbo_pos b93) J94)
              refine zv_cl ht rfl rfl rfl rfl (by omega) (Nat.le_of_ble_eq_true rfl) (C91 _ ?_)
              show zEv d 144 612 [.retAddr 0, .retAddr 0, .retAddr 0, .retAddr 0, .retAddr 0, .int a, .int b, .retAddr 0, .retAddr 0, .int (zbo (((a ||| b) &&& (32 : Int32)) = 32))] [.int (zbo ((a &&& (128 : Int32)) = 128)), .int (((((a &&& b) &&& (1 : Int32)) ||| (Int32.ofNat (znt (((a &&& (2 : Int32)) = 2) ∧ ((b &&& (1 : Int32)) = 1)) 2 0))) ||| (b &&& (216 : Int32))) ||| ((a &&& b) &&& (32 : Int32))), .int 0, .int (Int32.ofNat n), .ref 1592] S post
              refine zv_br ht rfl rfl rfl (fun b97 => ?_) (fun b97 => ?_)
              · replace b97 : ¬ ((a &&& (128 : Int32)) = 128) := (zbo_eq0 : (zbo ((a &&& (128 : Int32)) = 128)) = 0 ↔ ¬ ((a &&& (128 : Int32)) = 128)).mp b97
                exact zEv.wk (L := [.retAddr 0, .retAddr 0, .retAddr 0, .retAddr 0, .retAddr 0, .retAddr 0, .retAddr 0, .retAddr 0, .retAddr 0, .retAddr 0]) (L' := [.retAddr 0, .retAddr 0, .retAddr 0, .retAddr 0, .retAddr 0, .int a, .int b, .retAddr 0, .retAddr 0, .int (zbo (((a ||| b) &&& (32 : Int32)) = 32))]) (And.intro (Or.inl rfl) (And.intro (Or.inl rfl) (And.intro (Or.inl rfl) (And.intro (Or.inl rfl) (And.intro (Or.inl rfl) (And.intro (Or.inr rfl) (And.intro (Or.inr rfl) (And.intro (Or.inl rfl) (And.intro (Or.inl rfl) (And.intro (Or.inr rfl) trivial)))))))))) (J99 (Or.inr (Or.inl b97)))
              · replace b97 : (a &&& (128 : Int32)) = 128 := Classical.byContradiction (fun h => b97 ((zbo_eq0 : (zbo ((a &&& (128 : Int32)) = 128)) = 0 ↔ ¬ ((a &&& (128 : Int32)) = 128)).mpr h))
                refine zv_c1 ht rfl rfl ?_
                refine zv_br ht rfl rfl rfl (fun b98 => ?_) (fun b98 => ?_)
                · replace b98 : ¬ (((a ||| b) &&& (32 : Int32)) = 32) := (zbo_eq0 : (zbo (((a ||| b) &&& (32 : Int32)) = 32)) = 0 ↔ ¬ (((a ||| b) &&& (32 : Int32)) = 32)).mp b98
                  exact zEv.wk (L := [.retAddr 0, .retAddr 0, .retAddr 0, .retAddr 0, .retAddr 0, .retAddr 0, .retAddr 0, .retAddr 0, .retAddr 0, .retAddr 0]) (L' := [.retAddr 0, .retAddr 0, .retAddr 0, .retAddr 0, .retAddr 0, .int a, .int b, .retAddr 0, .retAddr 0, .int (zbo (((a ||| b) &&& (32 : Int32)) = 32))]) (And.intro (Or.inl rfl) (And.intro (Or.inl rfl) (And.intro (Or.inl rfl) (And.intro (Or.inl rfl) (And.intro (Or.inl rfl) (And.intro (Or.inr rfl) (And.intro (Or.inr rfl) (And.intro (Or.inl rfl) (And.intro (Or.inl rfl) (And.intro (Or.inr rfl) trivial)))))))))) (J99 (Or.inr (Or.inr b98)))
                · replace b98 : ((a ||| b) &&& (32 : Int32)) = 32 := Classical.byContradiction (fun h => b98 ((zbo_eq0 : (zbo (((a ||| b) &&& (32 : Int32)) = 32)) = 0 ↔ ¬ (((a ||| b) &&& (32 : Int32)) = 32)).mpr h))
                  refine zv_c1 ht rfl rfl (zv_c1 ht rfl rfl ?_)
                  exact zEv.wk (L := [.retAddr 0, .retAddr 0, .retAddr 0, .retAddr 0, .retAddr 0, .retAddr 0, .retAddr 0, .retAddr 0, .retAddr 0, .retAddr 0]) (L' := [.retAddr 0, .retAddr 0, .retAddr 0, .retAddr 0, .retAddr 0, .int a, .int b, .retAddr 0, .retAddr 0, .int (zbo (((a ||| b) &&& (32 : Int32)) = 32))]) (And.intro (Or.inl rfl) (And.intro (Or.inl rfl) (And.intro (Or.inl rfl) (And.intro (Or.inl rfl) (And.intro (Or.inl rfl) (And.intro (Or.inr rfl) (And.intro (Or.inr rfl) (And.intro (Or.inl rfl) (And.intro (Or.inl rfl) (And.intro (Or.inr rfl) trivial)))))))))) (zv_sub (zz := zbo ((((a &&& b) &&& (256 : Int32)) = 256) ∧ ((a &&& (128 : Int32)) = 128) ∧ (((a ||| b) &&& (32 : Int32)) = 32))) (zy := 1) (p := fun zz => zEv d 144 625 [.retAddr 0, .retAddr 0, .retAddr 0, .retAddr 0, .retAddr 0, .retAddr 0, .retAddr 0, .retAddr 0, .retAddr 0, .retAddr 0] [.int zz, .int (((((a &&& b) &&& (1 : Int32)) ||| (Int32.ofNat (znt (((a &&& (2 : Int32)) = 2) ∧ ((b &&& (1 : Int32)) = 1)) 2 0))) ||| (b &&& (216 : Int32))) ||| ((a &&& b) &&& (32 : Int32))), .int 0, .int (Int32.ofNat n), .ref 1592] S post) (zbo_pos ⟨b89, ⟨b97, b98⟩⟩) J101)
          have J71 : ((¬ ((a &&& (2 : Int32)) = 2)) ∨ (¬ ((b &&& (1 : Int32)) = 1))) → zEv d 144 568 [.retAddr 0, .retAddr 0, .retAddr 0, .retAddr 0, .retAddr 0, .int a, .int b, .retAddr 0, .retAddr 0, .int (zbo (((a ||| b) &&& (32 : Int32)) = 32))] [.int ((a &&& b) &&& (1 : Int32)), .int 0, .int (Int32.ofNat n), .ref 1592] S post := by
            intro b72
            refine zv_c1 ht rfl rfl ?_
            exact (zv_sub (zz := zbo (((a &&& (2 : Int32)) = 2) ∧ ((b &&& (1 : Int32)) = 1))) (zy := 0) (p := fun zz => zEv d 144 569 [.retAddr 0, .retAddr 0, .retAddr 0, .retAddr 0, .retAddr 0, .int a, .int b, .retAddr 0, .retAddr 0, .int (zbo (((a ||| b) &&& (32 : Int32)) = 32))] [.int zz, .int ((a &&& b) &&& (1 : Int32)), .int 0, .int (Int32.ofNat n), .ref 1592] S post) (zbo_neg (b72.elim (fun y1 => (fun h => y1 h.1)) (fun y1 => (fun h => y1 h.2)))) J73)
          refine zv_br ht rfl rfl rfl (fun b62 => ?_) (fun b62 => ?_)
          · replace b62 : ¬ ((a &&& (2 : Int32)) = 2) := (zbo_eq0 : (zbo ((a &&& (2 : Int32)) = 2)) = 0 ↔ ¬ ((a &&& (2 : Int32)) = 2)).mp b62
            exact zEv.wk (L := [.retAddr 0, .retAddr 0, .retAddr 0, .retAddr 0, .retAddr 0, .int a, .int b, .retAddr 0, .retAddr 0, .int (zbo (((a ||| b) &&& (32 : Int32)) = 32))]) (L' := [.ref 1592, .int (Int32.ofNat n), .int 15, .int p, .int q, .int a, .int b, .int ((a &&& b) &&& (1 : Int32)), .int (Int32.ofNat (znt (((a &&& (4 : Int32)) = 4) ∨ (((a &&& (1 : Int32)) = 1) ∧ ((b &&& (4 : Int32)) = 4))) 4 0)), .int (zbo (((a ||| b) &&& (32 : Int32)) = 32))]) (And.intro (Or.inr rfl) (And.intro (Or.inr rfl) (And.intro (Or.inr rfl) (And.intro (Or.inr rfl) (And.intro (Or.inr rfl) (And.intro (Or.inl rfl) (And.intro (Or.inl rfl) (And.intro (Or.inr rfl) (And.intro (Or.inr rfl) (And.intro (Or.inl rfl) trivial)))))))))) (J71 (Or.inl b62))
          · replace b62 : (a &&& (2 : Int32)) = 2 := Classical.byContradiction (fun h => b62 ((zbo_eq0 : (zbo ((a &&& (2 : Int32)) = 2)) = 0 ↔ ¬ ((a &&& (2 : Int32)) = 2)).mpr h))
            refine zv_c1 ht rfl rfl (zv_c1 ht rfl rfl ?_)
            have C64 : ∀ (pst63 : Outcome × zS → Prop), (pst63 (.returned (some (.int (zbo ((b &&& (1 : Int32)) = 1)))), S)) → zCall (d - 1) 139 [.int b, .int 1] S pst63 := by
              intro pst63 k69
              have ht65 : ztab 139 = ztb139 := rfl
              show zEv (d - 1) 139 0 [.int b, .int 1] [] S pst63
              refine zv_c1 ht65 rfl rfl (zv_c1 ht65 rfl rfl ?_)
              refine zv_c1 (st' := [.int (b &&& (1 : Int32))]) (S' := S) ht65 rfl rfl ?_
              refine zv_c1 ht65 rfl rfl ?_
              have J67 : zEv (d - 1) 139 12 [.retAddr 0, .retAddr 0] [.int (zbo ((b &&& (1 : Int32)) = 1))] S pst63 := by
                exact zv_rc ht65 rfl rfl rfl rfl zbo_rng k69
              refine zv_br ht65 rfl rfl rfl (fun b66 => ?_) (fun b66 => ?_)
              · refine zv_c1 ht65 rfl rfl ?_
                exact zEv.wk (L := [.retAddr 0, .retAddr 0]) (L' := [.int b, .int 1]) (And.intro (Or.inr rfl) (And.intro (Or.inr rfl) trivial)) (zv_sub (zz := zbo ((b &&& (1 : Int32)) = 1)) (zy := 0) (p := fun zz => zEv (d - 1) 139 12 [.retAddr 0, .retAddr 0] [.int zz] S pst63) (zbo_neg b66) J67)
              · replace b66 : (b &&& (1 : Int32)) = 1 := Classical.not_not.mp b66
                refine zv_c1 ht65 rfl rfl (zv_c1 ht65 rfl rfl ?_)
                exact zEv.wk (L := [.retAddr 0, .retAddr 0]) (L' := [.int b, .int 1]) (And.intro (Or.inr rfl) (And.intro (Or.inr rfl) trivial)) (zv_sub (zz := zbo ((b &&& (1 : Int32)) = 1)) (zy := 1) (p := fun zz => zEv (d - 1) 139 12 [.retAddr 0, .retAddr 0] [.int zz] S pst63) (zbo_pos b66) J67)
            refine zv_cl ht rfl rfl rfl rfl (by omega) (Nat.le_of_ble_eq_true rfl) (C64 _ ?_)
            show zEv d 144 561 [.ref 1592, .int (Int32.ofNat n), .int 15, .int p, .int q, .int a, .int b, .int ((a &&& b) &&& (1 : Int32)), .int (Int32.ofNat (znt (((a &&& (4 : Int32)) = 4) ∨ (((a &&& (1 : Int32)) = 1) ∧ ((b &&& (4 : Int32)) = 4))) 4 0)), .int (zbo (((a ||| b) &&& (32 : Int32)) = 32))] [.int (zbo ((b &&& (1 : Int32)) = 1)), .int ((a &&& b) &&& (1 : Int32)), .int 0, .int (Int32.ofNat n), .ref 1592] S post
            refine zv_br ht rfl rfl rfl (fun b70 => ?_) (fun b70 => ?_)
            · replace b70 : ¬ ((b &&& (1 : Int32)) = 1) := (zbo_eq0 : (zbo ((b &&& (1 : Int32)) = 1)) = 0 ↔ ¬ ((b &&& (1 : Int32)) = 1)).mp b70
              exact zEv.wk (L := [.retAddr 0, .retAddr 0, .retAddr 0, .retAddr 0, .retAddr 0, .int a, .int b, .retAddr 0, .retAddr 0, .int (zbo (((a ||| b) &&& (32 : Int32)) = 32))]) (L' := [.ref 1592, .int (Int32.ofNat n), .int 15, .int p, .int q, .int a, .int b, .int ((a &&& b) &&& (1 : Int32)), .int (Int32.ofNat (znt (((a &&& (4 : Int32)) = 4) ∨ (((a &&& (1 : Int32)) = 1) ∧ ((b &&& (4 : Int32)) = 4))) 4 0)), .int (zbo (((a ||| b) &&& (32 : Int32)) = 32))]) (And.intro (Or.inr rfl) (And.intro (Or.inr rfl) (And.intro (Or.inr rfl) (And.intro (Or.inr rfl) (And.intro (Or.inr rfl) (And.intro (Or.inl rfl) (And.intro (Or.inl rfl) (And.intro (Or.inr rfl) (And.intro (Or.inr rfl) (And.intro (Or.inl rfl) trivial)))))))))) (J71 (Or.inr b70))
            · replace b70 : (b &&& (1 : Int32)) = 1 := Classical.byContradiction (fun h => b70 ((zbo_eq0 : (zbo ((b &&& (1 : Int32)) = 1)) = 0 ↔ ¬ ((b &&& (1 : Int32)) = 1)).mpr h))
              refine zv_c1 ht rfl rfl (zv_c1 ht rfl rfl ?_)
              exact zEv.wk (L := [.retAddr 0, .retAddr 0, .retAddr 0, .retAddr 0, .retAddr 0, .int a, .int b, .retAddr 0, .retAddr 0, .int (zbo (((a ||| b) &&& (32 : Int32)) = 32))]) (L' := [.ref 1592, .int (Int32.ofNat n), .int 15, .int p, .int q, .int a, .int b, .int ((a &&& b) &&& (1 : Int32)), .int (Int32.ofNat (znt (((a &&& (4 : Int32)) = 4) ∨ (((a &&& (1 : Int32)) = 1) ∧ ((b &&& (4 : Int32)) = 4))) 4 0)), .int (zbo (((a ||| b) &&& (32 : Int32)) = 32))]) (And.intro (Or.inr rfl) (And.intro (Or.inr rfl) (And.intro (Or.inr rfl) (And.intro (Or.inr rfl) (And.intro (Or.inr rfl) (And.intro (Or.inl rfl) (And.intro (Or.inl rfl) (And.intro (Or.inr rfl) (And.intro (Or.inr rfl) (And.intro (Or.inl rfl) trivial)))))))))) (zv_sub (zz := zbo (((a &&& (2 : Int32)) = 2) ∧ ((b &&& (1 : Int32)) = 1))) (zy := 1) (p := fun zz => zEv d 144 569 [.retAddr 0, .retAddr 0, .retAddr 0, .retAddr 0, .retAddr 0, .int a, .int b, .retAddr 0, .retAddr 0, .int (zbo (((a ||| b) &&& (32 : Int32)) = 32))] [.int zz, .int ((a &&& b) &&& (1 : Int32)), .int 0, .int (Int32.ofNat n), .ref 1592] S post) (zbo_pos ⟨b62, b70⟩) J73)
        · exact zEv.wk (L := [.retAddr 0, .retAddr 0, .retAddr 0, .retAddr 0, .retAddr 0, .retAddr 0, .retAddr 0, .retAddr 0, .retAddr 0, .retAddr 0]) (L' := [.ref 1592, .int (Int32.ofNat n), .int 15, .int p, .int q, .int a, .int b, .int ((a &&& b) &&& (1 : Int32)), .int (Int32.ofNat (znt (((a &&& (4 : Int32)) = 4) ∨ (((a &&& (1 : Int32)) = 1) ∧ ((b &&& (4 : Int32)) = 4))) 4 0)), .int (zbo (((a ||| b) &&& (32 : Int32)) = 32))]) (And.intro (Or.inr rfl) (And.intro (Or.inr rfl) (And.intro (Or.inr rfl) (And.intro (Or.inr rfl) (And.intro (Or.inr rfl) (And.intro (Or.inr rfl) (And.intro (Or.inr rfl) (And.intro (Or.inr rfl) (And.intro (Or.inr rfl) (And.intro (Or.inr rfl) trivial)))))))))) (J114 (Or.inr (Or.inr b54)))
  have J27 : (((a &&& (4 : Int32)) = 4) ∨ (((a &&& (1 : Int32)) = 1) ∧ ((b &&& (4 : Int32)) = 4))) → zEv d 144 36 [.ref 1592, .int (Int32.ofNat n), .int 15, .int p, .int q, .int a, .int b, .int ((a &&& b) &&& (1 : Int32)), .retAddr 0, .retAddr 0] [] S post := by
    intro b28
    refine zv_c1 ht rfl rfl (zv_c1 ht rfl rfl ?_)
    exact (zv_sub (zz := zbo (((a &&& (4 : Int32)) = 4) ∨ (((a &&& (1 : Int32)) = 1) ∧ ((b &&& (4 : Int32)) = 4)))) (zy := 1) (p := fun zz => zEv d 144 41 [.ref 1592, .int (Int32.ofNat n), .int 15, .int p, .int q, .int a, .int b, .int ((a &&& b) &&& (1 : Int32)), .retAddr 0, .retAddr 0] [.int zz] S post) (zbo_pos b28) J29)
  refine zv_br ht rfl rfl rfl (fun b8 => ?_) (fun b8 => ?_)
  · replace b8 : (a &&& (4 : Int32)) = 4 := Classical.byContradiction (fun h => b8 ((zbo_eq0 : (zbo ((a &&& (4 : Int32)) = 4)) = 0 ↔ ¬ ((a &&& (4 : Int32)) = 4)).mpr h))
    exact (J27 (Or.inl b8))
  · replace b8 : ¬ ((a &&& (4 : Int32)) = 4) := (zbo_eq0 : (zbo ((a &&& (4 : Int32)) = 4)) = 0 ↔ ¬ ((a &&& (4 : Int32)) = 4)).mp (Classical.not_not.mp b8)
    refine zv_c1 ht rfl rfl (zv_c1 ht rfl rfl ?_)
    have C10 : ∀ (pst9 : Outcome × zS → Prop), (pst9 (.returned (some (.int (zbo ((a &&& (1 : Int32)) = 1)))), S)) → zCall (d - 1) 139 [.int a, .int 1] S pst9 := by
      intro pst9 k15
      have ht11 : ztab 139 = ztb139 := rfl
      show zEv (d - 1) 139 0 [.int a, .int 1] [] S pst9
      refine zv_c1 ht11 rfl rfl (zv_c1 ht11 rfl rfl ?_)
      refine zv_c1 (st' := [.int (a &&& (1 : Int32))]) (S' := S) ht11 rfl rfl ?_
      refine zv_c1 ht11 rfl rfl ?_
      have J13 : zEv (d - 1) 139 12 [.retAddr 0, .retAddr 0] [.int (zbo ((a &&& (1 : Int32)) = 1))] S pst9 := by
        exact zv_rc ht11 rfl rfl rfl rfl zbo_rng k15
      refine zv_br ht11 rfl rfl rfl (fun b12 => ?_) (fun b12 => ?_)
      · refine zv_c1 ht11 rfl rfl ?_
        exact zEv.wk (L := [.retAddr 0, .retAddr 0]) (L' := [.int a, .int 1]) (And.intro (Or.inr rfl) (And.intro (Or.inr rfl) trivial)) (zv_sub (zz := zbo ((a &&& (1 : Int32)) = 1)) (zy := 0) (p := fun zz => zEv (d - 1) 139 12 [.retAddr 0, .retAddr 0] [.int zz] S pst9) (zbo_neg b12) J13)
      · replace b12 : (a &&& (1 : Int32)) = 1 := Classical.not_not.mp b12
        refine zv_c1 ht11 rfl rfl (zv_c1 ht11 rfl rfl ?_)
        exact zEv.wk (L := [.retAddr 0, .retAddr 0]) (L' := [.int a, .int 1]) (And.intro (Or.inr rfl) (And.intro (Or.inr rfl) trivial)) (zv_sub (zz := zbo ((a &&& (1 : Int32)) = 1)) (zy := 1) (p := fun zz => zEv (d - 1) 139 12 [.retAddr 0, .retAddr 0] [.int zz] S pst9) (zbo_pos b12) J13)
    refine zv_cl ht rfl rfl rfl rfl (by omega) (Nat.le_of_ble_eq_true rfl) (C10 _ ?_)
    show zEv d 144 24 [.ref 1592, .int (Int32.ofNat n), .int 15, .int p, .int q, .int a, .int b, .int ((a &&& b) &&& (1 : Int32)), .retAddr 0, .retAddr 0] [.int (zbo ((a &&& (1 : Int32)) = 1))] S post
    have J25 : ((¬ ((a &&& (1 : Int32)) = 1)) ∨ (¬ ((b &&& (4 : Int32)) = 4))) → zEv d 144 40 [.ref 1592, .int (Int32.ofNat n), .int 15, .int p, .int q, .int a, .int b, .int ((a &&& b) &&& (1 : Int32)), .retAddr 0, .retAddr 0] [] S post := by
      intro b26
      refine zv_c1 ht rfl rfl ?_
      exact (zv_sub (zz := zbo (((a &&& (4 : Int32)) = 4) ∨ (((a &&& (1 : Int32)) = 1) ∧ ((b &&& (4 : Int32)) = 4)))) (zy := 0) (p := fun zz => zEv d 144 41 [.ref 1592, .int (Int32.ofNat n), .int 15, .int p, .int q, .int a, .int b, .int ((a &&& b) &&& (1 : Int32)), .retAddr 0, .retAddr 0] [.int zz] S post) (zbo_neg (b26.elim (fun y1 => (fun h => h.elim b8 (fun h => y1 h.1))) (fun y1 => (fun h => h.elim b8 (fun h => y1 h.2))))) J29)
    refine zv_br ht rfl rfl rfl (fun b16 => ?_) (fun b16 => ?_)
    · replace b16 : ¬ ((a &&& (1 : Int32)) = 1) := (zbo_eq0 : (zbo ((a &&& (1 : Int32)) = 1)) = 0 ↔ ¬ ((a &&& (1 : Int32)) = 1)).mp b16
      exact (J25 (Or.inl b16))
    · replace b16 : (a &&& (1 : Int32)) = 1 := Classical.byContradiction (fun h => b16 ((zbo_eq0 : (zbo ((a &&& (1 : Int32)) = 1)) = 0 ↔ ¬ ((a &&& (1 : Int32)) = 1)).mpr h))
      refine zv_c1 ht rfl rfl (zv_c1 ht rfl rfl ?_)
      have C18 : ∀ (pst17 : Outcome × zS → Prop), (pst17 (.returned (some (.int (zbo ((b &&& (4 : Int32)) = 4)))), S)) → zCall (d - 1) 139 [.int b, .int 4] S pst17 := by
        intro pst17 k23
        have ht19 : ztab 139 = ztb139 := rfl
        show zEv (d - 1) 139 0 [.int b, .int 4] [] S pst17
        refine zv_c1 ht19 rfl rfl (zv_c1 ht19 rfl rfl ?_)
        refine zv_c1 (st' := [.int (b &&& (4 : Int32))]) (S' := S) ht19 rfl rfl ?_
        refine zv_c1 ht19 rfl rfl ?_
        have J21 : zEv (d - 1) 139 12 [.retAddr 0, .retAddr 0] [.int (zbo ((b &&& (4 : Int32)) = 4))] S pst17 := by
          exact zv_rc ht19 rfl rfl rfl rfl zbo_rng k23
        refine zv_br ht19 rfl rfl rfl (fun b20 => ?_) (fun b20 => ?_)
        · refine zv_c1 ht19 rfl rfl ?_
          exact zEv.wk (L := [.retAddr 0, .retAddr 0]) (L' := [.int b, .int 4]) (And.intro (Or.inr rfl) (And.intro (Or.inr rfl) trivial)) (zv_sub (zz := zbo ((b &&& (4 : Int32)) = 4)) (zy := 0) (p := fun zz => zEv (d - 1) 139 12 [.retAddr 0, .retAddr 0] [.int zz] S pst17) (zbo_neg b20) J21)
        · replace b20 : (b &&& (4 : Int32)) = 4 := Classical.not_not.mp b20
          refine zv_c1 ht19 rfl rfl (zv_c1 ht19 rfl rfl ?_)
          exact zEv.wk (L := [.retAddr 0, .retAddr 0]) (L' := [.int b, .int 4]) (And.intro (Or.inr rfl) (And.intro (Or.inr rfl) trivial)) (zv_sub (zz := zbo ((b &&& (4 : Int32)) = 4)) (zy := 1) (p := fun zz => zEv (d - 1) 139 12 [.retAddr 0, .retAddr 0] [.int zz] S pst17) (zbo_pos b20) J21)
      refine zv_cl ht rfl rfl rfl rfl (by omega) (Nat.le_of_ble_eq_true rfl) (C18 _ ?_)
      show zEv d 144 33 [.ref 1592, .int (Int32.ofNat n), .int 15, .int p, .int q, .int a, .int b, .int ((a &&& b) &&& (1 : Int32)), .retAddr 0, .retAddr 0] [.int (zbo ((b &&& (4 : Int32)) = 4))] S post
      refine zv_br ht rfl rfl rfl (fun b24 => ?_) (fun b24 => ?_)
      · replace b24 : ¬ ((b &&& (4 : Int32)) = 4) := (zbo_eq0 : (zbo ((b &&& (4 : Int32)) = 4)) = 0 ↔ ¬ ((b &&& (4 : Int32)) = 4)).mp b24
        exact (J25 (Or.inr b24))
      · replace b24 : (b &&& (4 : Int32)) = 4 := Classical.byContradiction (fun h => b24 ((zbo_eq0 : (zbo ((b &&& (4 : Int32)) = 4)) = 0 ↔ ¬ ((b &&& (4 : Int32)) = 4)).mpr h))
        exact (J27 (Or.inr ⟨b16, b24⟩))
noncomputable def tyP15 (p q a b : Int32) : Option (Int32 × Int32) := zop ((p = 0) ∧ ((a &&& (24 : Int32)) = 24) ∧ (q = 0)) (0, (((((a &&& b) &&& (1 : Int32)) ||| (Int32.ofNat (znt (((a &&& (2 : Int32)) = 2) ∧ ((b &&& (1 : Int32)) = 1)) 2 0))) ||| (b &&& (216 : Int32))) ||| ((a &&& b) &&& (32 : Int32))) ||| (Int32.ofNat (znt ((((a &&& b) &&& (256 : Int32)) = 256) ∧ ((a &&& (128 : Int32)) = 128) ∧ (((a ||| b) &&& (32 : Int32)) = 32)) 256 0)))
noncomputable def pt16_e1 (a : Int32) (b : Int32) : Int32 := (((((Int32.ofNat (znt (((a &&& b) &&& (1 : Int32)) = 1) 2 0)) ||| ((a &&& b) &&& (16 : Int32))) ||| ((a ||| b) &&& (8 : Int32))) ||| ((a &&& b) &&& (96 : Int32))) ||| (Int32.ofNat (znt ((((a &&& (128 : Int32)) = 128) ∧ ((b &&& (64 : Int32)) = 64)) ∨ (((a &&& (64 : Int32)) = 64) ∧ ((b &&& (128 : Int32)) = 128))) 128 0))) ||| (Int32.ofNat (znt ((((a &&& b) &&& (256 : Int32)) = 256) ∧ (((a ||| b) &&& (32 : Int32)) = 32)) 256 0))
theorem pt16 {d : Nat} {S : zS} (hF : zFin true S) (hd : 1 ≤ d) (n : Nat) (p q a b : Int32)  (hn : n < 3000) {post : Outcome × zS → Prop} (h1 : ((p = 0) ∨ (p = 2) ∨ (p = 1)) → (p = q) → post (.returned none, sA (sA S 1616 n p) 1617 n (pt16_e1 a b))) (h2 : ((¬ ((p = 0) ∨ (p = 2) ∨ (p = 1))) ∨ (¬ (p = q))) → post (.returned none, S)) : zCall d 144 [.ref 1592, .int (Int32.ofNat n), .int 16, .int p, .int q, .int a, .int b] S post := by
  have ht : ztab 144 = ztb144 := rfl
  show zEv d 144 0 [.ref 1592, .int (Int32.ofNat n), .int 16, .int p, .int q, .int a, .int b, .retAddr 0, .retAddr 0, .retAddr 0] [] S post
  refine zv_c1 ht rfl rfl (zv_c1 ht rfl rfl ?_)
  refine zv_c1 (st' := [.int (a &&& b)]) (S' := S) ht rfl rfl ?_
  refine zv_c1 ht rfl rfl ?_
  refine zv_c1 (st' := [.int ((a &&& b) &&& (1 : Int32))]) (S' := S) ht rfl rfl ?_
  refine zv_c2 (L' := [.ref 1592, .int (Int32.ofNat n), .int 16, .int p, .int q, .int a, .int b, .int ((a &&& b) &&& (1 : Int32)), .retAddr 0, .retAddr 0]) ht rfl rfl ?_
  refine zv_c1 ht rfl rfl (zv_c1 ht rfl rfl ?_)
  have C2 : ∀ (pst1 : Outcome × zS → Prop), (pst1 (.returned (some (.int (zbo ((a &&& (4 : Int32)) = 4)))), S)) → zCall (d - 1) 139 [.int a, .int 4] S pst1 := by
    intro pst1 k7
    have ht3 : ztab 139 = ztb139 := rfl
    show zEv (d - 1) 139 0 [.int a, .int 4] [] S pst1
    refine zv_c1 ht3 rfl rfl (zv_c1 ht3 rfl rfl ?_)
    refine zv_c1 (st' := [.int (a &&& (4 : Int32))]) (S' := S) ht3 rfl rfl ?_
    refine zv_c1 ht3 rfl rfl ?_
    have J5 : zEv (d - 1) 139 12 [.retAddr 0, .retAddr 0] [.int (zbo ((a &&& (4 : Int32)) = 4))] S pst1 := by
      exact zv_rc ht3 rfl rfl rfl rfl zbo_rng k7
    refine zv_br ht3 rfl rfl rfl (fun b4 => ?_) (fun b4 => ?_)
    · refine zv_c1 ht3 rfl rfl ?_
      exact zEv.wk (L := [.retAddr 0, .retAddr 0]) (L' := [.int a, .int 4]) (And.intro (Or.inr rfl) (And.intro (Or.inr rfl) trivial)) (zv_sub (zz := zbo ((a &&& (4 : Int32)) = 4)) (zy := 0) (p := fun zz => zEv (d - 1) 139 12 [.retAddr 0, .retAddr 0] [.int zz] S pst1) (zbo_neg b4) J5)
    · replace b4 : (a &&& (4 : Int32)) = 4 := Classical.not_not.mp b4
      refine zv_c1 ht3 rfl rfl (zv_c1 ht3 rfl rfl ?_)
      exact zEv.wk (L := [.retAddr 0, .retAddr 0]) (L' := [.int a, .int 4]) (And.intro (Or.inr rfl) (And.intro (Or.inr rfl) trivial)) (zv_sub (zz := zbo ((a &&& (4 : Int32)) = 4)) (zy := 1) (p := fun zz => zEv (d - 1) 139 12 [.retAddr 0, .retAddr 0] [.int zz] S pst1) (zbo_pos b4) J5)
  refine zv_cl ht rfl rfl rfl rfl (by omega) (Nat.le_of_ble_eq_true rfl) (C2 _ ?_)
  show zEv d 144 15 [.ref 1592, .int (Int32.ofNat n), .int 16, .int p, .int q, .int a, .int b, .int ((a &&& b) &&& (1 : Int32)), .retAddr 0, .retAddr 0] [.int (zbo ((a &&& (4 : Int32)) = 4))] S post
  have J29 : zEv d 144 41 [.ref 1592, .int (Int32.ofNat n), .int 16, .int p, .int q, .int a, .int b, .int ((a &&& b) &&& (1 : Int32)), .retAddr 0, .retAddr 0] [.int (zbo (((a &&& (4 : Int32)) = 4) ∨ (((a &&& (1 : Int32)) = 1) ∧ ((b &&& (4 : Int32)) = 4))))] S post := by
    refine zv_c1 ht rfl rfl ?_
    have C32 : ∀ (pst31 : Outcome × zS → Prop), (pst31 (.returned (some (.int (Int32.ofNat (znt (((a &&& (4 : Int32)) = 4) ∨ (((a &&& (1 : Int32)) = 1) ∧ ((b &&& (4 : Int32)) = 4))) 4 0)))), S)) → zCall (d - 1) 140 [.int (zbo (((a &&& (4 : Int32)) = 4) ∨ (((a &&& (1 : Int32)) = 1) ∧ ((b &&& (4 : Int32)) = 4)))), .int 4] S pst31 := by
      intro pst31 k37
      have ht33 : ztab 140 = ztb140 := rfl
      show zEv (d - 1) 140 0 [.int (zbo (((a &&& (4 : Int32)) = 4) ∨ (((a &&& (1 : Int32)) = 1) ∧ ((b &&& (4 : Int32)) = 4)))), .int 4] [] S pst31
      refine zv_c1 ht33 rfl rfl ?_
      have J35 : zEv (d - 1) 140 9 [.retAddr 0, .retAddr 0] [.int (Int32.ofNat (znt (((a &&& (4 : Int32)) = 4) ∨ (((a &&& (1 : Int32)) = 1) ∧ ((b &&& (4 : Int32)) = 4))) 4 0))] S pst31 := by
        exact zv_rt ht33 rfl rfl rfl rfl k37
      refine zv_br ht33 rfl rfl rfl (fun b34 => ?_) (fun b34 => ?_)
      · replace b34 : ¬ (((a &&& (4 : Int32)) = 4) ∨ (((a &&& (1 : Int32)) = 1) ∧ ((b &&& (4 : Int32)) = 4))) := (zbo_eq0 : (zbo (((a &&& (4 : Int32)) = 4) ∨ (((a &&& (1 : Int32)) = 1) ∧ ((b &&& (4 : Int32)) = 4)))) = 0 ↔ ¬ (((a &&& (4 : Int32)) = 4) ∨ (((a &&& (1 : Int32)) = 1) ∧ ((b &&& (4 : Int32)) = 4)))).mp b34
        refine zv_c1 ht33 rfl rfl ?_
        exact zEv.wk (L := [.retAddr 0, .retAddr 0]) (L' := [.int (zbo (((a &&& (4 : Int32)) = 4) ∨ (((a &&& (1 : Int32)) = 1) ∧ ((b &&& (4 : Int32)) = 4)))), .int 4]) (And.intro (Or.inr rfl) (And.intro (Or.inr rfl) trivial)) (zv_sub (zz := Int32.ofNat (znt (((a &&& (4 : Int32)) = 4) ∨ (((a &&& (1 : Int32)) = 1) ∧ ((b &&& (4 : Int32)) = 4))) 4 0)) (zy := 0) (p := fun zz => zEv (d - 1) 140 9 [.retAddr 0, .retAddr 0] [.int zz] S pst31) (congrArg Int32.ofNat (znt_neg b34)) J35)
      · replace b34 : ((a &&& (4 : Int32)) = 4) ∨ (((a &&& (1 : Int32)) = 1) ∧ ((b &&& (4 : Int32)) = 4)) := Classical.byContradiction (fun h => b34 ((zbo_eq0 : (zbo (((a &&& (4 : Int32)) = 4) ∨ (((a &&& (1 : Int32)) = 1) ∧ ((b &&& (4 : Int32)) = 4)))) = 0 ↔ ¬ (((a &&& (4 : Int32)) = 4) ∨ (((a &&& (1 : Int32)) = 1) ∧ ((b &&& (4 : Int32)) = 4)))).mpr h))
        refine zv_c1 ht33 rfl rfl (zv_c1 ht33 rfl rfl ?_)
        exact zEv.wk (L := [.retAddr 0, .retAddr 0]) (L' := [.int (zbo (((a &&& (4 : Int32)) = 4) ∨ (((a &&& (1 : Int32)) = 1) ∧ ((b &&& (4 : Int32)) = 4)))), .int 4]) (And.intro (Or.inr rfl) (And.intro (Or.inr rfl) trivial)) (zv_sub (zz := Int32.ofNat (znt (((a &&& (4 : Int32)) = 4) ∨ (((a &&& (1 : Int32)) = 1) ∧ ((b &&& (4 : Int32)) = 4))) 4 0)) (zy := 4) (p := fun zz => zEv (d - 1) 140 9 [.retAddr 0, .retAddr 0] [.int zz] S pst31) (congrArg Int32.ofNat (znt_pos b34)) J35)
    refine zv_cl ht rfl rfl rfl rfl (by omega) (Nat.le_of_ble_eq_true rfl) (C32 _ ?_)
    show zEv d 144 45 [.ref 1592, .int (Int32.ofNat n), .int 16, .int p, .int q, .int a, .int b, .int ((a &&& b) &&& (1 : Int32)), .retAddr 0, .retAddr 0] [.int (Int32.ofNat (znt (((a &&& (4 : Int32)) = 4) ∨ (((a &&& (1 : Int32)) = 1) ∧ ((b &&& (4 : Int32)) = 4))) 4 0))] S post
    refine zv_c2 (L' := [.ref 1592, .int (Int32.ofNat n), .int 16, .int p, .int q, .int a, .int b, .int ((a &&& b) &&& (1 : Int32)), .int (Int32.ofNat (znt (((a &&& (4 : Int32)) = 4) ∨ (((a &&& (1 : Int32)) = 1) ∧ ((b &&& (4 : Int32)) = 4))) 4 0)), .retAddr 0]) ht rfl rfl ?_
    refine zv_c1 ht rfl rfl (zv_c1 ht rfl rfl ?_)
    refine zv_c1 (st' := [.int (a ||| b)]) (S' := S) ht rfl rfl ?_
    refine zv_c1 ht rfl rfl ?_
    have C39 : ∀ (pst38 : Outcome × zS → Prop), (pst38 (.returned (some (.int (zbo (((a ||| b) &&& (32 : Int32)) = 32)))), S)) → zCall (d - 1) 139 [.int (a ||| b), .int 32] S pst38 := by
      intro pst38 k44
      have ht40 : ztab 139 = ztb139 := rfl
      show zEv (d - 1) 139 0 [.int (a ||| b), .int 32] [] S pst38
      refine zv_c1 ht40 rfl rfl (zv_c1 ht40 rfl rfl ?_)
      refine zv_c1 (st' := [.int ((a ||| b) &&& (32 : Int32))]) (S' := S) ht40 rfl rfl ?_
      refine zv_c1 ht40 rfl rfl ?_
      have J42 : zEv (d - 1) 139 12 [.retAddr 0, .retAddr 0] [.int (zbo (((a ||| b) &&& (32 : Int32)) = 32))] S pst38 := by
        exact zv_rc ht40 rfl rfl rfl rfl zbo_rng k44
      refine zv_br ht40 rfl rfl rfl (fun b41 => ?_) (fun b41 => ?_)
      · refine zv_c1 ht40 rfl rfl ?_
        exact zEv.wk (L := [.retAddr 0, .retAddr 0]) (L' := [.int (a ||| b), .int 32]) (And.intro (Or.inr rfl) (And.intro (Or.inr rfl) trivial)) (zv_sub (zz := zbo (((a ||| b) &&& (32 : Int32)) = 32)) (zy := 0) (p := fun zz => zEv (d - 1) 139 12 [.retAddr 0, .retAddr 0] [.int zz] S pst38) (zbo_neg b41) J42)
      · replace b41 : ((a ||| b) &&& (32 : Int32)) = 32 := Classical.not_not.mp b41
        refine zv_c1 ht40 rfl rfl (zv_c1 ht40 rfl rfl ?_)
        exact zEv.wk (L := [.retAddr 0, .retAddr 0]) (L' := [.int (a ||| b), .int 32]) (And.intro (Or.inr rfl) (And.intro (Or.inr rfl) trivial)) (zv_sub (zz := zbo (((a ||| b) &&& (32 : Int32)) = 32)) (zy := 1) (p := fun zz => zEv (d - 1) 139 12 [.retAddr 0, .retAddr 0] [.int zz] S pst38) (zbo_pos b41) J42)
    refine zv_cl ht rfl rfl rfl rfl (by omega) (Nat.le_of_ble_eq_true rfl) (C39 _ ?_)
    show zEv d 144 57 [.ref 1592, .int (Int32.ofNat n), .int 16, .int p, .int q, .int a, .int b, .int ((a &&& b) &&& (1 : Int32)), .int (Int32.ofNat (znt (((a &&& (4 : Int32)) = 4) ∨ (((a &&& (1 : Int32)) = 1) ∧ ((b &&& (4 : Int32)) = 4))) 4 0)), .retAddr 0] [.int (zbo (((a ||| b) &&& (32 : Int32)) = 32))] S post
    refine zv_c2 (L' := [.ref 1592, .int (Int32.ofNat n), .int 16, .int p, .int q, .int a, .int b, .int ((a &&& b) &&& (1 : Int32)), .int (Int32.ofNat (znt (((a &&& (4 : Int32)) = 4) ∨ (((a &&& (1 : Int32)) = 1) ∧ ((b &&& (4 : Int32)) = 4))) 4 0)), .int (zbo (((a ||| b) &&& (32 : Int32)) = 32))]) ht rfl rfl ?_
    refine zv_c1 ht rfl rfl ?_
    refine zv_sw ht rfl rfl rfl rfl rfl ?_
    refine And.intro (fun h => absurd h (by decide)) (fun _ => ?_)
    refine And.intro (fun h => absurd h (by decide)) (fun _ => ?_)
    refine And.intro (fun h => absurd h (by decide)) (fun _ => ?_)
    refine And.intro (fun h => absurd h (by decide)) (fun _ => ?_)
    refine And.intro (fun h => absurd h (by decide)) (fun _ => ?_)
    refine zv_c1 ht rfl rfl ?_
    have C46 : ∀ (pst45 : Outcome × zS → Prop), (pst45 (.returned (some (.int (zbo ((p = 0) ∨ (p = 2) ∨ (p = 1))))), S)) → zCall (d - 1) 143 [.int p] S pst45 := by
      intro pst45 k55
      have ht47 : ztab 143 = ztb143 := rfl
      show zEv (d - 1) 143 0 [.int p] [] S pst45
      refine zv_c1 ht47 rfl rfl ?_
      have J53 : zEv (d - 1) 143 19 [.retAddr 0] [.int (zbo ((p = 0) ∨ (p = 2) ∨ (p = 1)))] S pst45 := by
        exact zv_rc ht47 rfl rfl rfl rfl zbo_rng k55
      have J51 : ((p = 0) ∨ (p = 2) ∨ (p = 1)) → zEv (d - 1) 143 14 [.retAddr 0] [] S pst45 := by
        intro b52
        refine zv_c1 ht47 rfl rfl (zv_c1 ht47 rfl rfl ?_)
        exact (zv_sub (zz := zbo ((p = 0) ∨ (p = 2) ∨ (p = 1))) (zy := 1) (p := fun zz => zEv (d - 1) 143 19 [.retAddr 0] [.int zz] S pst45) (zbo_pos b52) J53)
      refine zv_br ht47 rfl rfl rfl (fun b48 => ?_) (fun b48 => ?_)
      · exact zEv.wk (L := [.retAddr 0]) (L' := [.int p]) (And.intro (Or.inr rfl) trivial) (J51 (Or.inl b48))
      · refine zv_c1 ht47 rfl rfl (zv_c1 ht47 rfl rfl ?_)
        refine zv_br ht47 rfl rfl rfl (fun b49 => ?_) (fun b49 => ?_)
        · exact zEv.wk (L := [.retAddr 0]) (L' := [.int p]) (And.intro (Or.inr rfl) trivial) (J51 (Or.inr (Or.inl b49)))
        · refine zv_c1 ht47 rfl rfl (zv_c1 ht47 rfl rfl ?_)
          refine zv_br ht47 rfl rfl rfl (fun b50 => ?_) (fun b50 => ?_)
          · refine zv_c1 ht47 rfl rfl ?_
            exact zEv.wk (L := [.retAddr 0]) (L' := [.int p]) (And.intro (Or.inr rfl) trivial) (zv_sub (zz := zbo ((p = 0) ∨ (p = 2) ∨ (p = 1))) (zy := 0) (p := fun zz => zEv (d - 1) 143 19 [.retAddr 0] [.int zz] S pst45) (zbo_neg (fun h => h.elim b48 (fun h => h.elim b49 b50))) J53)
          · replace b50 : p = 1 := Classical.not_not.mp b50
            exact zEv.wk (L := [.retAddr 0]) (L' := [.int p]) (And.intro (Or.inr rfl) trivial) (J51 (Or.inr (Or.inr b50)))
    refine zv_cl ht rfl rfl rfl rfl (by omega) (Nat.le_of_ble_eq_true rfl) (C46 _ ?_)
    show zEv d 144 640 [.ref 1592, .int (Int32.ofNat n), .int 16, .int p, .int q, .int a, .int b, .int ((a &&& b) &&& (1 : Int32)), .int (Int32.ofNat (znt (((a &&& (4 : Int32)) = 4) ∨ (((a &&& (1 : Int32)) = 1) ∧ ((b &&& (4 : Int32)) = 4))) 4 0)), .int (zbo (((a ||| b) &&& (32 : Int32)) = 32))] [.int (zbo ((p = 0) ∨ (p = 2) ∨ (p = 1)))] S post
    have J143 : ((¬ ((p = 0) ∨ (p = 2) ∨ (p = 1))) ∨ (¬ (p = q))) → zEv d 144 649 [.retAddr 0, .retAddr 0, .retAddr 0, .retAddr 0, .retAddr 0, .retAddr 0, .retAddr 0, .retAddr 0, .retAddr 0, .retAddr 0] [] S post := by
      intro b144
      exact zv_rt ht rfl rfl rfl rfl (h2 b144)
    refine zv_br ht rfl rfl rfl (fun b56 => ?_) (fun b56 => ?_)
    · replace b56 : ¬ ((p = 0) ∨ (p = 2) ∨ (p = 1)) := (zbo_eq0 : (zbo ((p = 0) ∨ (p = 2) ∨ (p = 1))) = 0 ↔ ¬ ((p = 0) ∨ (p = 2) ∨ (p = 1))).mp b56
      exact zEv.wk (L := [.retAddr 0, .retAddr 0, .retAddr 0, .retAddr 0, .retAddr 0, .retAddr 0, .retAddr 0, .retAddr 0, .retAddr 0, .retAddr 0]) (L' := [.ref 1592, .int (Int32.ofNat n), .int 16, .int p, .int q, .int a, .int b, .int ((a &&& b) &&& (1 : Int32)), .int (Int32.ofNat (znt (((a &&& (4 : Int32)) = 4) ∨ (((a &&& (1 : Int32)) = 1) ∧ ((b &&& (4 : Int32)) = 4))) 4 0)), .int (zbo (((a ||| b) &&& (32 : Int32)) = 32))]) (And.intro (Or.inr rfl) (And.intro (Or.inr rfl) (And.intro (Or.inr rfl) (And.intro (Or.inr rfl) (And.intro (Or.inr rfl) (And.intro (Or.inr rfl) (And.intro (Or.inr rfl) (And.intro (Or.inr rfl) (And.intro (Or.inr rfl) (And.intro (Or.inr rfl) trivial)))))))))) (J143 (Or.inl b56))
    · replace b56 : (p = 0) ∨ (p = 2) ∨ (p = 1) := Classical.byContradiction (fun h => b56 ((zbo_eq0 : (zbo ((p = 0) ∨ (p = 2) ∨ (p = 1))) = 0 ↔ ¬ ((p = 0) ∨ (p = 2) ∨ (p = 1))).mpr h))
      refine zv_c1 ht rfl rfl (zv_c1 ht rfl rfl ?_)
      refine zv_br ht rfl rfl rfl (fun b57 => ?_) (fun b57 => ?_)
      · refine zv_c1 ht rfl rfl (zv_c1 ht rfl rfl (zv_c1 ht rfl rfl (zv_c1 ht rfl rfl (zv_c1 ht rfl rfl ?_))))
        refine zv_c1 (st' := [.int (a &&& b), .int p, .int (Int32.ofNat n), .ref 1592]) (S' := S) ht rfl rfl ?_
        refine zv_c1 ht rfl rfl ?_
        have C59 : ∀ (pst58 : Outcome × zS → Prop), (pst58 (.returned (some (.int (zbo (((a &&& b) &&& (1 : Int32)) = 1)))), S)) → zCall (d - 1) 139 [.int (a &&& b), .int 1] S pst58 := by
          intro pst58 k64
          have ht60 : ztab 139 = ztb139 := rfl
          show zEv (d - 1) 139 0 [.int (a &&& b), .int 1] [] S pst58
          refine zv_c1 ht60 rfl rfl (zv_c1 ht60 rfl rfl ?_)
          refine zv_c1 (st' := [.int ((a &&& b) &&& (1 : Int32))]) (S' := S) ht60 rfl rfl ?_
          refine zv_c1 ht60 rfl rfl ?_
          have J62 : zEv (d - 1) 139 12 [.retAddr 0, .retAddr 0] [.int (zbo (((a &&& b) &&& (1 : Int32)) = 1))] S pst58 := by
            exact zv_rc ht60 rfl rfl rfl rfl zbo_rng k64
          refine zv_br ht60 rfl rfl rfl (fun b61 => ?_) (fun b61 => ?_)
          · refine zv_c1 ht60 rfl rfl ?_
            exact zEv.wk (L := [.retAddr 0, .retAddr 0]) (L' := [.int (a &&& b), .int 1]) (And.intro (Or.inr rfl) (And.intro (Or.inr rfl) trivial)) (zv_sub (zz := zbo (((a &&& b) &&& (1 : Int32)) = 1)) (zy := 0) (p := fun zz => zEv (d - 1) 139 12 [.retAddr 0, .retAddr 0] [.int zz] S pst58) (zbo_neg b61) J62)
          · replace b61 : ((a &&& b) &&& (1 : Int32)) = 1 := Classical.not_not.mp b61
            refine zv_c1 ht60 rfl rfl (zv_c1 ht60 rfl rfl ?_)
            exact zEv.wk (L := [.retAddr 0, .retAddr 0]) (L' := [.int (a &&& b), .int 1]) (And.intro (Or.inr rfl) (And.intro (Or.inr rfl) trivial)) (zv_sub (zz := zbo (((a &&& b) &&& (1 : Int32)) = 1)) (zy := 1) (p := fun zz => zEv (d - 1) 139 12 [.retAddr 0, .retAddr 0] [.int zz] S pst58) (zbo_pos b61) J62)
        refine zv_cl ht rfl rfl rfl rfl (by omega) (Nat.le_of_ble_eq_true rfl) (C59 _ ?_)
        show zEv d 144 662 [.ref 1592, .int (Int32.ofNat n), .int 16, .int p, .int q, .int a, .int b, .int ((a &&& b) &&& (1 : Int32)), .int (Int32.ofNat (znt (((a &&& (4 : Int32)) = 4) ∨ (((a &&& (1 : Int32)) = 1) ∧ ((b &&& (4 : Int32)) = 4))) 4 0)), .int (zbo (((a ||| b) &&& (32 : Int32)) = 32))] [.int (zbo (((a &&& b) &&& (1 : Int32)) = 1)), .int p, .int (Int32.ofNat n), .ref 1592] S post
        refine zv_c1 ht rfl rfl ?_
        have C66 : ∀ (pst65 : Outcome × zS → Prop), (pst65 (.returned (some (.int (Int32.ofNat (znt (((a &&& b) &&& (1 : Int32)) = 1) 2 0)))), S)) → zCall (d - 1) 140 [.int (zbo (((a &&& b) &&& (1 : Int32)) = 1)), .int 2] S pst65 := by
          intro pst65 k71
          have ht67 : ztab 140 = ztb140 := rfl
          show zEv (d - 1) 140 0 [.int (zbo (((a &&& b) &&& (1 : Int32)) = 1)), .int 2] [] S pst65
          refine zv_c1 ht67 rfl rfl ?_
          have J69 : zEv (d - 1) 140 9 [.retAddr 0, .retAddr 0] [.int (Int32.ofNat (znt (((a &&& b) &&& (1 : Int32)) = 1) 2 0))] S pst65 := by
            exact zv_rt ht67 rfl rfl rfl rfl k71
          refine zv_br ht67 rfl rfl rfl (fun b68 => ?_) (fun b68 => ?_)
          · replace b68 : ¬ (((a &&& b) &&& (1 : Int32)) = 1) := (zbo_eq0 : (zbo (((a &&& b) &&& (1 : Int32)) = 1)) = 0 ↔ ¬ (((a &&& b) &&& (1 : Int32)) = 1)).mp b68
            refine zv_c1 ht67 rfl rfl ?_
            exact zEv.wk (L := [.retAddr 0, .retAddr 0]) (L' := [.int (zbo (((a &&& b) &&& (1 : Int32)) = 1)), .int 2]) (And.intro (Or.inr rfl) (And.intro (Or.inr rfl) trivial)) (zv_sub (zz := Int32.ofNat (znt (((a &&& b) &&& (1 : Int32)) = 1) 2 0)) (zy := 0) (p := fun zz => zEv (d - 1) 140 9 [.retAddr 0, .retAddr 0] [.int zz] S pst65) (congrArg Int32.ofNat (znt_neg b68)) J69)
          · replace b68 : ((a &&& b) &&& (1 : Int32)) = 1 := Classical.byContradiction (fun h => b68 ((zbo_eq0 : (zbo (((a &&& b) &&& (1 : Int32)) = 1)) = 0 ↔ ¬ (((a &&& b) &&& (1 : Int32)) = 1)).mpr h))
            refine zv_c1 ht67 rfl rfl (zv_c1 ht67 rfl rfl ?_)
            exact zEv.wk (L := [.retAddr 0, .retAddr 0]) (L' := [.int (zbo (((a &&& b) &&& (1 : Int32)) = 1)), .int 2]) (And.intro (Or.inr rfl) (And.intro (Or.inr rfl) trivial)) (zv_sub (zz := Int32.ofNat (znt (((a &&& b) &&& (1 : Int32)) = 1) 2 0)) (zy := 2) (p := fun zz => zEv (d - 1) 140 9 [.retAddr 0, .retAddr 0] [.int zz] S pst65) (congrArg Int32.ofNat (znt_pos b68)) J69)
        refine zv_cl ht rfl rfl rfl rfl (by omega) (Nat.le_of_ble_eq_true rfl) (C66 _ ?_)
        show zEv d 144 666 [.ref 1592, .int (Int32.ofNat n), .int 16, .int p, .int q, .int a, .int b, .int ((a &&& b) &&& (1 : Int32)), .int (Int32.ofNat (znt (((a &&& (4 : Int32)) = 4) ∨ (((a &&& (1 : Int32)) = 1) ∧ ((b &&& (4 : Int32)) = 4))) 4 0)), .int (zbo (((a ||| b) &&& (32 : Int32)) = 32))] [.int (Int32.ofNat (znt (((a &&& b) &&& (1 : Int32)) = 1) 2 0)), .int p, .int (Int32.ofNat n), .ref 1592] S post
        refine zv_c1 ht rfl rfl (zv_c1 ht rfl rfl ?_)
        refine zv_c1 (st' := [.int (a &&& b), .int (Int32.ofNat (znt (((a &&& b) &&& (1 : Int32)) = 1) 2 0)), .int p, .int (Int32.ofNat n), .ref 1592]) (S' := S) ht rfl rfl ?_
        refine zv_c1 ht rfl rfl ?_
        refine zv_c1 (st' := [.int ((a &&& b) &&& (16 : Int32)), .int (Int32.ofNat (znt (((a &&& b) &&& (1 : Int32)) = 1) 2 0)), .int p, .int (Int32.ofNat n), .ref 1592]) (S' := S) ht rfl rfl ?_
        refine zv_c1 (st' := [.int ((Int32.ofNat (znt (((a &&& b) &&& (1 : Int32)) = 1) 2 0)) ||| ((a &&& b) &&& (16 : Int32))), .int p, .int (Int32.ofNat n), .ref 1592]) (S' := S) ht rfl rfl ?_
        refine zv_c1 ht rfl rfl (zv_c1 ht rfl rfl ?_)
        refine zv_c1 (st' := [.int (a ||| b), .int ((Int32.ofNat (znt (((a &&& b) &&& (1 : Int32)) = 1) 2 0)) ||| ((a &&& b) &&& (16 : Int32))), .int p, .int (Int32.ofNat n), .ref 1592]) (S' := S) ht rfl rfl ?_
        refine zv_c1 ht rfl rfl ?_
        refine zv_c1 (st' := [.int ((a ||| b) &&& (8 : Int32)), .int ((Int32.ofNat (znt (((a &&& b) &&& (1 : Int32)) = 1) 2 0)) ||| ((a &&& b) &&& (16 : Int32))), .int p, .int (Int32.ofNat n), .ref 1592]) (S' := S) ht rfl rfl ?_
        refine zv_c1 (st' := [.int (((Int32.ofNat (znt (((a &&& b) &&& (1 : Int32)) = 1) 2 0)) ||| ((a &&& b) &&& (16 : Int32))) ||| ((a ||| b) &&& (8 : Int32))), .int p, .int (Int32.ofNat n), .ref 1592]) (S' := S) ht rfl rfl ?_
        refine zv_c1 ht rfl rfl (zv_c1 ht rfl rfl ?_)
        refine zv_c1 (st' := [.int (a &&& b), .int (((Int32.ofNat (znt (((a &&& b) &&& (1 : Int32)) = 1) 2 0)) ||| ((a &&& b) &&& (16 : Int32))) ||| ((a ||| b) &&& (8 : Int32))), .int p, .int (Int32.ofNat n), .ref 1592]) (S' := S) ht rfl rfl ?_
        refine zv_c1 ht rfl rfl ?_
        refine zv_c1 (st' := [.int ((a &&& b) &&& (96 : Int32)), .int (((Int32.ofNat (znt (((a &&& b) &&& (1 : Int32)) = 1) 2 0)) ||| ((a &&& b) &&& (16 : Int32))) ||| ((a ||| b) &&& (8 : Int32))), .int p, .int (Int32.ofNat n), .ref 1592]) (S' := S) ht rfl rfl ?_
        refine zv_c1 (st' := [.int ((((Int32.ofNat (znt (((a &&& b) &&& (1 : Int32)) = 1) 2 0)) ||| ((a &&& b) &&& (16 : Int32))) ||| ((a ||| b) &&& (8 : Int32))) ||| ((a &&& b) &&& (96 : Int32))), .int p, .int (Int32.ofNat n), .ref 1592]) (S' := S) ht rfl rfl ?_
        refine zv_c1 ht rfl rfl (zv_c1 ht rfl rfl ?_)
        have C73 : ∀ (pst72 : Outcome × zS → Prop), (pst72 (.returned (some (.int (zbo ((a &&& (128 : Int32)) = 128)))), S)) → zCall (d - 1) 139 [.int a, .int 128] S pst72 := by
          intro pst72 k78
          have ht74 : ztab 139 = ztb139 := rfl
          show zEv (d - 1) 139 0 [.int a, .int 128] [] S pst72
          refine zv_c1 ht74 rfl rfl (zv_c1 ht74 rfl rfl ?_)
          refine zv_c1 (st' := [.int (a &&& (128 : Int32))]) (S' := S) ht74 rfl rfl ?_
          refine zv_c1 ht74 rfl rfl ?_
          have J76 : zEv (d - 1) 139 12 [.retAddr 0, .retAddr 0] [.int (zbo ((a &&& (128 : Int32)) = 128))] S pst72 := by
            exact zv_rc ht74 rfl rfl rfl rfl zbo_rng k78
          refine zv_br ht74 rfl rfl rfl (fun b75 => ?_) (fun b75 => ?_)
          · refine zv_c1 ht74 rfl rfl ?_
            exact zEv.wk (L := [.retAddr 0, .retAddr 0]) (L' := [.int a, .int 128]) (And.intro (Or.inr rfl) (And.intro (Or.inr rfl) trivial)) (zv_sub (zz := zbo ((a &&& (128 : Int32)) = 128)) (zy := 0) (p := fun zz => zEv (d - 1) 139 12 [.retAddr 0, .retAddr 0] [.int zz] S pst72) (zbo_neg b75) J76)
          · replace b75 : (a &&& (128 : Int32)) = 128 := Classical.not_not.mp b75
            refine zv_c1 ht74 rfl rfl (zv_c1 ht74 rfl rfl ?_)
            exact zEv.wk (L := [.retAddr 0, .retAddr 0]) (L' := [.int a, .int 128]) (And.intro (Or.inr rfl) (And.intro (Or.inr rfl) trivial)) (zv_sub (zz := zbo ((a &&& (128 : Int32)) = 128)) (zy := 1) (p := fun zz => zEv (d - 1) 139 12 [.retAddr 0, .retAddr 0] [.int zz] S pst72) (zbo_pos b75) J76)
        refine zv_cl ht rfl rfl rfl rfl (by omega) (Nat.le_of_ble_eq_true rfl) (C73 _ ?_)
        show zEv d 144 701 [.ref 1592, .int (Int32.ofNat n), .int 16, .int p, .int q, .int a, .int b, .int ((a &&& b) &&& (1 : Int32)), .int (Int32.ofNat (znt (((a &&& (4 : Int32)) = 4) ∨ (((a &&& (1 : Int32)) = 1) ∧ ((b &&& (4 : Int32)) = 4))) 4 0)), .int (zbo (((a ||| b) &&& (32 : Int32)) = 32))] [.int (zbo ((a &&& (128 : Int32)) = 128)), .int ((((Int32.ofNat (znt (((a &&& b) &&& (1 : Int32)) = 1) 2 0)) ||| ((a &&& b) &&& (16 : Int32))) ||| ((a ||| b) &&& (8 : Int32))) ||| ((a &&& b) &&& (96 : Int32))), .int p, .int (Int32.ofNat n), .ref 1592] S post
        have J110 : zEv d 144 740 [.retAddr 0, .retAddr 0, .retAddr 0, .retAddr 0, .retAddr 0, .int a, .int b, .retAddr 0, .retAddr 0, .int (zbo (((a ||| b) &&& (32 : Int32)) = 32))] [.int (zbo ((((a &&& (128 : Int32)) = 128) ∧ ((b &&& (64 : Int32)) = 64)) ∨ (((a &&& (64 : Int32)) = 64) ∧ ((b &&& (128 : Int32)) = 128)))), .int ((((Int32.ofNat (znt (((a &&& b) &&& (1 : Int32)) = 1) 2 0)) ||| ((a &&& b) &&& (16 : Int32))) ||| ((a ||| b) &&& (8 : Int32))) ||| ((a &&& b) &&& (96 : Int32))), .int p, .int (Int32.ofNat n), .ref 1592] S post := by
          refine zv_c1 ht rfl rfl ?_
          have C113 : ∀ (pst112 : Outcome × zS → Prop), (pst112 (.returned (some (.int (Int32.ofNat (znt ((((a &&& (128 : Int32)) = 128) ∧ ((b &&& (64 : Int32)) = 64)) ∨ (((a &&& (64 : Int32)) = 64) ∧ ((b &&& (128 : Int32)) = 128))) 128 0)))), S)) → zCall (d - 1) 140 [.int (zbo ((((a &&& (128 : Int32)) = 128) ∧ ((b &&& (64 : Int32)) = 64)) ∨ (((a &&& (64 : Int32)) = 64) ∧ ((b &&& (128 : Int32)) = 128)))), .int 128] S pst112 := by
            intro pst112 k118
            have ht114 : ztab 140 = ztb140 := rfl
            show zEv (d - 1) 140 0 [.int (zbo ((((a &&& (128 : Int32)) = 128) ∧ ((b &&& (64 : Int32)) = 64)) ∨ (((a &&& (64 : Int32)) = 64) ∧ ((b &&& (128 : Int32)) = 128)))), .int 128] [] S pst112
            refine zv_c1 ht114 rfl rfl ?_
            have J116 : zEv (d - 1) 140 9 [.retAddr 0, .retAddr 0] [.int (Int32.ofNat (znt ((((a &&& (128 : Int32)) = 128) ∧ ((b &&& (64 : Int32)) = 64)) ∨ (((a &&& (64 : Int32)) = 64) ∧ ((b &&& (128 : Int32)) = 128))) 128 0))] S pst112 := by
              exact zv_rt ht114 rfl rfl rfl rfl k118
            refine zv_br ht114 rfl rfl rfl (fun b115 => ?_) (fun b115 => ?_)
            · replace b115 : ¬ ((((a &&& (128 : Int32)) = 128) ∧ ((b &&& (64 : Int32)) = 64)) ∨ (((a &&& (64 : Int32)) = 64) ∧ ((b &&& (128 : Int32)) = 128))) := (zbo_eq0 : (zbo ((((a &&& (128 : Int32)) = 128) ∧ ((b &&& (64 : Int32)) = 64)) ∨ (((a &&& (64 : Int32)) = 64) ∧ ((b &&& (128 : Int32)) = 128)))) = 0 ↔ ¬ ((((a &&& (128 : Int32)) = 128) ∧ ((b &&& (64 : Int32)) = 64)) ∨ (((a &&& (64 : Int32)) = 64) ∧ ((b &&& (128 : Int32)) = 128)))).mp b115
              refine zv_c1 ht114 rfl rfl ?_
              exact zEv.wk (L := [.retAddr 0, .retAddr 0]) (L' := [.int (zbo ((((a &&& (128 : Int32)) = 128) ∧ ((b &&& (64 : Int32)) = 64)) ∨ (((a &&& (64 : Int32)) = 64) ∧ ((b &&& (128 : Int32)) = 128)))), .int 128]) (And.intro (Or.inr rfl) (And.intro (Or.inr rfl) trivial)) (zv_sub (zz := Int32.ofNat (znt ((((a &&& (128 : Int32)) = 128) ∧ ((b &&& (64 : Int32)) = 64)) ∨ (((a &&& (64 : Int32)) = 64) ∧ ((b &&& (128 : Int32)) = 128))) 128 0)) (zy := 0) (p := fun zz => zEv (d - 1) 140 9 [.retAddr 0, .retAddr 0] [.int zz] S pst112) (congrArg Int32.ofNat (znt_neg b115)) J116)
            · replace b115 : (((a &&& (128 : Int32)) = 128) ∧ ((b &&& (64 : Int32)) = 64)) ∨ (((a &&& (64 : Int32)) = 64) ∧ ((b &&& (128 : Int32)) = 128)) := Classical.byContradiction (fun h => b115 ((zbo_eq0 : (zbo ((((a &&& (128 : Int32)) = 128) ∧ ((b &&& (64 : Int32)) = 64)) ∨ (((a &&& (64 : Int32)) = 64) ∧ ((b &&& (128 : Int32)) = 128)))) = 0 ↔ ¬ ((((a &&& (128 : Int32)) = 128) ∧ ((b &&& (64 : Int32)) = 64)) ∨ (((a &&& (64 : Int32)) = 64) ∧ ((b &&& (128 : Int32)) = 128)))).mpr h))
              refine zv_c1 ht114 rfl rfl (zv_c1 ht114 rfl rfl ?_)
              exact zEv.wk (L := [.retAddr 0, .retAddr 0]) (L' := [.int (zbo ((((a &&& (128 : Int32)) = 128) ∧ ((b &&& (64 : Int32)) = 64)) ∨ (((a &&& (64 : Int32)) = 64) ∧ ((b &&& (128 : Int32)) = 128)))), .int 128]) (And.intro (Or.inr rfl) (And.intro (Or.inr rfl) trivial)) (zv_sub (zz := Int32.ofNat (znt ((((a &&& (128 : Int32)) = 128) ∧ ((b &&& (64 : Int32)) = 64)) ∨ (((a &&& (64 : Int32)) = 64) ∧ ((b &&& (128 : Int32)) = 128))) 128 0)) (zy := 128) (p := fun zz => zEv (d - 1) 140 9 [.retAddr 0, .retAddr 0] [.int zz] S pst112) (congrArg Int32.ofNat (znt_pos b115)) J116)
          refine zv_cl ht rfl rfl rfl rfl (by omega) (Nat.le_of_ble_eq_true rfl) (C113 _ ?_)
          show zEv d 144 746 [.retAddr 0, .retAddr 0, .retAddr 0, .retAddr 0, .retAddr 0, .int a, .int b, .retAddr 0, .retAddr 0, .int (zbo (((a ||| b) &&& (32 : Int32)) = 32))] [.int (Int32.ofNat (znt ((((a &&& (128 : Int32)) = 128) ∧ ((b &&& (64 : Int32)) = 64)) ∨ (((a &&& (64 : Int32)) = 64) ∧ ((b &&& (128 : Int32)) = 128))) 128 0)), .int ((((Int32.ofNat (znt (((a &&& b) &&& (1 : Int32)) = 1) 2 0)) ||| ((a &&& b) &&& (16 : Int32))) ||| ((a ||| b) &&& (8 : Int32))) ||| ((a &&& b) &&& (96 : Int32))), .int p, .int (Int32.ofNat n), .ref 1592] S post
          refine zv_c1 (st' := [.int (((((Int32.ofNat (znt (((a &&& b) &&& (1 : Int32)) = 1) 2 0)) ||| ((a &&& b) &&& (16 : Int32))) ||| ((a ||| b) &&& (8 : Int32))) ||| ((a &&& b) &&& (96 : Int32))) ||| (Int32.ofNat (znt ((((a &&& (128 : Int32)) = 128) ∧ ((b &&& (64 : Int32)) = 64)) ∨ (((a &&& (64 : Int32)) = 64) ∧ ((b &&& (128 : Int32)) = 128))) 128 0))), .int p, .int (Int32.ofNat n), .ref 1592]) (S' := S) ht rfl rfl ?_
          refine zv_c1 ht rfl rfl (zv_c1 ht rfl rfl ?_)
          refine zv_c1 (st' := [.int (a &&& b), .int (((((Int32.ofNat (znt (((a &&& b) &&& (1 : Int32)) = 1) 2 0)) ||| ((a &&& b) &&& (16 : Int32))) ||| ((a ||| b) &&& (8 : Int32))) ||| ((a &&& b) &&& (96 : Int32))) ||| (Int32.ofNat (znt ((((a &&& (128 : Int32)) = 128) ∧ ((b &&& (64 : Int32)) = 64)) ∨ (((a &&& (64 : Int32)) = 64) ∧ ((b &&& (128 : Int32)) = 128))) 128 0))), .int p, .int (Int32.ofNat n), .ref 1592]) (S' := S) ht rfl rfl ?_
          refine zv_c1 ht rfl rfl ?_
          have C120 : ∀ (pst119 : Outcome × zS → Prop), (pst119 (.returned (some (.int (zbo (((a &&& b) &&& (256 : Int32)) = 256)))), S)) → zCall (d - 1) 139 [.int (a &&& b), .int 256] S pst119 := by
            intro pst119 k125
            have ht121 : ztab 139 = ztb139 := rfl
            show zEv (d - 1) 139 0 [.int (a &&& b), .int 256] [] S pst119
            refine zv_c1 ht121 rfl rfl (zv_c1 ht121 rfl rfl ?_)
            refine zv_c1 (st' := [.int ((a &&& b) &&& (256 : Int32))]) (S' := S) ht121 rfl rfl ?_
            refine zv_c1 ht121 rfl rfl ?_
            have J123 : zEv (d - 1) 139 12 [.retAddr 0, .retAddr 0] [.int (zbo (((a &&& b) &&& (256 : Int32)) = 256))] S pst119 := by
              exact zv_rc ht121 rfl rfl rfl rfl zbo_rng k125
            refine zv_br ht121 rfl rfl rfl (fun b122 => ?_) (fun b122 => ?_)
            · refine zv_c1 ht121 rfl rfl ?_
              exact zEv.wk (L := [.retAddr 0, .retAddr 0]) (L' := [.int (a &&& b), .int 256]) (And.intro (Or.inr rfl) (And.intro (Or.inr rfl) trivial)) (zv_sub (zz := zbo (((a &&& b) &&& (256 : Int32)) = 256)) (zy := 0) (p := fun zz => zEv (d - 1) 139 12 [.retAddr 0, .retAddr 0] [.int zz] S pst119) (zbo_neg b122) J123)
            · replace b122 : ((a &&& b) &&& (256 : Int32)) = 256 := Classical.not_not.mp b122
              refine zv_c1 ht121 rfl rfl (zv_c1 ht121 rfl rfl ?_)
              exact zEv.wk (L := [.retAddr 0, .retAddr 0]) (L' := [.int (a &&& b), .int 256]) (And.intro (Or.inr rfl) (And.intro (Or.inr rfl) trivial)) (zv_sub (zz := zbo (((a &&& b) &&& (256 : Int32)) = 256)) (zy := 1) (p := fun zz => zEv (d - 1) 139 12 [.retAddr 0, .retAddr 0] [.int zz] S pst119) (zbo_pos b122) J123)
          refine zv_cl ht rfl rfl rfl rfl (by omega) (Nat.le_of_ble_eq_true rfl) (C120 _ ?_)
          show zEv d 144 758 [.retAddr 0, .retAddr 0, .retAddr 0, .retAddr 0, .retAddr 0, .int a, .int b, .retAddr 0, .retAddr 0, .int (zbo (((a ||| b) &&& (32 : Int32)) = 32))] [.int (zbo (((a &&& b) &&& (256 : Int32)) = 256)), .int (((((Int32.ofNat (znt (((a &&& b) &&& (1 : Int32)) = 1) 2 0)) ||| ((a &&& b) &&& (16 : Int32))) ||| ((a ||| b) &&& (8 : Int32))) ||| ((a &&& b) &&& (96 : Int32))) ||| (Int32.ofNat (znt ((((a &&& (128 : Int32)) = 128) ∧ ((b &&& (64 : Int32)) = 64)) ∨ (((a &&& (64 : Int32)) = 64) ∧ ((b &&& (128 : Int32)) = 128))) 128 0))), .int p, .int (Int32.ofNat n), .ref 1592] S post
          have J130 : zEv d 144 771 [.retAddr 0, .retAddr 0, .retAddr 0, .retAddr 0, .retAddr 0, .retAddr 0, .retAddr 0, .retAddr 0, .retAddr 0, .retAddr 0] [.int (zbo ((((a &&& b) &&& (256 : Int32)) = 256) ∧ (((a ||| b) &&& (32 : Int32)) = 32))), .int (((((Int32.ofNat (znt (((a &&& b) &&& (1 : Int32)) = 1) 2 0)) ||| ((a &&& b) &&& (16 : Int32))) ||| ((a ||| b) &&& (8 : Int32))) ||| ((a &&& b) &&& (96 : Int32))) ||| (Int32.ofNat (znt ((((a &&& (128 : Int32)) = 128) ∧ ((b &&& (64 : Int32)) = 64)) ∨ (((a &&& (64 : Int32)) = 64) ∧ ((b &&& (128 : Int32)) = 128))) 128 0))), .int p, .int (Int32.ofNat n), .ref 1592] S post := by
            refine zv_c1 ht rfl rfl ?_
            have C133 : ∀ (pst132 : Outcome × zS → Prop), (pst132 (.returned (some (.int (Int32.ofNat (znt ((((a &&& b) &&& (256 : Int32)) = 256) ∧ (((a ||| b) &&& (32 : Int32)) = 32)) 256 0)))), S)) → zCall (d - 1) 140 [.int (zbo ((((a &&& b) &&& (256 : Int32)) = 256) ∧ (((a ||| b) &&& (32 : Int32)) = 32))), .int 256] S pst132 := by
              intro pst132 k138
              have ht134 : ztab 140 = ztb140 := rfl
              show zEv (d - 1) 140 0 [.int (zbo ((((a &&& b) &&& (256 : Int32)) = 256) ∧ (((a ||| b) &&& (32 : Int32)) = 32))), .int 256] [] S pst132
              refine zv_c1 ht134 rfl rfl ?_
              have J136 : zEv (d - 1) 140 9 [.retAddr 0, .retAddr 0] [.int (Int32.ofNat (znt ((((a &&& b) &&& (256 : Int32)) = 256) ∧ (((a ||| b) &&& (32 : Int32)) = 32)) 256 0))] S pst132 := by
                exact zv_rt ht134 rfl rfl rfl rfl k138
              refine zv_br ht134 rfl rfl rfl (fun b135 => ?_) (fun b135 => ?_)
              · replace b135 : ¬ ((((a &&& b) &&& (256 : Int32)) = 256) ∧ (((a ||| b) &&& (32 : Int32)) = 32)) := (zbo_eq0 : (zbo ((((a &&& b) &&& (256 : Int32)) = 256) ∧ (((a ||| b) &&& (32 : Int32)) = 32))) = 0 ↔ ¬ ((((a &&& b) &&& (256 : Int32)) = 256) ∧ (((a ||| b) &&& (32 : Int32)) = 32))).mp b135
                refine zv_c1 ht134 rfl rfl ?_
                exact zEv.wk (L := [.retAddr 0, .retAddr 0]) (L' := [.int (zbo ((((a &&& b) &&& (256 : Int32)) = 256) ∧ (((a ||| b) &&& (32 : Int32)) = 32))), .int 256]) (And.intro (Or.inr rfl) (And.intro (Or.inr rfl) trivial)) (zv_sub (zz := Int32.ofNat (znt ((((a &&& b) &&& (256 : Int32)) = 256) ∧ (((a ||| b) &&& (32 : Int32)) = 32)) 256 0)) (zy := 0) (p := fun zz => zEv (d - 1) 140 9 [.retAddr 0, .retAddr 0] [.int zz] S pst132) (congrArg Int32.ofNat (znt_neg b135)) J136)
              · replace b135 : (((a &&& b) &&& (256 : Int32)) = 256) ∧ (((a ||| b) &&& (32 : Int32)) = 32) := Classical.byContradiction (fun h => b135 ((zbo_eq0 : (zbo ((((a &&& b) &&& (256 : Int32)) = 256) ∧ (((a ||| b) &&& (32 : Int32)) = 32))) = 0 ↔ ¬ ((((a &&& b) &&& (256 : Int32)) = 256) ∧ (((a ||| b) &&& (32 : Int32)) = 32))).mpr h))
                refine zv_c1 ht134 rfl rfl (zv_c1 ht134 rfl rfl ?_)
                exact zEv.wk (L := [.retAddr 0, .retAddr 0]) (L' := [.int (zbo ((((a &&& b) &&& (256 : Int32)) = 256) ∧ (((a ||| b) &&& (32 : Int32)) = 32))), .int 256]) (And.intro (Or.inr rfl) (And.intro (Or.inr rfl) trivial)) (zv_sub (zz := Int32.ofNat (znt ((((a &&& b) &&& (256 : Int32)) = 256) ∧ (((a ||| b) &&& (32 : Int32)) = 32)) 256 0)) (zy := 256) (p := fun zz => zEv (d - 1) 140 9 [.retAddr 0, .retAddr 0] [.int zz] S pst132) (congrArg Int32.ofNat (znt_pos b135)) J136)
            refine zv_cl ht rfl rfl rfl rfl (by omega) (Nat.le_of_ble_eq_true rfl) (C133 _ ?_)
            show zEv d 144 777 [.retAddr 0, .retAddr 0, .retAddr 0, .retAddr 0, .retAddr 0, .retAddr 0, .retAddr 0, .retAddr 0, .retAddr 0, .retAddr 0] [.int (Int32.ofNat (znt ((((a &&& b) &&& (256 : Int32)) = 256) ∧ (((a ||| b) &&& (32 : Int32)) = 32)) 256 0)), .int (((((Int32.ofNat (znt (((a &&& b) &&& (1 : Int32)) = 1) 2 0)) ||| ((a &&& b) &&& (16 : Int32))) ||| ((a ||| b) &&& (8 : Int32))) ||| ((a &&& b) &&& (96 : Int32))) ||| (Int32.ofNat (znt ((((a &&& (128 : Int32)) = 128) ∧ ((b &&& (64 : Int32)) = 64)) ∨ (((a &&& (64 : Int32)) = 64) ∧ ((b &&& (128 : Int32)) = 128))) 128 0))), .int p, .int (Int32.ofNat n), .ref 1592] S post
            refine zv_c1 (st' := [.int ((((((Int32.ofNat (znt (((a &&& b) &&& (1 : Int32)) = 1) 2 0)) ||| ((a &&& b) &&& (16 : Int32))) ||| ((a ||| b) &&& (8 : Int32))) ||| ((a &&& b) &&& (96 : Int32))) ||| (Int32.ofNat (znt ((((a &&& (128 : Int32)) = 128) ∧ ((b &&& (64 : Int32)) = 64)) ∨ (((a &&& (64 : Int32)) = 64) ∧ ((b &&& (128 : Int32)) = 128))) 128 0))) ||| (Int32.ofNat (znt ((((a &&& b) &&& (256 : Int32)) = 256) ∧ (((a ||| b) &&& (32 : Int32)) = 32)) 256 0))), .int p, .int (Int32.ofNat n), .ref 1592]) (S' := S) ht rfl rfl ?_
            have C140 : ∀ (pst139 : Outcome × zS → Prop), (pst139 (.returned none, sA (sA S 1616 n p) 1617 n (pt16_e1 a b))) → zCall (d - 1) 137 [.ref 1592, .int (Int32.ofNat n), .int p, .int ((((((Int32.ofNat (znt (((a &&& b) &&& (1 : Int32)) = 1) 2 0)) ||| ((a &&& b) &&& (16 : Int32))) ||| ((a ||| b) &&& (8 : Int32))) ||| ((a &&& b) &&& (96 : Int32))) ||| (Int32.ofNat (znt ((((a &&& (128 : Int32)) = 128) ∧ ((b &&& (64 : Int32)) = 64)) ∨ (((a &&& (64 : Int32)) = 64) ∧ ((b &&& (128 : Int32)) = 128))) 128 0))) ||| (Int32.ofNat (znt ((((a &&& b) &&& (256 : Int32)) = 256) ∧ (((a ||| b) &&& (32 : Int32)) = 32)) 256 0)))] S pst139 := by
              intro pst139 k142
              have ht141 : ztab 137 = ztb137 := rfl
              show zEv (d - 1) 137 0 [.ref 1592, .int (Int32.ofNat n), .int p, .int ((((((Int32.ofNat (znt (((a &&& b) &&& (1 : Int32)) = 1) 2 0)) ||| ((a &&& b) &&& (16 : Int32))) ||| ((a ||| b) &&& (8 : Int32))) ||| ((a &&& b) &&& (96 : Int32))) ||| (Int32.ofNat (znt ((((a &&& (128 : Int32)) = 128) ∧ ((b &&& (64 : Int32)) = 64)) ∨ (((a &&& (64 : Int32)) = 64) ∧ ((b &&& (128 : Int32)) = 128))) 128 0))) ||| (Int32.ofNat (znt ((((a &&& b) &&& (256 : Int32)) = 256) ∧ (((a ||| b) &&& (32 : Int32)) = 32)) 256 0)))] [] S pst139
              refine zv_c1 ht141 rfl rfl ?_
              refine zv_gl (st' := [.ref 1616]) ht141 rfl hF rfl rfl rfl ?_
              refine zv_c1 ht141 rfl rfl (zv_c1 ht141 rfl rfl ?_)
              refine zv_is (j := n) (x := p) ht141 rfl rfl rfl rfl (zi_natE (a := n) rfl (by omega)) ⟨rfl, zi_inE (a := n) (n := 3000) rfl (by omega) (by omega)⟩ ?_
              refine zv_c1 ht141 rfl rfl ?_
              refine zv_gl (st' := [.ref 1617]) ht141 rfl hF rfl rfl rfl ?_
              refine zv_c1 ht141 rfl rfl (zv_c1 ht141 rfl rfl ?_)
              refine zv_is (j := n) (x := pt16_e1 a b) ht141 rfl rfl rfl rfl (zi_natE (a := n) rfl (by omega)) ⟨rfl, zi_inE (a := n) (n := 3000) rfl (by omega) (by omega)⟩ ?_
              exact zv_rt ht141 rfl rfl rfl rfl k142
            refine zv_cl ht rfl rfl rfl rfl (by omega) (Nat.le_of_ble_eq_true rfl) (C140 _ ?_)
            show zEv d 144 781 [.retAddr 0, .retAddr 0, .retAddr 0, .retAddr 0, .retAddr 0, .retAddr 0, .retAddr 0, .retAddr 0, .retAddr 0, .retAddr 0] [] (sA (sA S 1616 n p) 1617 n (pt16_e1 a b)) post
            exact zv_rt ht rfl rfl rfl rfl (h1 b56 b57)
          have J128 : ((¬ (((a &&& b) &&& (256 : Int32)) = 256)) ∨ (¬ (((a ||| b) &&& (32 : Int32)) = 32))) → zEv d 144 770 [.retAddr 0, .retAddr 0, .retAddr 0, .retAddr 0, .retAddr 0, .retAddr 0, .retAddr 0, .retAddr 0, .retAddr 0, .retAddr 0] [.int (((((Int32.ofNat (znt (((a &&& b) &&& (1 : Int32)) = 1) 2 0)) ||| ((a &&& b) &&& (16 : Int32))) ||| ((a ||| b) &&& (8 : Int32))) ||| ((a &&& b) &&& (96 : Int32))) ||| (Int32.ofNat (znt ((((a &&& (128 : Int32)) = 128) ∧ ((b &&& (64 : Int32)) = 64)) ∨ (((a &&& (64 : Int32)) = 64) ∧ ((b &&& (128 : Int32)) = 128))) 128 0))), .int p, .int (Int32.ofNat n), .ref 1592] S post := by
            intro b129
            refine zv_c1 ht rfl rfl ?_
            exact (zv_sub (zz := zbo ((((a &&& b) &&& (256 : Int32)) = 256) ∧ (((a ||| b) &&& (32 : Int32)) = 32))) (zy := 0) (p := fun zz => zEv d 144 771 [.retAddr 0, .retAddr 0, .retAddr 0, .retAddr 0, .retAddr 0, .retAddr 0, .retAddr 0, .retAddr 0, .retAddr 0, .retAddr 0] [.int zz, .int (((((Int32.ofNat (znt (((a &&& b) &&& (1 : Int32)) = 1) 2 0)) ||| ((a &&& b) &&& (16 : Int32))) ||| ((a ||| b) &&& (8 : Int32))) ||| ((a &&& b) &&& (96 : Int32))) ||| (Int32.ofNat (znt ((((a &&& (128 : Int32)) = 128) ∧ ((b &&& (64 : Int32)) = 64)) ∨ (((a &&& (64 : Int32)) = 64) ∧ ((b &&& (128 : Int32)) = 128))) 128 0))), .int p, .int (Int32.ofNat n), .ref 1592] S post) (zbo_neg (b56.elim (fun y1 => (b129.elim (fun y2 => (fun h => y2 h.1)) (fun y2 => (fun h => y2 h.2)))) (fun y1 => (b129.elim (fun y2 => (fun h => y2 h.1)) (fun y2 => (fun h => y2 h.2)))))) J130)
          refine zv_br ht rfl rfl rfl (fun b126 => ?_) (fun b126 => ?_)
          · replace b126 : ¬ (((a &&& b) &&& (256 : Int32)) = 256) := (zbo_eq0 : (zbo (((a &&& b) &&& (256 : Int32)) = 256)) = 0 ↔ ¬ (((a &&& b) &&& (256 : Int32)) = 256)).mp b126
            exact zEv.wk (L := [.retAddr 0, .retAddr 0, .retAddr 0, .retAddr 0, .retAddr 0, .retAddr 0, .retAddr 0, .retAddr 0, .retAddr 0, .retAddr 0]) (L' := [.retAddr 0, .retAddr 0, .retAddr 0, .retAddr 0, .retAddr 0, .int a, .int b, .retAddr 0, .retAddr 0, .int (zbo (((a ||| b) &&& (32 : Int32)) = 32))]) (And.intro (Or.inl rfl) (And.intro (Or.inl rfl) (And.intro (Or.inl rfl) (And.intro (Or.inl rfl) (And.intro (Or.inl rfl) (And.intro (Or.inr rfl) (And.intro (Or.inr rfl) (And.intro (Or.inl rfl) (And.intro (Or.inl rfl) (And.intro (Or.inr rfl) trivial)))))))))) (J128 (Or.inl b126))
          · replace b126 : ((a &&& b) &&& (256 : Int32)) = 256 := Classical.byContradiction (fun h => b126 ((zbo_eq0 : (zbo (((a &&& b) &&& (256 : Int32)) = 256)) = 0 ↔ ¬ (((a &&& b) &&& (256 : Int32)) = 256)).mpr h))
            refine zv_c1 ht rfl rfl ?_
            refine zv_br ht rfl rfl rfl (fun b127 => ?_) (fun b127 => ?_)
            · replace b127 : ¬ (((a ||| b) &&& (32 : Int32)) = 32) := (zbo_eq0 : (zbo (((a ||| b) &&& (32 : Int32)) = 32)) = 0 ↔ ¬ (((a ||| b) &&& (32 : Int32)) = 32)).mp b127
              exact zEv.wk (L := [.retAddr 0, .retAddr 0, .retAddr 0, .retAddr 0, .retAddr 0, .retAddr 0, .retAddr 0, .retAddr 0, .retAddr 0, .retAddr 0]) (L' := [.retAddr 0, .retAddr 0, .retAddr 0, .retAddr 0, .retAddr 0, .int a, .int b, .retAddr 0, .retAddr 0, .int (zbo (((a ||| b) &&& (32 : Int32)) = 32))]) (And.intro (Or.inl rfl) (And.intro (Or.inl rfl) (And.intro (Or.inl rfl) (And.intro (Or.inl rfl) (And.intro (Or.inl rfl) (And.intro (Or.inr rfl) (And.intro (Or.inr rfl) (And.intro (Or.inl rfl) (And.intro (Or.inl rfl) (And.intro (Or.inr rfl) trivial)))))))))) (J128 (Or.inr b127))
            · replace b127 : ((a ||| b) &&& (32 : Int32)) = 32 := Classical.byContradiction (fun h => b127 ((zbo_eq0 : (zbo (((a ||| b) &&& (32 : Int32)) = 32)) = 0 ↔ ¬ (((a ||| b) &&& (32 : Int32)) = 32)).mpr h))
              refine zv_c1 ht rfl rfl (zv_c1 ht rfl rfl ?_)
              exact zEv.wk (L := [.retAddr 0, .retAddr 0, .retAddr 0, .retAddr 0, .retAddr 0, .retAddr 0, .retAddr 0, .retAddr 0, .retAddr 0, .retAddr 0]) (L' := [.retAddr 0, .retAddr 0, .retAddr 0, .retAddr 0, .retAddr 0, .int a, .int b, .retAddr 0, .retAddr 0, .int (zbo (((a ||| b) &&& (32 : Int32)) = 32))]) (And.intro (Or.inl rfl) (And.intro (Or.inl rfl) (And.intro (Or.inl rfl) (And.intro (Or.inl rfl) (And.intro (Or.inl rfl) (And.intro (Or.inr rfl) (And.intro (Or.inr rfl) (And.intro (Or.inl rfl) (And.intro (Or.inl rfl) (And.intro (Or.inr rfl) trivial)))))))))) (zv_sub (zz := zbo ((((a &&& b) &&& (256 : Int32)) = 256) ∧ (((a ||| b) &&& (32 : Int32)) = 32))) (zy := 1) (p := fun zz => zEv d 144 771 [.retAddr 0, .retAddr 0, .retAddr 0, .retAddr 0, .retAddr 0, .retAddr 0, .retAddr 0, .retAddr 0, .retAddr 0, .retAddr 0] [.int zz, .int (((((Int32.ofNat (znt (((a &&& b) &&& (1 : Int32)) = 1) 2 0)) ||| ((a &&& b) &&& (16 : Int32))) ||| ((a ||| b) &&& (8 : Int32))) ||| ((a &&& b) &&& (96 : Int32))) ||| (Int32.ofNat (znt ((((a &&& (128 : Int32)) = 128) ∧ ((b &&& (64 : Int32)) = 64)) ∨ (((a &&& (64 : Int32)) = 64) ∧ ((b &&& (128 : Int32)) = 128))) 128 0))), .int p, .int (Int32.ofNat n), .ref 1592] S post) (zbo_pos ⟨b126, b127⟩) J130)
        have J108 : ((((a &&& (128 : Int32)) = 128) ∧ ((b &&& (64 : Int32)) = 64)) ∨ (((a &&& (64 : Int32)) = 64) ∧ ((b &&& (128 : Int32)) = 128))) → zEv d 144 735 [.retAddr 0, .retAddr 0, .retAddr 0, .retAddr 0, .retAddr 0, .int a, .int b, .retAddr 0, .retAddr 0, .int (zbo (((a ||| b) &&& (32 : Int32)) = 32))] [.int ((((Int32.ofNat (znt (((a &&& b) &&& (1 : Int32)) = 1) 2 0)) ||| ((a &&& b) &&& (16 : Int32))) ||| ((a ||| b) &&& (8 : Int32))) ||| ((a &&& b) &&& (96 : Int32))), .int p, .int (Int32.ofNat n), .ref 1592] S post := by
          intro b109
          refine zv_c1 ht rfl rfl (zv_c1 ht rfl rfl ?_)
          exact (zv_sub (zz := zbo ((((a &&& (128 : Int32)) = 128) ∧ ((b &&& (64 : Int32)) = 64)) ∨ (((a &&& (64 : Int32)) = 64) ∧ ((b &&& (128 : Int32)) = 128)))) (zy := 1) (p := fun zz => zEv d 144 740 [.retAddr 0, .retAddr 0, .retAddr 0, .retAddr 0, .retAddr 0, .int a, .int b, .retAddr 0, .retAddr 0, .int (zbo (((a ||| b) &&& (32 : Int32)) = 32))] [.int zz, .int ((((Int32.ofNat (znt (((a &&& b) &&& (1 : Int32)) = 1) 2 0)) ||| ((a &&& b) &&& (16 : Int32))) ||| ((a ||| b) &&& (8 : Int32))) ||| ((a &&& b) &&& (96 : Int32))), .int p, .int (Int32.ofNat n), .ref 1592] S post) (zbo_pos b109) J110)
        have J88 : ((¬ ((a &&& (128 : Int32)) = 128)) ∨ (¬ ((b &&& (64 : Int32)) = 64))) → zEv d 144 714 [.retAddr 0, .retAddr 0, .retAddr 0, .retAddr 0, .retAddr 0, .int a, .int b, .retAddr 0, .retAddr 0, .int (zbo (((a ||| b) &&& (32 : Int32)) = 32))] [.int ((((Int32.ofNat (znt (((a &&& b) &&& (1 : Int32)) = 1) 2 0)) ||| ((a &&& b) &&& (16 : Int32))) ||| ((a ||| b) &&& (8 : Int32))) ||| ((a &&& b) &&& (96 : Int32))), .int p, .int (Int32.ofNat n), .ref 1592] S post := by
          intro b89
          refine zv_c1 ht rfl rfl (zv_c1 ht rfl rfl ?_)
          have C91 : ∀ (pst90 : Outcome × zS → Prop), (pst90 (.returned (some (.int (zbo ((a &&& (64 : Int32)) = 64)))), S)) → zCall (d - 1) 139 [.int a, .int 64] S pst90 := by
            intro pst90 k96
            have ht92 : ztab 139 = ztb139 := rfl
            show zEv (d - 1) 139 0 [.int a, .int 64] [] S pst90
            refine zv_c1 ht92 rfl rfl (zv_c1 ht92 rfl rfl ?_)
            refine zv_c1 (st' := [.int (a &&& (64 : Int32))]) (S' := S) ht92 rfl rfl ?_
            refine zv_c1 ht92 rfl rfl ?_
            have J94 : zEv (d - 1) 139 12 [.retAddr 0, .retAddr 0] [.int (zbo ((a &&& (64 : Int32)) = 64))] S pst90 := by
              exact zv_rc ht92 rfl rfl rfl rfl zbo_rng k96
            refine zv_br ht92 rfl rfl rfl (fun b93 => ?_) (fun b93 => ?_)
            · refine zv_c1 ht92 rfl rfl ?_
              exact zEv.wk (L := [.retAddr 0, .retAddr 0]) (L' := [.int a, .int 64]) (And.intro (Or.inr rfl) (And.intro (Or.inr rfl) trivial)) (zv_sub (zz := zbo ((a &&& (64 : Int32)) = 64)) (zy := 0) (p := fun zz => zEv (d - 1) 139 12 [.retAddr 0, .retAddr 0] [.int zz] S pst90) (zbo_neg b93) J94)
            · replace b93 : (a &&& (64 : Int32)) = 64 := Classical.not_not.mp b93
              refine zv_c1 ht92 rfl rfl (zv_c1 ht92 rfl rfl ?_)
              exact zEv.wk (L := [.retAddr 0, .retAddr 0]) (L' := [.int a, .int 64]) (And.intro (Or.inr rfl) (And.intro (Or.inr rfl) trivial)) (zv_sub (zz := zbo ((a &&& (64 : Int32)) = 64)) (zy := 1) (p := fun zz => zEv (d - 1) 139 12 [.retAddr 0, .retAddr 0] [.int zz] S pst90) (zbo_pos b93) J94)
          refine zv_cl ht rfl rfl rfl rfl (by omega) (Nat.le_of_ble_eq_true rfl) (C91 _ ?_)
          show zEv d 144 721 [.retAddr 0, .retAddr 0, .retAddr 0, .retAddr 0, .retAddr 0, .int a, .int b, .retAddr 0, .retAddr 0, .int (zbo (((a ||| b) &&& (32 : Int32)) = 32))] [.int (zbo ((a &&& (64 : Int32)) = 64)), .int ((((Int32.ofNat (znt (((a &&& b) &&& (1 : Int32)) = 1) 2 0)) ||| ((a &&& b) &&& (16 : Int32))) ||| ((a ||| b) &&& (8 : Int32))) ||| ((a &&& b) &&& (96 : Int32))), .int p, .int (Int32.ofNat n), .ref 1592] S post
          have J106 : ((¬ ((a &&& (64 : Int32)) = 64)) ∨ (¬ ((b &&& (128 : Int32)) = 128))) → zEv d 144 739 [.retAddr 0, .retAddr 0, .retAddr 0, .retAddr 0, .retAddr 0, .int a, .int b, .retAddr 0, .retAddr 0, .int (zbo (((a ||| b) &&& (32 : Int32)) = 32))] [.int ((((Int32.ofNat (znt (((a &&& b) &&& (1 : Int32)) = 1) 2 0)) ||| ((a &&& b) &&& (16 : Int32))) ||| ((a ||| b) &&& (8 : Int32))) ||| ((a &&& b) &&& (96 : Int32))), .int p, .int (Int32.ofNat n), .ref 1592] S post := by
            intro b107
            refine zv_c1 ht rfl rfl ?_
            exact (zv_sub (zz := zbo ((((a &&& (128 : Int32)) = 128) ∧ ((b &&& (64 : Int32)) = 64)) ∨ (((a &&& (64 : Int32)) = 64) ∧ ((b &&& (128 : Int32)) = 128)))) (zy := 0) (p := fun zz => zEv d 144 740 [.retAddr 0, .retAddr 0, .retAddr 0, .retAddr 0, .retAddr 0, .int a, .int b, .retAddr 0, .retAddr 0, .int (zbo (((a ||| b) &&& (32 : Int32)) = 32))] [.int zz, .int ((((Int32.ofNat (znt (((a &&& b) &&& (1 : Int32)) = 1) 2 0)) ||| ((a &&& b) &&& (16 : Int32))) ||| ((a ||| b) &&& (8 : Int32))) ||| ((a &&& b) &&& (96 : Int32))), .int p, .int (Int32.ofNat n), .ref 1592] S post) (zbo_neg (b56.elim (fun y1 => (b89.elim (fun y2 => (b107.elim (fun y3 => (fun h => h.elim (fun h => y2 h.1) (fun h => y3 h.1))) (fun y3 => (fun h => h.elim (fun h => y2 h.1) (fun h => y3 h.2))))) (fun y2 => (b107.elim (fun y3 => (fun h => h.elim (fun h => y2 h.2) (fun h => y3 h.1))) (fun y3 => (fun h => h.elim (fun h => y2 h.2) (fun h => y3 h.2))))))) (fun y1 => (b89.elim (fun y2 => (b107.elim (fun y3 => (fun h => h.elim (fun h => y2 h.1) (fun h => y3 h.1))) (fun y3 => (fun h => h.elim (fun h => y2 h.1) (fun h => y3 h.2))))) (fun y2 => (b107.elim (fun y3 => (fun h => h.elim (fun h => y2 h.2) (fun h => y3 h.1))) (fun y3 => (fun h => h.elim (fun h => y2 h.2) (fun h => y3 h.2))))))))) J110)
          refine zv_br ht rfl rfl rfl (fun b97 => ?_) (fun b97 => ?_)
          · replace b97 : ¬ ((a &&& (64 : Int32)) = 64) := (zbo_eq0 : (zbo ((a &&& (64 : Int32)) = 64)) = 0 ↔ ¬ ((a &&& (64 : Int32)) = 64)).mp b97
            exact (J106 (Or.inl b97))
          · replace b97 : (a &&& (64 : Int32)) = 64 := Classical.byContradiction (fun h => b97 ((zbo_eq0 : (zbo ((a &&& (64 : Int32)) = 64)) = 0 ↔ ¬ ((a &&& (64 : Int32)) = 64)).mpr h))
            refine zv_c1 ht rfl rfl (zv_c1 ht rfl rfl ?_)
            have C99 : ∀ (pst98 : Outcome × zS → Prop), (pst98 (.returned (some (.int (zbo ((b &&& (128 : Int32)) = 128)))), S)) → zCall (d - 1) 139 [.int b, .int 128] S pst98 := by
              intro pst98 k104
              have ht100 : ztab 139 = ztb139 := rfl
              show zEv (d - 1) 139 0 [.int b, .int 128] [] S pst98
              refine zv_c1 ht100 rfl rfl (zv_c1 ht100 rfl rfl ?_)
              refine zv_c1 (st' := [.int (b &&& (128 : Int32))]) (S' := S) ht100 rfl rfl ?_
              refine zv_c1 ht100 rfl rfl ?_
              have J102 : zEv (d - 1) 139 12 [.retAddr 0, .retAddr 0] [.int (zbo ((b &&& (128 : Int32)) = 128))] S pst98 := by
                exact zv_rc ht100 rfl rfl rfl rfl zbo_rng k104
              refine zv_br ht100 rfl rfl rfl (fun b101 => ?_) (fun b101 => ?_)
              · refine zv_c1 ht100 rfl rfl ?_
                exact zEv.wk (L := [.retAddr 0, .retAddr 0]) (L' := [.int b, .int 128]) (And.intro (Or.inr rfl) (And.intro (Or.inr rfl) trivial)) (zv_sub (zz := zbo ((b &&& (128 : Int32)) = 128)) (zy := 0) (p := fun zz => zEv (d - 1) 139 12 [.retAddr 0, .retAddr 0] [.int zz] S pst98) (zbo_neg b101) J102)
              · replace b101 : (b &&& (128 : Int32)) = 128 := Classical.not_not.mp b101
                refine zv_c1 ht100 rfl rfl (zv_c1 ht100 rfl rfl ?_)
                exact zEv.wk (L := [.retAddr 0, .retAddr 0]) (L' := [.int b, .int 128]) (And.intro (Or.inr rfl) (And.intro (Or.inr rfl) trivial)) (zv_sub (zz := zbo ((b &&& (128 : Int32)) = 128)) (zy := 1) (p := fun zz => zEv (d - 1) 139 12 [.retAddr 0, .retAddr 0] [.int zz] S pst98) (zbo_pos b101) J102)
            refine zv_cl ht rfl rfl rfl rfl (by omega) (Nat.le_of_ble_eq_true rfl) (C99 _ ?_)
            show zEv d 144 732 [.retAddr 0, .retAddr 0, .retAddr 0, .retAddr 0, .retAddr 0, .int a, .int b, .retAddr 0, .retAddr 0, .int (zbo (((a ||| b) &&& (32 : Int32)) = 32))] [.int (zbo ((b &&& (128 : Int32)) = 128)), .int ((((Int32.ofNat (znt (((a &&& b) &&& (1 : Int32)) = 1) 2 0)) ||| ((a &&& b) &&& (16 : Int32))) ||| ((a ||| b) &&& (8 : Int32))) ||| ((a &&& b) &&& (96 : Int32))), .int p, .int (Int32.ofNat n), .ref 1592] S post
            refine zv_br ht rfl rfl rfl (fun b105 => ?_) (fun b105 => ?_)
            · replace b105 : ¬ ((b &&& (128 : Int32)) = 128) := (zbo_eq0 : (zbo ((b &&& (128 : Int32)) = 128)) = 0 ↔ ¬ ((b &&& (128 : Int32)) = 128)).mp b105
              exact (J106 (Or.inr b105))
            · replace b105 : (b &&& (128 : Int32)) = 128 := Classical.byContradiction (fun h => b105 ((zbo_eq0 : (zbo ((b &&& (128 : Int32)) = 128)) = 0 ↔ ¬ ((b &&& (128 : Int32)) = 128)).mpr h))
              exact (J108 (Or.inr ⟨b97, b105⟩))
        refine zv_br ht rfl rfl rfl (fun b79 => ?_) (fun b79 => ?_)
        · replace b79 : ¬ ((a &&& (128 : Int32)) = 128) := (zbo_eq0 : (zbo ((a &&& (128 : Int32)) = 128)) = 0 ↔ ¬ ((a &&& (128 : Int32)) = 128)).mp b79
          exact zEv.wk (L := [.retAddr 0, .retAddr 0, .retAddr 0, .retAddr 0, .retAddr 0, .int a, .int b, .retAddr 0, .retAddr 0, .int (zbo (((a ||| b) &&& (32 : Int32)) = 32))]) (L' := [.ref 1592, .int (Int32.ofNat n), .int 16, .int p, .int q, .int a, .int b, .int ((a &&& b) &&& (1 : Int32)), .int (Int32.ofNat (znt (((a &&& (4 : Int32)) = 4) ∨ (((a &&& (1 : Int32)) = 1) ∧ ((b &&& (4 : Int32)) = 4))) 4 0)), .int (zbo (((a ||| b) &&& (32 : Int32)) = 32))]) (And.intro (Or.inr rfl) (And.intro (Or.inr rfl) (And.intro (Or.inr rfl) (And.intro (Or.inr rfl) (And.intro (Or.inr rfl) (And.intro (Or.inl rfl) (And.intro (Or.inl rfl) (And.intro (Or.inr rfl) (And.intro (Or.inr rfl) (And.intro (Or.inl rfl) trivial)))))))))) (J88 (Or.inl b79))
        · replace b79 : (a &&& (128 : Int32)) = 128 := Classical.byContradiction (fun h => b79 ((zbo_eq0 : (zbo ((a &&& (128 : Int32)) = 128)) = 0 ↔ ¬ ((a &&& (128 : Int32)) = 128)).mpr h))
          refine zv_c1 ht rfl rfl (zv_c1 ht rfl rfl ?_)
          have C81 : ∀ (pst80 : Outcome × zS → Prop), (pst80 (.returned (some (.int (zbo ((b &&& (64 : Int32)) = 64)))), S)) → zCall (d - 1) 139 [.int b, .int 64] S pst80 := by
            intro pst80 k86
            have ht82 : ztab 139 = ztb139 := rfl
            show zEv (d - 1) 139 0 [.int b, .int 64] [] S pst80
            refine zv_c1 ht82 rfl rfl (zv_c1 ht82 rfl rfl ?_)
            refine zv_c1 (st' := [.int (b &&& (64 : Int32))]) (S' := S) ht82 rfl rfl ?_
            refine zv_c1 ht82 rfl rfl ?_
            have J84 : zEv (d - 1) 139 12 [.retAddr 0, .retAddr 0] [.int (zbo ((b &&& (64 : Int32)) = 64))] S pst80 := by
              exact zv_rc ht82 rfl rfl rfl rfl zbo_rng k86
            refine zv_br ht82 rfl rfl rfl (fun b83 => ?_) (fun b83 => ?_)
            · refine zv_c1 ht82 rfl rfl ?_
              exact zEv.wk (L := [.retAddr 0, .retAddr 0]) (L' := [.int b, .int 64]) (And.intro (Or.inr rfl) (And.intro (Or.inr rfl) trivial)) (zv_sub (zz := zbo ((b &&& (64 : Int32)) = 64)) (zy := 0) (p := fun zz => zEv (d - 1) 139 12 [.retAddr 0, .retAddr 0] [.int zz] S pst80) (zbo_neg b83) J84)
            · replace b83 : (b &&& (64 : Int32)) = 64 := Classical.not_not.mp b83
              refine zv_c1 ht82 rfl rfl (zv_c1 ht82 rfl rfl ?_)
              exact zEv.wk (L := [.retAddr 0, .retAddr 0]) (L' := [.int b, .int 64]) (And.intro (Or.inr rfl) (And.intro (Or.inr rfl) trivial)) (zv_sub (zz := zbo ((b &&& (64 : Int32)) = 64)) (zy := 1) (p := fun zz => zEv (d - 1) 139 12 [.retAddr 0, .retAddr 0] [.int zz] S pst80) (zbo_pos b83) J84)
          refine zv_cl ht rfl rfl rfl rfl (by omega) (Nat.le_of_ble_eq_true rfl) (C81 _ ?_)
          show zEv d 144 711 [.ref 1592, .int (Int32.ofNat n), .int 16, .int p, .int q, .int a, .int b, .int ((a &&& b) &&& (1 : Int32)), .int (Int32.ofNat (znt (((a &&& (4 : Int32)) = 4) ∨ (((a &&& (1 : Int32)) = 1) ∧ ((b &&& (4 : Int32)) = 4))) 4 0)), .int (zbo (((a ||| b) &&& (32 : Int32)) = 32))] [.int (zbo ((b &&& (64 : Int32)) = 64)), .int ((((Int32.ofNat (znt (((a &&& b) &&& (1 : Int32)) = 1) 2 0)) ||| ((a &&& b) &&& (16 : Int32))) ||| ((a ||| b) &&& (8 : Int32))) ||| ((a &&& b) &&& (96 : Int32))), .int p, .int (Int32.ofNat n), .ref 1592] S post
          refine zv_br ht rfl rfl rfl (fun b87 => ?_) (fun b87 => ?_)
          · replace b87 : (b &&& (64 : Int32)) = 64 := Classical.byContradiction (fun h => b87 ((zbo_eq0 : (zbo ((b &&& (64 : Int32)) = 64)) = 0 ↔ ¬ ((b &&& (64 : Int32)) = 64)).mpr h))
            exact zEv.wk (L := [.retAddr 0, .retAddr 0, .retAddr 0, .retAddr 0, .retAddr 0, .int a, .int b, .retAddr 0, .retAddr 0, .int (zbo (((a ||| b) &&& (32 : Int32)) = 32))]) (L' := [.ref 1592, .int (Int32.ofNat n), .int 16, .int p, .int q, .int a, .int b, .int ((a &&& b) &&& (1 : Int32)), .int (Int32.ofNat (znt (((a &&& (4 : Int32)) = 4) ∨ (((a &&& (1 : Int32)) = 1) ∧ ((b &&& (4 : Int32)) = 4))) 4 0)), .int (zbo (((a ||| b) &&& (32 : Int32)) = 32))]) (And.intro (Or.inr rfl) (And.intro (Or.inr rfl) (And.intro (Or.inr rfl) (And.intro (Or.inr rfl) (And.intro (Or.inr rfl) (And.intro (Or.inl rfl) (And.intro (Or.inl rfl) (And.intro (Or.inr rfl) (And.intro (Or.inr rfl) (And.intro (Or.inl rfl) trivial)))))))))) (J108 (Or.inl ⟨b79, b87⟩))
          · replace b87 : ¬ ((b &&& (64 : Int32)) = 64) := (zbo_eq0 : (zbo ((b &&& (64 : Int32)) = 64)) = 0 ↔ ¬ ((b &&& (64 : Int32)) = 64)).mp (Classical.not_not.mp b87)
            exact zEv.wk (L := [.retAddr 0, .retAddr 0, .retAddr 0, .retAddr 0, .retAddr 0, .int a, .int b, .retAddr 0, .retAddr 0, .int (zbo (((a ||| b) &&& (32 : Int32)) = 32))]) (L' := [.ref 1592, .int (Int32.ofNat n), .int 16, .int p, .int q, .int a, .int b, .int ((a &&& b) &&& (1 : Int32)), .int (Int32.ofNat (znt (((a &&& (4 : Int32)) = 4) ∨ (((a &&& (1 : Int32)) = 1) ∧ ((b &&& (4 : Int32)) = 4))) 4 0)), .int (zbo (((a ||| b) &&& (32 : Int32)) = 32))]) (And.intro (Or.inr rfl) (And.intro (Or.inr rfl) (And.intro (Or.inr rfl) (And.intro (Or.inr rfl) (And.intro (Or.inr rfl) (And.intro (Or.inl rfl) (And.intro (Or.inl rfl) (And.intro (Or.inr rfl) (And.intro (Or.inr rfl) (And.intro (Or.inl rfl) trivial)))))))))) (J88 (Or.inr b87))
      · exact zEv.wk (L := [.retAddr 0, .retAddr 0, .retAddr 0, .retAddr 0, .retAddr 0, .retAddr 0, .retAddr 0, .retAddr 0, .retAddr 0, .retAddr 0]) (L' := [.ref 1592, .int (Int32.ofNat n), .int 16, .int p, .int q, .int a, .int b, .int ((a &&& b) &&& (1 : Int32)), .int (Int32.ofNat (znt (((a &&& (4 : Int32)) = 4) ∨ (((a &&& (1 : Int32)) = 1) ∧ ((b &&& (4 : Int32)) = 4))) 4 0)), .int (zbo (((a ||| b) &&& (32 : Int32)) = 32))]) (And.intro (Or.inr rfl) (And.intro (Or.inr rfl) (And.intro (Or.inr rfl) (And.intro (Or.inr rfl) (And.intro (Or.inr rfl) (And.intro (Or.inr rfl) (And.intro (Or.inr rfl) (And.intro (Or.inr rfl) (And.intro (Or.inr rfl) (And.intro (Or.inr rfl) trivial)))))))))) (J143 (Or.inr b57))
  have J27 : (((a &&& (4 : Int32)) = 4) ∨ (((a &&& (1 : Int32)) = 1) ∧ ((b &&& (4 : Int32)) = 4))) → zEv d 144 36 [.ref 1592, .int (Int32.ofNat n), .int 16, .int p, .int q, .int a, .int b, .int ((a &&& b) &&& (1 : Int32)), .retAddr 0, .retAddr 0] [] S post := by
    intro b28
    refine zv_c1 ht rfl rfl (zv_c1 ht rfl rfl ?_)
    exact (zv_sub (zz := zbo (((a &&& (4 : Int32)) = 4) ∨ (((a &&& (1 : Int32)) = 1) ∧ ((b &&& (4 : Int32)) = 4)))) (zy := 1) (p := fun zz => zEv d 144 41 [.ref 1592, .int (Int32.ofNat n), .int 16, .int p, .int q, .int a, .int b, .int ((a &&& b) &&& (1 : Int32)), .retAddr 0, .retAddr 0] [.int zz] S post) (zbo_pos b28) J29)
  refine zv_br ht rfl rfl rfl (fun b8 => ?_) (fun b8 => ?_)
  · replace b8 : (a &&& (4 : Int32)) = 4 := Classical.byContradiction (fun h => b8 ((zbo_eq0 : (zbo ((a &&& (4 : Int32)) = 4)) = 0 ↔ ¬ ((a &&& (4 : Int32)) = 4)).mpr h))
    exact (J27 (Or.inl b8))
  · replace b8 : ¬ ((a &&& (4 : Int32)) = 4) := (zbo_eq0 : (zbo ((a &&& (4 : Int32)) = 4)) = 0 ↔ ¬ ((a &&& (4 : Int32)) = 4)).mp (Classical.not_not.mp b8)
    refine zv_c1 ht rfl rfl (zv_c1 ht rfl rfl ?_)
    have C10 : ∀ (pst9 : Outcome × zS → Prop), (pst9 (.returned (some (.int (zbo ((a &&& (1 : Int32)) = 1)))), S)) → zCall (d - 1) 139 [.int a, .int 1] S pst9 := by
      intro pst9 k15
      have ht11 : ztab 139 = ztb139 := rfl
      show zEv (d - 1) 139 0 [.int a, .int 1] [] S pst9
      refine zv_c1 ht11 rfl rfl (zv_c1 ht11 rfl rfl ?_)
      refine zv_c1 (st' := [.int (a &&& (1 : Int32))]) (S' := S) ht11 rfl rfl ?_
      refine zv_c1 ht11 rfl rfl ?_
      have J13 : zEv (d - 1) 139 12 [.retAddr 0, .retAddr 0] [.int (zbo ((a &&& (1 : Int32)) = 1))] S pst9 := by
        exact zv_rc ht11 rfl rfl rfl rfl zbo_rng k15
      refine zv_br ht11 rfl rfl rfl (fun b12 => ?_) (fun b12 => ?_)
      · refine zv_c1 ht11 rfl rfl ?_
        exact zEv.wk (L := [.retAddr 0, .retAddr 0]) (L' := [.int a, .int 1]) (And.intro (Or.inr rfl) (And.intro (Or.inr rfl) trivial)) (zv_sub (zz := zbo ((a &&& (1 : Int32)) = 1)) (zy := 0) (p := fun zz => zEv (d - 1) 139 12 [.retAddr 0, .retAddr 0] [.int zz] S pst9) (zbo_neg b12) J13)
      · replace b12 : (a &&& (1 : Int32)) = 1 := Classical.not_not.mp b12
        refine zv_c1 ht11 rfl rfl (zv_c1 ht11 rfl rfl ?_)
        exact zEv.wk (L := [.retAddr 0, .retAddr 0]) (L' := [.int a, .int 1]) (And.intro (Or.inr rfl) (And.intro (Or.inr rfl) trivial)) (zv_sub (zz := zbo ((a &&& (1 : Int32)) = 1)) (zy := 1) (p := fun zz => zEv (d - 1) 139 12 [.retAddr 0, .retAddr 0] [.int zz] S pst9) (zbo_pos b12) J13)
    refine zv_cl ht rfl rfl rfl rfl (by omega) (Nat.le_of_ble_eq_true rfl) (C10 _ ?_)
    show zEv d 144 24 [.ref 1592, .int (Int32.ofNat n), .int 16, .int p, .int q, .int a, .int b, .int ((a &&& b) &&& (1 : Int32)), .retAddr 0, .retAddr 0] [.int (zbo ((a &&& (1 : Int32)) = 1))] S post
    have J25 : ((¬ ((a &&& (1 : Int32)) = 1)) ∨ (¬ ((b &&& (4 : Int32)) = 4))) → zEv d 144 40 [.ref 1592, .int (Int32.ofNat n), .int 16, .int p, .int q, .int a, .int b, .int ((a &&& b) &&& (1 : Int32)), .retAddr 0, .retAddr 0] [] S post := by
      intro b26
      refine zv_c1 ht rfl rfl ?_
      exact (zv_sub (zz := zbo (((a &&& (4 : Int32)) = 4) ∨ (((a &&& (1 : Int32)) = 1) ∧ ((b &&& (4 : Int32)) = 4)))) (zy := 0) (p := fun zz => zEv d 144 41 [.ref 1592, .int (Int32.ofNat n), .int 16, .int p, .int q, .int a, .int b, .int ((a &&& b) &&& (1 : Int32)), .retAddr 0, .retAddr 0] [.int zz] S post) (zbo_neg (b26.elim (fun y1 => (fun h => h.elim b8 (fun h => y1 h.1))) (fun y1 => (fun h => h.elim b8 (fun h => y1 h.2))))) J29)
    refine zv_br ht rfl rfl rfl (fun b16 => ?_) (fun b16 => ?_)
    · replace b16 : ¬ ((a &&& (1 : Int32)) = 1) := (zbo_eq0 : (zbo ((a &&& (1 : Int32)) = 1)) = 0 ↔ ¬ ((a &&& (1 : Int32)) = 1)).mp b16
      exact (J25 (Or.inl b16))
    · replace b16 : (a &&& (1 : Int32)) = 1 := Classical.byContradiction (fun h => b16 ((zbo_eq0 : (zbo ((a &&& (1 : Int32)) = 1)) = 0 ↔ ¬ ((a &&& (1 : Int32)) = 1)).mpr h))
      refine zv_c1 ht rfl rfl (zv_c1 ht rfl rfl ?_)
      have C18 : ∀ (pst17 : Outcome × zS → Prop), (pst17 (.returned (some (.int (zbo ((b &&& (4 : Int32)) = 4)))), S)) → zCall (d - 1) 139 [.int b, .int 4] S pst17 := by
        intro pst17 k23
        have ht19 : ztab 139 = ztb139 := rfl
        show zEv (d - 1) 139 0 [.int b, .int 4] [] S pst17
        refine zv_c1 ht19 rfl rfl (zv_c1 ht19 rfl rfl ?_)
        refine zv_c1 (st' := [.int (b &&& (4 : Int32))]) (S' := S) ht19 rfl rfl ?_
        refine zv_c1 ht19 rfl rfl ?_
        have J21 : zEv (d - 1) 139 12 [.retAddr 0, .retAddr 0] [.int (zbo ((b &&& (4 : Int32)) = 4))] S pst17 := by
          exact zv_rc ht19 rfl rfl rfl rfl zbo_rng k23
        refine zv_br ht19 rfl rfl rfl (fun b20 => ?_) (fun b20 => ?_)
        · refine zv_c1 ht19 rfl rfl ?_
          exact zEv.wk (L := [.retAddr 0, .retAddr 0]) (L' := [.int b, .int 4]) (And.intro (Or.inr rfl) (And.intro (Or.inr rfl) trivial)) (zv_sub (zz := zbo ((b &&& (4 : Int32)) = 4)) (zy := 0) (p := fun zz => zEv (d - 1) 139 12 [.retAddr 0, .retAddr 0] [.int zz] S pst17) (zbo_neg b20) J21)
        · replace b20 : (b &&& (4 : Int32)) = 4 := Classical.not_not.mp b20
          refine zv_c1 ht19 rfl rfl (zv_c1 ht19 rfl rfl ?_)
          exact zEv.wk (L := [.retAddr 0, .retAddr 0]) (L' := [.int b, .int 4]) (And.intro (Or.inr rfl) (And.intro (Or.inr rfl) trivial)) (zv_sub (zz := zbo ((b &&& (4 : Int32)) = 4)) (zy := 1) (p := fun zz => zEv (d - 1) 139 12 [.retAddr 0, .retAddr 0] [.int zz] S pst17) (zbo_pos b20) J21)
      refine zv_cl ht rfl rfl rfl rfl (by omega) (Nat.le_of_ble_eq_true rfl) (C18 _ ?_)
      show zEv d 144 33 [.ref 1592, .int (Int32.ofNat n), .int 16, .int p, .int q, .int a, .int b, .int ((a &&& b) &&& (1 : Int32)), .retAddr 0, .retAddr 0] [.int (zbo ((b &&& (4 : Int32)) = 4))] S post
      refine zv_br ht rfl rfl rfl (fun b24 => ?_) (fun b24 => ?_)
      · replace b24 : ¬ ((b &&& (4 : Int32)) = 4) := (zbo_eq0 : (zbo ((b &&& (4 : Int32)) = 4)) = 0 ↔ ¬ ((b &&& (4 : Int32)) = 4)).mp b24
        exact (J25 (Or.inr b24))
      · replace b24 : (b &&& (4 : Int32)) = 4 := Classical.byContradiction (fun h => b24 ((zbo_eq0 : (zbo ((b &&& (4 : Int32)) = 4)) = 0 ↔ ¬ ((b &&& (4 : Int32)) = 4)).mpr h))
        exact (J27 (Or.inr ⟨b16, b24⟩))
noncomputable def tyP16 (p q a b : Int32) : Option (Int32 × Int32) := zop (((p = 0) ∨ (p = 2) ∨ (p = 1)) ∧ (p = q)) (p, pt16_e1 a b)
theorem wt19 {d : Nat} {S : zS} (hF : zFin true S) (hd : 1 ≤ d) (n x : Nat) (p a : Int32)  (hn : n < 3000) (hk : gA S 1610 n = Int32.ofNat 19) {post : Outcome × zS → Prop} (h1 : (¬ (p = 0)) → post (.returned none, S)) (h2 : (p = 0) → post (.returned none, sA (sA S 1616 n 3) 1617 n ((a &&& (24 : Int32)) ||| (a &&& (480 : Int32))))) : zCall d 141 [.ref 1592, .int (Int32.ofNat n), .int (Int32.ofNat x), .int p, .int a] S post := by
  have ht : ztab 141 = ztb141 := rfl
  show zEv d 141 0 [.ref 1592, .int (Int32.ofNat n), .int (Int32.ofNat x), .int p, .int a, .retAddr 0, .retAddr 0] [] S post
  refine zv_c1 ht rfl rfl (zv_c1 ht rfl rfl ?_)
  refine zv_c1 (st' := [.int (a &&& (480 : Int32))]) (S' := S) ht rfl rfl ?_
  refine zv_c2 (L' := [.ref 1592, .int (Int32.ofNat n), .int (Int32.ofNat x), .int p, .int a, .int (a &&& (480 : Int32)), .retAddr 0]) ht rfl rfl ?_
  refine zv_c1 ht rfl rfl (zv_c1 ht rfl rfl ?_)
  refine zv_c1 (st' := [.int (a &&& (288 : Int32))]) (S' := S) ht rfl rfl ?_
  refine zv_c2 (L' := [.ref 1592, .int (Int32.ofNat n), .int (Int32.ofNat x), .int p, .int a, .int (a &&& (480 : Int32)), .int (a &&& (288 : Int32))]) ht rfl rfl ?_
  refine zv_c1 ht rfl rfl ?_
  refine zv_gl (st' := [.ref 1610]) ht rfl hF rfl rfl rfl ?_
  refine zv_c1 ht rfl rfl ?_
  refine zv_iaE (j := n) (x := 19) ht rfl rfl rfl rfl (zi_natE (a := n) rfl (by omega)) ⟨(Or.inl rfl), zi_inE (a := n) (n := 3000) rfl (by omega) (by omega)⟩ hk ?_
  refine zv_sw ht rfl rfl rfl rfl rfl ?_
  refine And.intro (fun _ => ?_) (fun h => absurd (by decide) h)
  refine zv_c1 ht rfl rfl ?_
  refine zv_br ht rfl rfl rfl (fun b1 => ?_) (fun b1 => ?_)
  · exact zv_rt ht rfl rfl rfl rfl (h1 b1)
  · replace b1 : p = 0 := Classical.not_not.mp b1
    refine zv_c1 ht rfl rfl (zv_c1 ht rfl rfl (zv_c1 ht rfl rfl (zv_c1 ht rfl rfl (zv_c1 ht rfl rfl ?_))))
    refine zv_c1 (st' := [.int (a &&& (24 : Int32)), .int 3, .int (Int32.ofNat n), .ref 1592]) (S' := S) ht rfl rfl ?_
    refine zv_c1 ht rfl rfl ?_
    refine zv_c1 (st' := [.int ((a &&& (24 : Int32)) ||| (a &&& (480 : Int32))), .int 3, .int (Int32.ofNat n), .ref 1592]) (S' := S) ht rfl rfl ?_
    have C3 : ∀ (pst2 : Outcome × zS → Prop), (pst2 (.returned none, sA (sA S 1616 n 3) 1617 n ((a &&& (24 : Int32)) ||| (a &&& (480 : Int32))))) → zCall (d - 1) 137 [.ref 1592, .int (Int32.ofNat n), .int 3, .int ((a &&& (24 : Int32)) ||| (a &&& (480 : Int32)))] S pst2 := by
      intro pst2 k5
      have ht4 : ztab 137 = ztb137 := rfl
      show zEv (d - 1) 137 0 [.ref 1592, .int (Int32.ofNat n), .int 3, .int ((a &&& (24 : Int32)) ||| (a &&& (480 : Int32)))] [] S pst2
      refine zv_c1 ht4 rfl rfl ?_
      refine zv_gl (st' := [.ref 1616]) ht4 rfl hF rfl rfl rfl ?_
      refine zv_c1 ht4 rfl rfl (zv_c1 ht4 rfl rfl ?_)
      refine zv_is (j := n) (x := 3) ht4 rfl rfl rfl rfl (zi_natE (a := n) rfl (by omega)) ⟨rfl, zi_inE (a := n) (n := 3000) rfl (by omega) (by omega)⟩ ?_
      refine zv_c1 ht4 rfl rfl ?_
      refine zv_gl (st' := [.ref 1617]) ht4 rfl hF rfl rfl rfl ?_
      refine zv_c1 ht4 rfl rfl (zv_c1 ht4 rfl rfl ?_)
      refine zv_is (j := n) (x := (a &&& (24 : Int32)) ||| (a &&& (480 : Int32))) ht4 rfl rfl rfl rfl (zi_natE (a := n) rfl (by omega)) ⟨rfl, zi_inE (a := n) (n := 3000) rfl (by omega) (by omega)⟩ ?_
      exact zv_rt ht4 rfl rfl rfl rfl k5
    refine zv_cl ht rfl rfl rfl rfl (by omega) (Nat.le_of_ble_eq_true rfl) (C3 _ ?_)
    show zEv d 141 78 [.ref 1592, .int (Int32.ofNat n), .int (Int32.ofNat x), .int p, .int a, .int (a &&& (480 : Int32)), .int (a &&& (288 : Int32))] [] (sA (sA S 1616 n 3) 1617 n ((a &&& (24 : Int32)) ||| (a &&& (480 : Int32)))) post
    exact zv_rt ht rfl rfl rfl rfl (h2 b1)
noncomputable def tyW19 (p a : Int32) : Option (Int32 × Int32) := zop ((p = 0)) (3, (a &&& (24 : Int32)) ||| (a &&& (480 : Int32)))
theorem wt20 {d : Nat} {S : zS} (hF : zFin true S) (hd : 1 ≤ d) (n x : Nat) (p a : Int32)  (hn : n < 3000) (hk : gA S 1610 n = Int32.ofNat 20) {post : Outcome × zS → Prop} (h1 : ((¬ (p = 0)) ∨ (¬ ((a &&& (2 : Int32)) = 2))) → post (.returned none, S)) (h2 : (p = 0) → ((a &&& (2 : Int32)) = 2) → post (.returned none, sA (sA S 1616 n 3) 1617 n ((a &&& (24 : Int32)) ||| (a &&& (480 : Int32))))) : zCall d 141 [.ref 1592, .int (Int32.ofNat n), .int (Int32.ofNat x), .int p, .int a] S post := by
  have ht : ztab 141 = ztb141 := rfl
  show zEv d 141 0 [.ref 1592, .int (Int32.ofNat n), .int (Int32.ofNat x), .int p, .int a, .retAddr 0, .retAddr 0] [] S post
  refine zv_c1 ht rfl rfl (zv_c1 ht rfl rfl ?_)
  refine zv_c1 (st' := [.int (a &&& (480 : Int32))]) (S' := S) ht rfl rfl ?_
  refine zv_c2 (L' := [.ref 1592, .int (Int32.ofNat n), .int (Int32.ofNat x), .int p, .int a, .int (a &&& (480 : Int32)), .retAddr 0]) ht rfl rfl ?_
  refine zv_c1 ht rfl rfl (zv_c1 ht rfl rfl ?_)
  refine zv_c1 (st' := [.int (a &&& (288 : Int32))]) (S' := S) ht rfl rfl ?_
  refine zv_c2 (L' := [.ref 1592, .int (Int32.ofNat n), .int (Int32.ofNat x), .int p, .int a, .int (a &&& (480 : Int32)), .int (a &&& (288 : Int32))]) ht rfl rfl ?_
  refine zv_c1 ht rfl rfl ?_
  refine zv_gl (st' := [.ref 1610]) ht rfl hF rfl rfl rfl ?_
  refine zv_c1 ht rfl rfl ?_
  refine zv_iaE (j := n) (x := 20) ht rfl rfl rfl rfl (zi_natE (a := n) rfl (by omega)) ⟨(Or.inl rfl), zi_inE (a := n) (n := 3000) rfl (by omega) (by omega)⟩ hk ?_
  refine zv_sw ht rfl rfl rfl rfl rfl ?_
  refine And.intro (fun h => absurd h (by decide)) (fun _ => ?_)
  refine And.intro (fun _ => ?_) (fun h => absurd (by decide) h)
  refine zv_c1 ht rfl rfl ?_
  have J14 : ((¬ (p = 0)) ∨ (¬ ((a &&& (2 : Int32)) = 2))) → zEv d 141 106 [.retAddr 0, .retAddr 0, .retAddr 0, .retAddr 0, .retAddr 0, .retAddr 0, .retAddr 0] [] S post := by
    intro b15
    exact zv_rt ht rfl rfl rfl rfl (h1 b15)
  refine zv_br ht rfl rfl rfl (fun b1 => ?_) (fun b1 => ?_)
  · exact zEv.wk (L := [.retAddr 0, .retAddr 0, .retAddr 0, .retAddr 0, .retAddr 0, .retAddr 0, .retAddr 0]) (L' := [.ref 1592, .int (Int32.ofNat n), .int (Int32.ofNat x), .int p, .int a, .int (a &&& (480 : Int32)), .int (a &&& (288 : Int32))]) (And.intro (Or.inr rfl) (And.intro (Or.inr rfl) (And.intro (Or.inr rfl) (And.intro (Or.inr rfl) (And.intro (Or.inr rfl) (And.intro (Or.inr rfl) (And.intro (Or.inr rfl) trivial))))))) (J14 (Or.inl b1))
  · replace b1 : p = 0 := Classical.not_not.mp b1
    refine zv_c1 ht rfl rfl (zv_c1 ht rfl rfl ?_)
    have C3 : ∀ (pst2 : Outcome × zS → Prop), (pst2 (.returned (some (.int (zbo ((a &&& (2 : Int32)) = 2)))), S)) → zCall (d - 1) 139 [.int a, .int 2] S pst2 := by
      intro pst2 k8
      have ht4 : ztab 139 = ztb139 := rfl
      show zEv (d - 1) 139 0 [.int a, .int 2] [] S pst2
      refine zv_c1 ht4 rfl rfl (zv_c1 ht4 rfl rfl ?_)
      refine zv_c1 (st' := [.int (a &&& (2 : Int32))]) (S' := S) ht4 rfl rfl ?_
      refine zv_c1 ht4 rfl rfl ?_
      have J6 : zEv (d - 1) 139 12 [.retAddr 0, .retAddr 0] [.int (zbo ((a &&& (2 : Int32)) = 2))] S pst2 := by
        exact zv_rc ht4 rfl rfl rfl rfl zbo_rng k8
      refine zv_br ht4 rfl rfl rfl (fun b5 => ?_) (fun b5 => ?_)
      · refine zv_c1 ht4 rfl rfl ?_
        exact zEv.wk (L := [.retAddr 0, .retAddr 0]) (L' := [.int a, .int 2]) (And.intro (Or.inr rfl) (And.intro (Or.inr rfl) trivial)) (zv_sub (zz := zbo ((a &&& (2 : Int32)) = 2)) (zy := 0) (p := fun zz => zEv (d - 1) 139 12 [.retAddr 0, .retAddr 0] [.int zz] S pst2) (zbo_neg b5) J6)
      · replace b5 : (a &&& (2 : Int32)) = 2 := Classical.not_not.mp b5
        refine zv_c1 ht4 rfl rfl (zv_c1 ht4 rfl rfl ?_)
        exact zEv.wk (L := [.retAddr 0, .retAddr 0]) (L' := [.int a, .int 2]) (And.intro (Or.inr rfl) (And.intro (Or.inr rfl) trivial)) (zv_sub (zz := zbo ((a &&& (2 : Int32)) = 2)) (zy := 1) (p := fun zz => zEv (d - 1) 139 12 [.retAddr 0, .retAddr 0] [.int zz] S pst2) (zbo_pos b5) J6)
    refine zv_cl ht rfl rfl rfl rfl (by omega) (Nat.le_of_ble_eq_true rfl) (C3 _ ?_)
    show zEv d 141 89 [.ref 1592, .int (Int32.ofNat n), .int (Int32.ofNat x), .int p, .int a, .int (a &&& (480 : Int32)), .int (a &&& (288 : Int32))] [.int (zbo ((a &&& (2 : Int32)) = 2))] S post
    refine zv_br ht rfl rfl rfl (fun b9 => ?_) (fun b9 => ?_)
    · replace b9 : ¬ ((a &&& (2 : Int32)) = 2) := (zbo_eq0 : (zbo ((a &&& (2 : Int32)) = 2)) = 0 ↔ ¬ ((a &&& (2 : Int32)) = 2)).mp b9
      exact zEv.wk (L := [.retAddr 0, .retAddr 0, .retAddr 0, .retAddr 0, .retAddr 0, .retAddr 0, .retAddr 0]) (L' := [.ref 1592, .int (Int32.ofNat n), .int (Int32.ofNat x), .int p, .int a, .int (a &&& (480 : Int32)), .int (a &&& (288 : Int32))]) (And.intro (Or.inr rfl) (And.intro (Or.inr rfl) (And.intro (Or.inr rfl) (And.intro (Or.inr rfl) (And.intro (Or.inr rfl) (And.intro (Or.inr rfl) (And.intro (Or.inr rfl) trivial))))))) (J14 (Or.inr b9))
    · replace b9 : (a &&& (2 : Int32)) = 2 := Classical.byContradiction (fun h => b9 ((zbo_eq0 : (zbo ((a &&& (2 : Int32)) = 2)) = 0 ↔ ¬ ((a &&& (2 : Int32)) = 2)).mpr h))
      refine zv_c1 ht rfl rfl (zv_c1 ht rfl rfl (zv_c1 ht rfl rfl (zv_c1 ht rfl rfl (zv_c1 ht rfl rfl ?_))))
      refine zv_c1 (st' := [.int (a &&& (24 : Int32)), .int 3, .int (Int32.ofNat n), .ref 1592]) (S' := S) ht rfl rfl ?_
      refine zv_c1 ht rfl rfl ?_
      refine zv_c1 (st' := [.int ((a &&& (24 : Int32)) ||| (a &&& (480 : Int32))), .int 3, .int (Int32.ofNat n), .ref 1592]) (S' := S) ht rfl rfl ?_
      have C11 : ∀ (pst10 : Outcome × zS → Prop), (pst10 (.returned none, sA (sA S 1616 n 3) 1617 n ((a &&& (24 : Int32)) ||| (a &&& (480 : Int32))))) → zCall (d - 1) 137 [.ref 1592, .int (Int32.ofNat n), .int 3, .int ((a &&& (24 : Int32)) ||| (a &&& (480 : Int32)))] S pst10 := by
        intro pst10 k13
        have ht12 : ztab 137 = ztb137 := rfl
        show zEv (d - 1) 137 0 [.ref 1592, .int (Int32.ofNat n), .int 3, .int ((a &&& (24 : Int32)) ||| (a &&& (480 : Int32)))] [] S pst10
        refine zv_c1 ht12 rfl rfl ?_
        refine zv_gl (st' := [.ref 1616]) ht12 rfl hF rfl rfl rfl ?_
        refine zv_c1 ht12 rfl rfl (zv_c1 ht12 rfl rfl ?_)
        refine zv_is (j := n) (x := 3) ht12 rfl rfl rfl rfl (zi_natE (a := n) rfl (by omega)) ⟨rfl, zi_inE (a := n) (n := 3000) rfl (by omega) (by omega)⟩ ?_
        refine zv_c1 ht12 rfl rfl ?_
        refine zv_gl (st' := [.ref 1617]) ht12 rfl hF rfl rfl rfl ?_
        refine zv_c1 ht12 rfl rfl (zv_c1 ht12 rfl rfl ?_)
        refine zv_is (j := n) (x := (a &&& (24 : Int32)) ||| (a &&& (480 : Int32))) ht12 rfl rfl rfl rfl (zi_natE (a := n) rfl (by omega)) ⟨rfl, zi_inE (a := n) (n := 3000) rfl (by omega) (by omega)⟩ ?_
        exact zv_rt ht12 rfl rfl rfl rfl k13
      refine zv_cl ht rfl rfl rfl rfl (by omega) (Nat.le_of_ble_eq_true rfl) (C11 _ ?_)
      show zEv d 141 106 [.ref 1592, .int (Int32.ofNat n), .int (Int32.ofNat x), .int p, .int a, .int (a &&& (480 : Int32)), .int (a &&& (288 : Int32))] [] (sA (sA S 1616 n 3) 1617 n ((a &&& (24 : Int32)) ||| (a &&& (480 : Int32)))) post
      exact zv_rt ht rfl rfl rfl rfl (h2 b1 b9)
noncomputable def tyW20 (p a : Int32) : Option (Int32 × Int32) := zop ((p = 0) ∧ ((a &&& (2 : Int32)) = 2)) (3, (a &&& (24 : Int32)) ||| (a &&& (480 : Int32)))
theorem wt21 {d : Nat} {S : zS} (hF : zFin true S) (hd : 1 ≤ d) (n x : Nat) (p a : Int32)  (hn : n < 3000) (hk : gA S 1610 n = Int32.ofNat 21) {post : Outcome × zS → Prop} (h1 : (¬ (p = 2)) → post (.returned none, S)) (h2 : (p = 2) → post (.returned none, sA (sA S 1616 n 0) 1617 n (((a &&& (14 : Int32)) ||| (16 : Int32)) ||| (a &&& (480 : Int32))))) : zCall d 141 [.ref 1592, .int (Int32.ofNat n), .int (Int32.ofNat x), .int p, .int a] S post := by
  have ht : ztab 141 = ztb141 := rfl
  show zEv d 141 0 [.ref 1592, .int (Int32.ofNat n), .int (Int32.ofNat x), .int p, .int a, .retAddr 0, .retAddr 0] [] S post
  refine zv_c1 ht rfl rfl (zv_c1 ht rfl rfl ?_)
  refine zv_c1 (st' := [.int (a &&& (480 : Int32))]) (S' := S) ht rfl rfl ?_
  refine zv_c2 (L' := [.ref 1592, .int (Int32.ofNat n), .int (Int32.ofNat x), .int p, .int a, .int (a &&& (480 : Int32)), .retAddr 0]) ht rfl rfl ?_
  refine zv_c1 ht rfl rfl (zv_c1 ht rfl rfl ?_)
  refine zv_c1 (st' := [.int (a &&& (288 : Int32))]) (S' := S) ht rfl rfl ?_
  refine zv_c2 (L' := [.ref 1592, .int (Int32.ofNat n), .int (Int32.ofNat x), .int p, .int a, .int (a &&& (480 : Int32)), .int (a &&& (288 : Int32))]) ht rfl rfl ?_
  refine zv_c1 ht rfl rfl ?_
  refine zv_gl (st' := [.ref 1610]) ht rfl hF rfl rfl rfl ?_
  refine zv_c1 ht rfl rfl ?_
  refine zv_iaE (j := n) (x := 21) ht rfl rfl rfl rfl (zi_natE (a := n) rfl (by omega)) ⟨(Or.inl rfl), zi_inE (a := n) (n := 3000) rfl (by omega) (by omega)⟩ hk ?_
  refine zv_sw ht rfl rfl rfl rfl rfl ?_
  refine And.intro (fun h => absurd h (by decide)) (fun _ => ?_)
  refine And.intro (fun h => absurd h (by decide)) (fun _ => ?_)
  refine And.intro (fun _ => ?_) (fun h => absurd (by decide) h)
  refine zv_c1 ht rfl rfl (zv_c1 ht rfl rfl ?_)
  refine zv_br ht rfl rfl rfl (fun b1 => ?_) (fun b1 => ?_)
  · exact zv_rt ht rfl rfl rfl rfl (h1 b1)
  · replace b1 : p = 2 := Classical.not_not.mp b1
    refine zv_c1 ht rfl rfl (zv_c1 ht rfl rfl (zv_c1 ht rfl rfl (zv_c1 ht rfl rfl (zv_c1 ht rfl rfl ?_))))
    refine zv_c1 (st' := [.int (a &&& (14 : Int32)), .int 0, .int (Int32.ofNat n), .ref 1592]) (S' := S) ht rfl rfl ?_
    refine zv_c1 ht rfl rfl ?_
    refine zv_c1 (st' := [.int ((a &&& (14 : Int32)) ||| (16 : Int32)), .int 0, .int (Int32.ofNat n), .ref 1592]) (S' := S) ht rfl rfl ?_
    refine zv_c1 ht rfl rfl ?_
    refine zv_c1 (st' := [.int (((a &&& (14 : Int32)) ||| (16 : Int32)) ||| (a &&& (480 : Int32))), .int 0, .int (Int32.ofNat n), .ref 1592]) (S' := S) ht rfl rfl ?_
    have C3 : ∀ (pst2 : Outcome × zS → Prop), (pst2 (.returned none, sA (sA S 1616 n 0) 1617 n (((a &&& (14 : Int32)) ||| (16 : Int32)) ||| (a &&& (480 : Int32))))) → zCall (d - 1) 137 [.ref 1592, .int (Int32.ofNat n), .int 0, .int (((a &&& (14 : Int32)) ||| (16 : Int32)) ||| (a &&& (480 : Int32)))] S pst2 := by
      intro pst2 k5
      have ht4 : ztab 137 = ztb137 := rfl
      show zEv (d - 1) 137 0 [.ref 1592, .int (Int32.ofNat n), .int 0, .int (((a &&& (14 : Int32)) ||| (16 : Int32)) ||| (a &&& (480 : Int32)))] [] S pst2
      refine zv_c1 ht4 rfl rfl ?_
      refine zv_gl (st' := [.ref 1616]) ht4 rfl hF rfl rfl rfl ?_
      refine zv_c1 ht4 rfl rfl (zv_c1 ht4 rfl rfl ?_)
      refine zv_is (j := n) (x := 0) ht4 rfl rfl rfl rfl (zi_natE (a := n) rfl (by omega)) ⟨rfl, zi_inE (a := n) (n := 3000) rfl (by omega) (by omega)⟩ ?_
      refine zv_c1 ht4 rfl rfl ?_
      refine zv_gl (st' := [.ref 1617]) ht4 rfl hF rfl rfl rfl ?_
      refine zv_c1 ht4 rfl rfl (zv_c1 ht4 rfl rfl ?_)
      refine zv_is (j := n) (x := ((a &&& (14 : Int32)) ||| (16 : Int32)) ||| (a &&& (480 : Int32))) ht4 rfl rfl rfl rfl (zi_natE (a := n) rfl (by omega)) ⟨rfl, zi_inE (a := n) (n := 3000) rfl (by omega) (by omega)⟩ ?_
      exact zv_rt ht4 rfl rfl rfl rfl k5
    refine zv_cl ht rfl rfl rfl rfl (by omega) (Nat.le_of_ble_eq_true rfl) (C3 _ ?_)
    show zEv d 141 129 [.ref 1592, .int (Int32.ofNat n), .int (Int32.ofNat x), .int p, .int a, .int (a &&& (480 : Int32)), .int (a &&& (288 : Int32))] [] (sA (sA S 1616 n 0) 1617 n (((a &&& (14 : Int32)) ||| (16 : Int32)) ||| (a &&& (480 : Int32)))) post
    exact zv_rt ht rfl rfl rfl rfl (h2 b1)
noncomputable def tyW21 (p a : Int32) : Option (Int32 × Int32) := zop ((p = 2)) (0, ((a &&& (14 : Int32)) ||| (16 : Int32)) ||| (a &&& (480 : Int32)))
theorem wt22 {d : Nat} {S : zS} (hF : zFin true S) (hd : 1 ≤ d) (n x : Nat) (p a : Int32)  (hn : n < 3000) (hk : gA S 1610 n = Int32.ofNat 22) {post : Outcome × zS → Prop} (h1 : ((¬ (p = 1)) ∨ (¬ ((a &&& (1 : Int32)) = 1))) → post (.returned none, S)) (h2 : (p = 1) → ((a &&& (1 : Int32)) = 1) → post (.returned none, sA (sA S 1616 n 0) 1617 n (((14 : Int32) ||| (a &&& (288 : Int32))) ||| (128 : Int32)))) : zCall d 141 [.ref 1592, .int (Int32.ofNat n), .int (Int32.ofNat x), .int p, .int a] S post := by
  have ht : ztab 141 = ztb141 := rfl
  show zEv d 141 0 [.ref 1592, .int (Int32.ofNat n), .int (Int32.ofNat x), .int p, .int a, .retAddr 0, .retAddr 0] [] S post
  refine zv_c1 ht rfl rfl (zv_c1 ht rfl rfl ?_)
  refine zv_c1 (st' := [.int (a &&& (480 : Int32))]) (S' := S) ht rfl rfl ?_
  refine zv_c2 (L' := [.ref 1592, .int (Int32.ofNat n), .int (Int32.ofNat x), .int p, .int a, .int (a &&& (480 : Int32)), .retAddr 0]) ht rfl rfl ?_
  refine zv_c1 ht rfl rfl (zv_c1 ht rfl rfl ?_)
  refine zv_c1 (st' := [.int (a &&& (288 : Int32))]) (S' := S) ht rfl rfl ?_
  refine zv_c2 (L' := [.ref 1592, .int (Int32.ofNat n), .int (Int32.ofNat x), .int p, .int a, .int (a &&& (480 : Int32)), .int (a &&& (288 : Int32))]) ht rfl rfl ?_
  refine zv_c1 ht rfl rfl ?_
  refine zv_gl (st' := [.ref 1610]) ht rfl hF rfl rfl rfl ?_
  refine zv_c1 ht rfl rfl ?_
  refine zv_iaE (j := n) (x := 22) ht rfl rfl rfl rfl (zi_natE (a := n) rfl (by omega)) ⟨(Or.inl rfl), zi_inE (a := n) (n := 3000) rfl (by omega) (by omega)⟩ hk ?_
  refine zv_sw ht rfl rfl rfl rfl rfl ?_
  refine And.intro (fun h => absurd h (by decide)) (fun _ => ?_)
  refine And.intro (fun h => absurd h (by decide)) (fun _ => ?_)
  refine And.intro (fun h => absurd h (by decide)) (fun _ => ?_)
  refine And.intro (fun _ => ?_) (fun h => absurd (by decide) h)
  refine zv_c1 ht rfl rfl (zv_c1 ht rfl rfl ?_)
  have J14 : ((¬ (p = 1)) ∨ (¬ ((a &&& (1 : Int32)) = 1))) → zEv d 141 159 [.retAddr 0, .retAddr 0, .retAddr 0, .retAddr 0, .retAddr 0, .retAddr 0, .retAddr 0] [] S post := by
    intro b15
    exact zv_rt ht rfl rfl rfl rfl (h1 b15)
  refine zv_br ht rfl rfl rfl (fun b1 => ?_) (fun b1 => ?_)
  · exact zEv.wk (L := [.retAddr 0, .retAddr 0, .retAddr 0, .retAddr 0, .retAddr 0, .retAddr 0, .retAddr 0]) (L' := [.ref 1592, .int (Int32.ofNat n), .int (Int32.ofNat x), .int p, .int a, .int (a &&& (480 : Int32)), .int (a &&& (288 : Int32))]) (And.intro (Or.inr rfl) (And.intro (Or.inr rfl) (And.intro (Or.inr rfl) (And.intro (Or.inr rfl) (And.intro (Or.inr rfl) (And.intro (Or.inr rfl) (And.intro (Or.inr rfl) trivial))))))) (J14 (Or.inl b1))
  · replace b1 : p = 1 := Classical.not_not.mp b1
    refine zv_c1 ht rfl rfl (zv_c1 ht rfl rfl ?_)
    have C3 : ∀ (pst2 : Outcome × zS → Prop), (pst2 (.returned (some (.int (zbo ((a &&& (1 : Int32)) = 1)))), S)) → zCall (d - 1) 139 [.int a, .int 1] S pst2 := by
      intro pst2 k8
      have ht4 : ztab 139 = ztb139 := rfl
      show zEv (d - 1) 139 0 [.int a, .int 1] [] S pst2
      refine zv_c1 ht4 rfl rfl (zv_c1 ht4 rfl rfl ?_)
      refine zv_c1 (st' := [.int (a &&& (1 : Int32))]) (S' := S) ht4 rfl rfl ?_
      refine zv_c1 ht4 rfl rfl ?_
      have J6 : zEv (d - 1) 139 12 [.retAddr 0, .retAddr 0] [.int (zbo ((a &&& (1 : Int32)) = 1))] S pst2 := by
        exact zv_rc ht4 rfl rfl rfl rfl zbo_rng k8
      refine zv_br ht4 rfl rfl rfl (fun b5 => ?_) (fun b5 => ?_)
      · refine zv_c1 ht4 rfl rfl ?_
        exact zEv.wk (L := [.retAddr 0, .retAddr 0]) (L' := [.int a, .int 1]) (And.intro (Or.inr rfl) (And.intro (Or.inr rfl) trivial)) (zv_sub (zz := zbo ((a &&& (1 : Int32)) = 1)) (zy := 0) (p := fun zz => zEv (d - 1) 139 12 [.retAddr 0, .retAddr 0] [.int zz] S pst2) (zbo_neg b5) J6)
      · replace b5 : (a &&& (1 : Int32)) = 1 := Classical.not_not.mp b5
        refine zv_c1 ht4 rfl rfl (zv_c1 ht4 rfl rfl ?_)
        exact zEv.wk (L := [.retAddr 0, .retAddr 0]) (L' := [.int a, .int 1]) (And.intro (Or.inr rfl) (And.intro (Or.inr rfl) trivial)) (zv_sub (zz := zbo ((a &&& (1 : Int32)) = 1)) (zy := 1) (p := fun zz => zEv (d - 1) 139 12 [.retAddr 0, .retAddr 0] [.int zz] S pst2) (zbo_pos b5) J6)
    refine zv_cl ht rfl rfl rfl rfl (by omega) (Nat.le_of_ble_eq_true rfl) (C3 _ ?_)
    show zEv d 141 141 [.ref 1592, .int (Int32.ofNat n), .int (Int32.ofNat x), .int p, .int a, .int (a &&& (480 : Int32)), .int (a &&& (288 : Int32))] [.int (zbo ((a &&& (1 : Int32)) = 1))] S post
    refine zv_br ht rfl rfl rfl (fun b9 => ?_) (fun b9 => ?_)
    · replace b9 : ¬ ((a &&& (1 : Int32)) = 1) := (zbo_eq0 : (zbo ((a &&& (1 : Int32)) = 1)) = 0 ↔ ¬ ((a &&& (1 : Int32)) = 1)).mp b9
      exact zEv.wk (L := [.retAddr 0, .retAddr 0, .retAddr 0, .retAddr 0, .retAddr 0, .retAddr 0, .retAddr 0]) (L' := [.ref 1592, .int (Int32.ofNat n), .int (Int32.ofNat x), .int p, .int a, .int (a &&& (480 : Int32)), .int (a &&& (288 : Int32))]) (And.intro (Or.inr rfl) (And.intro (Or.inr rfl) (And.intro (Or.inr rfl) (And.intro (Or.inr rfl) (And.intro (Or.inr rfl) (And.intro (Or.inr rfl) (And.intro (Or.inr rfl) trivial))))))) (J14 (Or.inr b9))
    · replace b9 : (a &&& (1 : Int32)) = 1 := Classical.byContradiction (fun h => b9 ((zbo_eq0 : (zbo ((a &&& (1 : Int32)) = 1)) = 0 ↔ ¬ ((a &&& (1 : Int32)) = 1)).mpr h))
      refine zv_c1 ht rfl rfl (zv_c1 ht rfl rfl (zv_c1 ht rfl rfl (zv_c1 ht rfl rfl (zv_c1 ht rfl rfl ?_))))
      refine zv_c1 (st' := [.int ((14 : Int32) ||| (a &&& (288 : Int32))), .int 0, .int (Int32.ofNat n), .ref 1592]) (S' := S) ht rfl rfl ?_
      refine zv_c1 ht rfl rfl ?_
      refine zv_c1 (st' := [.int (((14 : Int32) ||| (a &&& (288 : Int32))) ||| (128 : Int32)), .int 0, .int (Int32.ofNat n), .ref 1592]) (S' := S) ht rfl rfl ?_
      have C11 : ∀ (pst10 : Outcome × zS → Prop), (pst10 (.returned none, sA (sA S 1616 n 0) 1617 n (((14 : Int32) ||| (a &&& (288 : Int32))) ||| (128 : Int32)))) → zCall (d - 1) 137 [.ref 1592, .int (Int32.ofNat n), .int 0, .int (((14 : Int32) ||| (a &&& (288 : Int32))) ||| (128 : Int32))] S pst10 := by
        intro pst10 k13
        have ht12 : ztab 137 = ztb137 := rfl
        show zEv (d - 1) 137 0 [.ref 1592, .int (Int32.ofNat n), .int 0, .int (((14 : Int32) ||| (a &&& (288 : Int32))) ||| (128 : Int32))] [] S pst10
        refine zv_c1 ht12 rfl rfl ?_
        refine zv_gl (st' := [.ref 1616]) ht12 rfl hF rfl rfl rfl ?_
        refine zv_c1 ht12 rfl rfl (zv_c1 ht12 rfl rfl ?_)
        refine zv_is (j := n) (x := 0) ht12 rfl rfl rfl rfl (zi_natE (a := n) rfl (by omega)) ⟨rfl, zi_inE (a := n) (n := 3000) rfl (by omega) (by omega)⟩ ?_
        refine zv_c1 ht12 rfl rfl ?_
        refine zv_gl (st' := [.ref 1617]) ht12 rfl hF rfl rfl rfl ?_
        refine zv_c1 ht12 rfl rfl (zv_c1 ht12 rfl rfl ?_)
        refine zv_is (j := n) (x := ((14 : Int32) ||| (a &&& (288 : Int32))) ||| (128 : Int32)) ht12 rfl rfl rfl rfl (zi_natE (a := n) rfl (by omega)) ⟨rfl, zi_inE (a := n) (n := 3000) rfl (by omega) (by omega)⟩ ?_
        exact zv_rt ht12 rfl rfl rfl rfl k13
      refine zv_cl ht rfl rfl rfl rfl (by omega) (Nat.le_of_ble_eq_true rfl) (C11 _ ?_)
      show zEv d 141 159 [.ref 1592, .int (Int32.ofNat n), .int (Int32.ofNat x), .int p, .int a, .int (a &&& (480 : Int32)), .int (a &&& (288 : Int32))] [] (sA (sA S 1616 n 0) 1617 n (((14 : Int32) ||| (a &&& (288 : Int32))) ||| (128 : Int32))) post
      exact zv_rt ht rfl rfl rfl rfl (h2 b1 b9)
noncomputable def tyW22 (p a : Int32) : Option (Int32 × Int32) := zop ((p = 1) ∧ ((a &&& (1 : Int32)) = 1)) (0, ((14 : Int32) ||| (a &&& (288 : Int32))) ||| (128 : Int32))
theorem wt23 {d : Nat} {S : zS} (hF : zFin true S) (hd : 1 ≤ d) (n x : Nat) (p a : Int32)  (hn : n < 3000) (hk : gA S 1610 n = Int32.ofNat 23) {post : Outcome × zS → Prop} (h1 : (¬ (p = 0)) → post (.returned none, S)) (h2 : (p = 0) → post (.returned none, sA (sA S 1616 n 1) 1617 n (((a &&& (7 : Int32)) ||| (a &&& (288 : Int32))) ||| (64 : Int32)))) : zCall d 141 [.ref 1592, .int (Int32.ofNat n), .int (Int32.ofNat x), .int p, .int a] S post := by
  have ht : ztab 141 = ztb141 := rfl
  show zEv d 141 0 [.ref 1592, .int (Int32.ofNat n), .int (Int32.ofNat x), .int p, .int a, .retAddr 0, .retAddr 0] [] S post
  refine zv_c1 ht rfl rfl (zv_c1 ht rfl rfl ?_)
  refine zv_c1 (st' := [.int (a &&& (480 : Int32))]) (S' := S) ht rfl rfl ?_
  refine zv_c2 (L' := [.ref 1592, .int (Int32.ofNat n), .int (Int32.ofNat x), .int p, .int a, .int (a &&& (480 : Int32)), .retAddr 0]) ht rfl rfl ?_
  refine zv_c1 ht rfl rfl (zv_c1 ht rfl rfl ?_)
  refine zv_c1 (st' := [.int (a &&& (288 : Int32))]) (S' := S) ht rfl rfl ?_
  refine zv_c2 (L' := [.ref 1592, .int (Int32.ofNat n), .int (Int32.ofNat x), .int p, .int a, .int (a &&& (480 : Int32)), .int (a &&& (288 : Int32))]) ht rfl rfl ?_
  refine zv_c1 ht rfl rfl ?_
  refine zv_gl (st' := [.ref 1610]) ht rfl hF rfl rfl rfl ?_
  refine zv_c1 ht rfl rfl ?_
  refine zv_iaE (j := n) (x := 23) ht rfl rfl rfl rfl (zi_natE (a := n) rfl (by omega)) ⟨(Or.inl rfl), zi_inE (a := n) (n := 3000) rfl (by omega) (by omega)⟩ hk ?_
  refine zv_sw ht rfl rfl rfl rfl rfl ?_
  refine And.intro (fun h => absurd h (by decide)) (fun _ => ?_)
  refine And.intro (fun h => absurd h (by decide)) (fun _ => ?_)
  refine And.intro (fun h => absurd h (by decide)) (fun _ => ?_)
  refine And.intro (fun h => absurd h (by decide)) (fun _ => ?_)
  refine And.intro (fun _ => ?_) (fun h => absurd (by decide) h)
  refine zv_c1 ht rfl rfl ?_
  refine zv_br ht rfl rfl rfl (fun b1 => ?_) (fun b1 => ?_)
  · exact zv_rt ht rfl rfl rfl rfl (h1 b1)
  · replace b1 : p = 0 := Classical.not_not.mp b1
    refine zv_c1 ht rfl rfl (zv_c1 ht rfl rfl (zv_c1 ht rfl rfl (zv_c1 ht rfl rfl (zv_c1 ht rfl rfl ?_))))
    refine zv_c1 (st' := [.int (a &&& (7 : Int32)), .int 1, .int (Int32.ofNat n), .ref 1592]) (S' := S) ht rfl rfl ?_
    refine zv_c1 ht rfl rfl ?_
    refine zv_c1 (st' := [.int ((a &&& (7 : Int32)) ||| (a &&& (288 : Int32))), .int 1, .int (Int32.ofNat n), .ref 1592]) (S' := S) ht rfl rfl ?_
    refine zv_c1 ht rfl rfl ?_
    refine zv_c1 (st' := [.int (((a &&& (7 : Int32)) ||| (a &&& (288 : Int32))) ||| (64 : Int32)), .int 1, .int (Int32.ofNat n), .ref 1592]) (S' := S) ht rfl rfl ?_
    have C3 : ∀ (pst2 : Outcome × zS → Prop), (pst2 (.returned none, sA (sA S 1616 n 1) 1617 n (((a &&& (7 : Int32)) ||| (a &&& (288 : Int32))) ||| (64 : Int32)))) → zCall (d - 1) 137 [.ref 1592, .int (Int32.ofNat n), .int 1, .int (((a &&& (7 : Int32)) ||| (a &&& (288 : Int32))) ||| (64 : Int32))] S pst2 := by
      intro pst2 k5
      have ht4 : ztab 137 = ztb137 := rfl
      show zEv (d - 1) 137 0 [.ref 1592, .int (Int32.ofNat n), .int 1, .int (((a &&& (7 : Int32)) ||| (a &&& (288 : Int32))) ||| (64 : Int32))] [] S pst2
      refine zv_c1 ht4 rfl rfl ?_
      refine zv_gl (st' := [.ref 1616]) ht4 rfl hF rfl rfl rfl ?_
      refine zv_c1 ht4 rfl rfl (zv_c1 ht4 rfl rfl ?_)
      refine zv_is (j := n) (x := 1) ht4 rfl rfl rfl rfl (zi_natE (a := n) rfl (by omega)) ⟨rfl, zi_inE (a := n) (n := 3000) rfl (by omega) (by omega)⟩ ?_
      refine zv_c1 ht4 rfl rfl ?_
      refine zv_gl (st' := [.ref 1617]) ht4 rfl hF rfl rfl rfl ?_
      refine zv_c1 ht4 rfl rfl (zv_c1 ht4 rfl rfl ?_)
      refine zv_is (j := n) (x := ((a &&& (7 : Int32)) ||| (a &&& (288 : Int32))) ||| (64 : Int32)) ht4 rfl rfl rfl rfl (zi_natE (a := n) rfl (by omega)) ⟨rfl, zi_inE (a := n) (n := 3000) rfl (by omega) (by omega)⟩ ?_
      exact zv_rt ht4 rfl rfl rfl rfl k5
    refine zv_cl ht rfl rfl rfl rfl (by omega) (Nat.le_of_ble_eq_true rfl) (C3 _ ?_)
    show zEv d 141 181 [.ref 1592, .int (Int32.ofNat n), .int (Int32.ofNat x), .int p, .int a, .int (a &&& (480 : Int32)), .int (a &&& (288 : Int32))] [] (sA (sA S 1616 n 1) 1617 n (((a &&& (7 : Int32)) ||| (a &&& (288 : Int32))) ||| (64 : Int32))) post
    exact zv_rt ht rfl rfl rfl rfl (h2 b1)
noncomputable def tyW23 (p a : Int32) : Option (Int32 × Int32) := zop ((p = 0)) (1, ((a &&& (7 : Int32)) ||| (a &&& (288 : Int32))) ||| (64 : Int32))
theorem wt24 {d : Nat} {S : zS} (hF : zFin true S) (hd : 1 ≤ d) (n x : Nat) (p a : Int32)  (hn : n < 3000) (hk : gA S 1610 n = Int32.ofNat 24) {post : Outcome × zS → Prop} (h1 : ((¬ (p = 0)) ∨ (¬ ((a &&& (4 : Int32)) = 4))) → post (.returned none, S)) (h2 : (p = 0) → ((a &&& (4 : Int32)) = 4) → post (.returned none, sA (sA S 1616 n 0) 1617 n (((((a &&& (18 : Int32)) ||| (4 : Int32)) ||| (8 : Int32)) ||| (a &&& (288 : Int32))) ||| (Int32.ofNat (znt ((a &&& (64 : Int32)) = 64) 128 0))))) : zCall d 141 [.ref 1592, .int (Int32.ofNat n), .int (Int32.ofNat x), .int p, .int a] S post := by
  have ht : ztab 141 = ztb141 := rfl
  show zEv d 141 0 [.ref 1592, .int (Int32.ofNat n), .int (Int32.ofNat x), .int p, .int a, .retAddr 0, .retAddr 0] [] S post
  refine zv_c1 ht rfl rfl (zv_c1 ht rfl rfl ?_)
  refine zv_c1 (st' := [.int (a &&& (480 : Int32))]) (S' := S) ht rfl rfl ?_
  refine zv_c2 (L' := [.ref 1592, .int (Int32.ofNat n), .int (Int32.ofNat x), .int p, .int a, .int (a &&& (480 : Int32)), .retAddr 0]) ht rfl rfl ?_
  refine zv_c1 ht rfl rfl (zv_c1 ht rfl rfl ?_)
  refine zv_c1 (st' := [.int (a &&& (288 : Int32))]) (S' := S) ht rfl rfl ?_
  refine zv_c2 (L' := [.ref 1592, .int (Int32.ofNat n), .int (Int32.ofNat x), .int p, .int a, .int (a &&& (480 : Int32)), .int (a &&& (288 : Int32))]) ht rfl rfl ?_
  refine zv_c1 ht rfl rfl ?_
  refine zv_gl (st' := [.ref 1610]) ht rfl hF rfl rfl rfl ?_
  refine zv_c1 ht rfl rfl ?_
  refine zv_iaE (j := n) (x := 24) ht rfl rfl rfl rfl (zi_natE (a := n) rfl (by omega)) ⟨(Or.inl rfl), zi_inE (a := n) (n := 3000) rfl (by omega) (by omega)⟩ hk ?_
  refine zv_sw ht rfl rfl rfl rfl rfl ?_
  refine And.intro (fun h => absurd h (by decide)) (fun _ => ?_)
  refine And.intro (fun h => absurd h (by decide)) (fun _ => ?_)
  refine And.intro (fun h => absurd h (by decide)) (fun _ => ?_)
  refine And.intro (fun h => absurd h (by decide)) (fun _ => ?_)
  refine And.intro (fun h => absurd h (by decide)) (fun _ => ?_)
  refine And.intro (fun _ => ?_) (fun h => absurd (by decide) h)
  refine zv_c1 ht rfl rfl ?_
  have J28 : ((¬ (p = 0)) ∨ (¬ ((a &&& (4 : Int32)) = 4))) → zEv d 141 228 [.retAddr 0, .retAddr 0, .retAddr 0, .retAddr 0, .retAddr 0, .retAddr 0, .retAddr 0] [] S post := by
    intro b29
    exact zv_rt ht rfl rfl rfl rfl (h1 b29)
  refine zv_br ht rfl rfl rfl (fun b1 => ?_) (fun b1 => ?_)
  · exact zEv.wk (L := [.retAddr 0, .retAddr 0, .retAddr 0, .retAddr 0, .retAddr 0, .retAddr 0, .retAddr 0]) (L' := [.ref 1592, .int (Int32.ofNat n), .int (Int32.ofNat x), .int p, .int a, .int (a &&& (480 : Int32)), .int (a &&& (288 : Int32))]) (And.intro (Or.inr rfl) (And.intro (Or.inr rfl) (And.intro (Or.inr rfl) (And.intro (Or.inr rfl) (And.intro (Or.inr rfl) (And.intro (Or.inr rfl) (And.intro (Or.inr rfl) trivial))))))) (J28 (Or.inl b1))
  · replace b1 : p = 0 := Classical.not_not.mp b1
    refine zv_c1 ht rfl rfl (zv_c1 ht rfl rfl ?_)
    have C3 : ∀ (pst2 : Outcome × zS → Prop), (pst2 (.returned (some (.int (zbo ((a &&& (4 : Int32)) = 4)))), S)) → zCall (d - 1) 139 [.int a, .int 4] S pst2 := by
      intro pst2 k8
      have ht4 : ztab 139 = ztb139 := rfl
      show zEv (d - 1) 139 0 [.int a, .int 4] [] S pst2
      refine zv_c1 ht4 rfl rfl (zv_c1 ht4 rfl rfl ?_)
      refine zv_c1 (st' := [.int (a &&& (4 : Int32))]) (S' := S) ht4 rfl rfl ?_
      refine zv_c1 ht4 rfl rfl ?_
      have J6 : zEv (d - 1) 139 12 [.retAddr 0, .retAddr 0] [.int (zbo ((a &&& (4 : Int32)) = 4))] S pst2 := by
        exact zv_rc ht4 rfl rfl rfl rfl zbo_rng k8
      refine zv_br ht4 rfl rfl rfl (fun b5 => ?_) (fun b5 => ?_)
      · refine zv_c1 ht4 rfl rfl ?_
        exact zEv.wk (L := [.retAddr 0, .retAddr 0]) (L' := [.int a, .int 4]) (And.intro (Or.inr rfl) (And.intro (Or.inr rfl) trivial)) (zv_sub (zz := zbo ((a &&& (4 : Int32)) = 4)) (zy := 0) (p := fun zz => zEv (d - 1) 139 12 [.retAddr 0, .retAddr 0] [.int zz] S pst2) (zbo_neg b5) J6)
      · replace b5 : (a &&& (4 : Int32)) = 4 := Classical.not_not.mp b5
        refine zv_c1 ht4 rfl rfl (zv_c1 ht4 rfl rfl ?_)
        exact zEv.wk (L := [.retAddr 0, .retAddr 0]) (L' := [.int a, .int 4]) (And.intro (Or.inr rfl) (And.intro (Or.inr rfl) trivial)) (zv_sub (zz := zbo ((a &&& (4 : Int32)) = 4)) (zy := 1) (p := fun zz => zEv (d - 1) 139 12 [.retAddr 0, .retAddr 0] [.int zz] S pst2) (zbo_pos b5) J6)
    refine zv_cl ht rfl rfl rfl rfl (by omega) (Nat.le_of_ble_eq_true rfl) (C3 _ ?_)
    show zEv d 141 192 [.ref 1592, .int (Int32.ofNat n), .int (Int32.ofNat x), .int p, .int a, .int (a &&& (480 : Int32)), .int (a &&& (288 : Int32))] [.int (zbo ((a &&& (4 : Int32)) = 4))] S post
    refine zv_br ht rfl rfl rfl (fun b9 => ?_) (fun b9 => ?_)
    · replace b9 : ¬ ((a &&& (4 : Int32)) = 4) := (zbo_eq0 : (zbo ((a &&& (4 : Int32)) = 4)) = 0 ↔ ¬ ((a &&& (4 : Int32)) = 4)).mp b9
      exact zEv.wk (L := [.retAddr 0, .retAddr 0, .retAddr 0, .retAddr 0, .retAddr 0, .retAddr 0, .retAddr 0]) (L' := [.ref 1592, .int (Int32.ofNat n), .int (Int32.ofNat x), .int p, .int a, .int (a &&& (480 : Int32)), .int (a &&& (288 : Int32))]) (And.intro (Or.inr rfl) (And.intro (Or.inr rfl) (And.intro (Or.inr rfl) (And.intro (Or.inr rfl) (And.intro (Or.inr rfl) (And.intro (Or.inr rfl) (And.intro (Or.inr rfl) trivial))))))) (J28 (Or.inr b9))
    · replace b9 : (a &&& (4 : Int32)) = 4 := Classical.byContradiction (fun h => b9 ((zbo_eq0 : (zbo ((a &&& (4 : Int32)) = 4)) = 0 ↔ ¬ ((a &&& (4 : Int32)) = 4)).mpr h))
      refine zv_c1 ht rfl rfl (zv_c1 ht rfl rfl (zv_c1 ht rfl rfl (zv_c1 ht rfl rfl (zv_c1 ht rfl rfl ?_))))
      refine zv_c1 (st' := [.int (a &&& (18 : Int32)), .int 0, .int (Int32.ofNat n), .ref 1592]) (S' := S) ht rfl rfl ?_
      refine zv_c1 ht rfl rfl ?_
      refine zv_c1 (st' := [.int ((a &&& (18 : Int32)) ||| (4 : Int32)), .int 0, .int (Int32.ofNat n), .ref 1592]) (S' := S) ht rfl rfl ?_
      refine zv_c1 ht rfl rfl ?_
      refine zv_c1 (st' := [.int (((a &&& (18 : Int32)) ||| (4 : Int32)) ||| (8 : Int32)), .int 0, .int (Int32.ofNat n), .ref 1592]) (S' := S) ht rfl rfl ?_
      refine zv_c1 ht rfl rfl ?_
      refine zv_c1 (st' := [.int ((((a &&& (18 : Int32)) ||| (4 : Int32)) ||| (8 : Int32)) ||| (a &&& (288 : Int32))), .int 0, .int (Int32.ofNat n), .ref 1592]) (S' := S) ht rfl rfl ?_
      refine zv_c1 ht rfl rfl (zv_c1 ht rfl rfl ?_)
      have C11 : ∀ (pst10 : Outcome × zS → Prop), (pst10 (.returned (some (.int (zbo ((a &&& (64 : Int32)) = 64)))), S)) → zCall (d - 1) 139 [.int a, .int 64] S pst10 := by
        intro pst10 k16
        have ht12 : ztab 139 = ztb139 := rfl
        show zEv (d - 1) 139 0 [.int a, .int 64] [] S pst10
        refine zv_c1 ht12 rfl rfl (zv_c1 ht12 rfl rfl ?_)
        refine zv_c1 (st' := [.int (a &&& (64 : Int32))]) (S' := S) ht12 rfl rfl ?_
        refine zv_c1 ht12 rfl rfl ?_
        have J14 : zEv (d - 1) 139 12 [.retAddr 0, .retAddr 0] [.int (zbo ((a &&& (64 : Int32)) = 64))] S pst10 := by
          exact zv_rc ht12 rfl rfl rfl rfl zbo_rng k16
        refine zv_br ht12 rfl rfl rfl (fun b13 => ?_) (fun b13 => ?_)
        · refine zv_c1 ht12 rfl rfl ?_
          exact zEv.wk (L := [.retAddr 0, .retAddr 0]) (L' := [.int a, .int 64]) (And.intro (Or.inr rfl) (And.intro (Or.inr rfl) trivial)) (zv_sub (zz := zbo ((a &&& (64 : Int32)) = 64)) (zy := 0) (p := fun zz => zEv (d - 1) 139 12 [.retAddr 0, .retAddr 0] [.int zz] S pst10) (zbo_neg b13) J14)
        · replace b13 : (a &&& (64 : Int32)) = 64 := Classical.not_not.mp b13
          refine zv_c1 ht12 rfl rfl (zv_c1 ht12 rfl rfl ?_)
          exact zEv.wk (L := [.retAddr 0, .retAddr 0]) (L' := [.int a, .int 64]) (And.intro (Or.inr rfl) (And.intro (Or.inr rfl) trivial)) (zv_sub (zz := zbo ((a &&& (64 : Int32)) = 64)) (zy := 1) (p := fun zz => zEv (d - 1) 139 12 [.retAddr 0, .retAddr 0] [.int zz] S pst10) (zbo_pos b13) J14)
      refine zv_cl ht rfl rfl rfl rfl (by omega) (Nat.le_of_ble_eq_true rfl) (C11 _ ?_)
      show zEv d 141 218 [.ref 1592, .int (Int32.ofNat n), .int (Int32.ofNat x), .int p, .int a, .int (a &&& (480 : Int32)), .int (a &&& (288 : Int32))] [.int (zbo ((a &&& (64 : Int32)) = 64)), .int ((((a &&& (18 : Int32)) ||| (4 : Int32)) ||| (8 : Int32)) ||| (a &&& (288 : Int32))), .int 0, .int (Int32.ofNat n), .ref 1592] S post
      refine zv_c1 ht rfl rfl ?_
      have C18 : ∀ (pst17 : Outcome × zS → Prop), (pst17 (.returned (some (.int (Int32.ofNat (znt ((a &&& (64 : Int32)) = 64) 128 0)))), S)) → zCall (d - 1) 140 [.int (zbo ((a &&& (64 : Int32)) = 64)), .int 128] S pst17 := by
        intro pst17 k23
        have ht19 : ztab 140 = ztb140 := rfl
        show zEv (d - 1) 140 0 [.int (zbo ((a &&& (64 : Int32)) = 64)), .int 128] [] S pst17
        refine zv_c1 ht19 rfl rfl ?_
        have J21 : zEv (d - 1) 140 9 [.retAddr 0, .retAddr 0] [.int (Int32.ofNat (znt ((a &&& (64 : Int32)) = 64) 128 0))] S pst17 := by
          exact zv_rt ht19 rfl rfl rfl rfl k23
        refine zv_br ht19 rfl rfl rfl (fun b20 => ?_) (fun b20 => ?_)
        · replace b20 : ¬ ((a &&& (64 : Int32)) = 64) := (zbo_eq0 : (zbo ((a &&& (64 : Int32)) = 64)) = 0 ↔ ¬ ((a &&& (64 : Int32)) = 64)).mp b20
          refine zv_c1 ht19 rfl rfl ?_
          exact zEv.wk (L := [.retAddr 0, .retAddr 0]) (L' := [.int (zbo ((a &&& (64 : Int32)) = 64)), .int 128]) (And.intro (Or.inr rfl) (And.intro (Or.inr rfl) trivial)) (zv_sub (zz := Int32.ofNat (znt ((a &&& (64 : Int32)) = 64) 128 0)) (zy := 0) (p := fun zz => zEv (d - 1) 140 9 [.retAddr 0, .retAddr 0] [.int zz] S pst17) (congrArg Int32.ofNat (znt_neg b20)) J21)
        · replace b20 : (a &&& (64 : Int32)) = 64 := Classical.byContradiction (fun h => b20 ((zbo_eq0 : (zbo ((a &&& (64 : Int32)) = 64)) = 0 ↔ ¬ ((a &&& (64 : Int32)) = 64)).mpr h))
          refine zv_c1 ht19 rfl rfl (zv_c1 ht19 rfl rfl ?_)
          exact zEv.wk (L := [.retAddr 0, .retAddr 0]) (L' := [.int (zbo ((a &&& (64 : Int32)) = 64)), .int 128]) (And.intro (Or.inr rfl) (And.intro (Or.inr rfl) trivial)) (zv_sub (zz := Int32.ofNat (znt ((a &&& (64 : Int32)) = 64) 128 0)) (zy := 128) (p := fun zz => zEv (d - 1) 140 9 [.retAddr 0, .retAddr 0] [.int zz] S pst17) (congrArg Int32.ofNat (znt_pos b20)) J21)
      refine zv_cl ht rfl rfl rfl rfl (by omega) (Nat.le_of_ble_eq_true rfl) (C18 _ ?_)
      show zEv d 141 224 [.ref 1592, .int (Int32.ofNat n), .int (Int32.ofNat x), .int p, .int a, .int (a &&& (480 : Int32)), .int (a &&& (288 : Int32))] [.int (Int32.ofNat (znt ((a &&& (64 : Int32)) = 64) 128 0)), .int ((((a &&& (18 : Int32)) ||| (4 : Int32)) ||| (8 : Int32)) ||| (a &&& (288 : Int32))), .int 0, .int (Int32.ofNat n), .ref 1592] S post
      refine zv_c1 (st' := [.int (((((a &&& (18 : Int32)) ||| (4 : Int32)) ||| (8 : Int32)) ||| (a &&& (288 : Int32))) ||| (Int32.ofNat (znt ((a &&& (64 : Int32)) = 64) 128 0))), .int 0, .int (Int32.ofNat n), .ref 1592]) (S' := S) ht rfl rfl ?_
      have C25 : ∀ (pst24 : Outcome × zS → Prop), (pst24 (.returned none, sA (sA S 1616 n 0) 1617 n (((((a &&& (18 : Int32)) ||| (4 : Int32)) ||| (8 : Int32)) ||| (a &&& (288 : Int32))) ||| (Int32.ofNat (znt ((a &&& (64 : Int32)) = 64) 128 0))))) → zCall (d - 1) 137 [.ref 1592, .int (Int32.ofNat n), .int 0, .int (((((a &&& (18 : Int32)) ||| (4 : Int32)) ||| (8 : Int32)) ||| (a &&& (288 : Int32))) ||| (Int32.ofNat (znt ((a &&& (64 : Int32)) = 64) 128 0)))] S pst24 := by
        intro pst24 k27
        have ht26 : ztab 137 = ztb137 := rfl
        show zEv (d - 1) 137 0 [.ref 1592, .int (Int32.ofNat n), .int 0, .int (((((a &&& (18 : Int32)) ||| (4 : Int32)) ||| (8 : Int32)) ||| (a &&& (288 : Int32))) ||| (Int32.ofNat (znt ((a &&& (64 : Int32)) = 64) 128 0)))] [] S pst24
        refine zv_c1 ht26 rfl rfl ?_
        refine zv_gl (st' := [.ref 1616]) ht26 rfl hF rfl rfl rfl ?_
        refine zv_c1 ht26 rfl rfl (zv_c1 ht26 rfl rfl ?_)
        refine zv_is (j := n) (x := 0) ht26 rfl rfl rfl rfl (zi_natE (a := n) rfl (by omega)) ⟨rfl, zi_inE (a := n) (n := 3000) rfl (by omega) (by omega)⟩ ?_
        refine zv_c1 ht26 rfl rfl ?_
        refine zv_gl (st' := [.ref 1617]) ht26 rfl hF rfl rfl rfl ?_
        refine zv_c1 ht26 rfl rfl (zv_c1 ht26 rfl rfl ?_)
        refine zv_is (j := n) (x := ((((a &&& (18 : Int32)) ||| (4 : Int32)) ||| (8 : Int32)) ||| (a &&& (288 : Int32))) ||| (Int32.ofNat (znt ((a &&& (64 : Int32)) = 64) 128 0))) ht26 rfl rfl rfl rfl (zi_natE (a := n) rfl (by omega)) ⟨rfl, zi_inE (a := n) (n := 3000) rfl (by omega) (by omega)⟩ ?_
        exact zv_rt ht26 rfl rfl rfl rfl k27
      refine zv_cl ht rfl rfl rfl rfl (by omega) (Nat.le_of_ble_eq_true rfl) (C25 _ ?_)
      show zEv d 141 228 [.ref 1592, .int (Int32.ofNat n), .int (Int32.ofNat x), .int p, .int a, .int (a &&& (480 : Int32)), .int (a &&& (288 : Int32))] [] (sA (sA S 1616 n 0) 1617 n (((((a &&& (18 : Int32)) ||| (4 : Int32)) ||| (8 : Int32)) ||| (a &&& (288 : Int32))) ||| (Int32.ofNat (znt ((a &&& (64 : Int32)) = 64) 128 0)))) post
      exact zv_rt ht rfl rfl rfl rfl (h2 b1 b9)
noncomputable def tyW24 (p a : Int32) : Option (Int32 × Int32) := zop ((p = 0) ∧ ((a &&& (4 : Int32)) = 4)) (0, ((((a &&& (18 : Int32)) ||| (4 : Int32)) ||| (8 : Int32)) ||| (a &&& (288 : Int32))) ||| (Int32.ofNat (znt ((a &&& (64 : Int32)) = 64) 128 0)))
theorem wt25 {d : Nat} {S : zS} (hF : zFin true S) (hd : 1 ≤ d) (n x : Nat) (p a : Int32)  (hn : n < 3000) (hk : gA S 1610 n = Int32.ofNat 25) {post : Outcome × zS → Prop} (h1 : (¬ (p = 0)) → post (.returned none, S)) (h2 : (p = 0) → post (.returned none, sA (sA S 1616 n 0) 1617 n (((a &&& (15 : Int32)) ||| (16 : Int32)) ||| (a &&& (480 : Int32))))) : zCall d 141 [.ref 1592, .int (Int32.ofNat n), .int (Int32.ofNat x), .int p, .int a] S post := by
  have ht : ztab 141 = ztb141 := rfl
  show zEv d 141 0 [.ref 1592, .int (Int32.ofNat n), .int (Int32.ofNat x), .int p, .int a, .retAddr 0, .retAddr 0] [] S post
  refine zv_c1 ht rfl rfl (zv_c1 ht rfl rfl ?_)
  refine zv_c1 (st' := [.int (a &&& (480 : Int32))]) (S' := S) ht rfl rfl ?_
  refine zv_c2 (L' := [.ref 1592, .int (Int32.ofNat n), .int (Int32.ofNat x), .int p, .int a, .int (a &&& (480 : Int32)), .retAddr 0]) ht rfl rfl ?_
  refine zv_c1 ht rfl rfl (zv_c1 ht rfl rfl ?_)
  refine zv_c1 (st' := [.int (a &&& (288 : Int32))]) (S' := S) ht rfl rfl ?_
  refine zv_c2 (L' := [.ref 1592, .int (Int32.ofNat n), .int (Int32.ofNat x), .int p, .int a, .int (a &&& (480 : Int32)), .int (a &&& (288 : Int32))]) ht rfl rfl ?_
  refine zv_c1 ht rfl rfl ?_
  refine zv_gl (st' := [.ref 1610]) ht rfl hF rfl rfl rfl ?_
  refine zv_c1 ht rfl rfl ?_
  refine zv_iaE (j := n) (x := 25) ht rfl rfl rfl rfl (zi_natE (a := n) rfl (by omega)) ⟨(Or.inl rfl), zi_inE (a := n) (n := 3000) rfl (by omega) (by omega)⟩ hk ?_
  refine zv_sw ht rfl rfl rfl rfl rfl ?_
  refine And.intro (fun h => absurd h (by decide)) (fun _ => ?_)
  refine And.intro (fun h => absurd h (by decide)) (fun _ => ?_)
  refine And.intro (fun h => absurd h (by decide)) (fun _ => ?_)
  refine And.intro (fun h => absurd h (by decide)) (fun _ => ?_)
  refine And.intro (fun h => absurd h (by decide)) (fun _ => ?_)
  refine And.intro (fun h => absurd h (by decide)) (fun _ => ?_)
  refine zv_c1 ht rfl rfl ?_
  refine zv_br ht rfl rfl rfl (fun b1 => ?_) (fun b1 => ?_)
  · exact zv_rt ht rfl rfl rfl rfl (h1 b1)
  · replace b1 : p = 0 := Classical.not_not.mp b1
    refine zv_c1 ht rfl rfl (zv_c1 ht rfl rfl (zv_c1 ht rfl rfl (zv_c1 ht rfl rfl (zv_c1 ht rfl rfl ?_))))
    refine zv_c1 (st' := [.int (a &&& (15 : Int32)), .int 0, .int (Int32.ofNat n), .ref 1592]) (S' := S) ht rfl rfl ?_
    refine zv_c1 ht rfl rfl ?_
    refine zv_c1 (st' := [.int ((a &&& (15 : Int32)) ||| (16 : Int32)), .int 0, .int (Int32.ofNat n), .ref 1592]) (S' := S) ht rfl rfl ?_
    refine zv_c1 ht rfl rfl ?_
    refine zv_c1 (st' := [.int (((a &&& (15 : Int32)) ||| (16 : Int32)) ||| (a &&& (480 : Int32))), .int 0, .int (Int32.ofNat n), .ref 1592]) (S' := S) ht rfl rfl ?_
    have C3 : ∀ (pst2 : Outcome × zS → Prop), (pst2 (.returned none, sA (sA S 1616 n 0) 1617 n (((a &&& (15 : Int32)) ||| (16 : Int32)) ||| (a &&& (480 : Int32))))) → zCall (d - 1) 137 [.ref 1592, .int (Int32.ofNat n), .int 0, .int (((a &&& (15 : Int32)) ||| (16 : Int32)) ||| (a &&& (480 : Int32)))] S pst2 := by
      intro pst2 k5
      have ht4 : ztab 137 = ztb137 := rfl
      show zEv (d - 1) 137 0 [.ref 1592, .int (Int32.ofNat n), .int 0, .int (((a &&& (15 : Int32)) ||| (16 : Int32)) ||| (a &&& (480 : Int32)))] [] S pst2
      refine zv_c1 ht4 rfl rfl ?_
      refine zv_gl (st' := [.ref 1616]) ht4 rfl hF rfl rfl rfl ?_
      refine zv_c1 ht4 rfl rfl (zv_c1 ht4 rfl rfl ?_)
      refine zv_is (j := n) (x := 0) ht4 rfl rfl rfl rfl (zi_natE (a := n) rfl (by omega)) ⟨rfl, zi_inE (a := n) (n := 3000) rfl (by omega) (by omega)⟩ ?_
      refine zv_c1 ht4 rfl rfl ?_
      refine zv_gl (st' := [.ref 1617]) ht4 rfl hF rfl rfl rfl ?_
      refine zv_c1 ht4 rfl rfl (zv_c1 ht4 rfl rfl ?_)
      refine zv_is (j := n) (x := ((a &&& (15 : Int32)) ||| (16 : Int32)) ||| (a &&& (480 : Int32))) ht4 rfl rfl rfl rfl (zi_natE (a := n) rfl (by omega)) ⟨rfl, zi_inE (a := n) (n := 3000) rfl (by omega) (by omega)⟩ ?_
      exact zv_rt ht4 rfl rfl rfl rfl k5
    refine zv_cl ht rfl rfl rfl rfl (by omega) (Nat.le_of_ble_eq_true rfl) (C3 _ ?_)
    show zEv d 141 250 [.ref 1592, .int (Int32.ofNat n), .int (Int32.ofNat x), .int p, .int a, .int (a &&& (480 : Int32)), .int (a &&& (288 : Int32))] [] (sA (sA S 1616 n 0) 1617 n (((a &&& (15 : Int32)) ||| (16 : Int32)) ||| (a &&& (480 : Int32)))) post
    exact zv_rt ht rfl rfl rfl rfl (h2 b1)
noncomputable def tyW25 (p a : Int32) : Option (Int32 × Int32) := zop ((p = 0)) (0, ((a &&& (15 : Int32)) ||| (16 : Int32)) ||| (a &&& (480 : Int32)))
noncomputable def ao10_e1 (a : Int32) (b : Int32) (c : Int32) : Int32 := ((((((a &&& b) &&& c) &&& (1 : Int32)) ||| ((b &&& c) &&& (16 : Int32))) ||| (c &&& (8 : Int32))) ||| (Int32.ofNat (znt (((((a &&& (1 : Int32)) &&& (1 : Int32)) = 1) ∧ (((b &&& c) &&& (2 : Int32)) = 2)) ∨ (((a &&& (2 : Int32)) = 2) ∧ (((b &&& c) &&& (1 : Int32)) = 1))) 2 0))) ||| (((Int32.ofNat (znt (((c &&& (32 : Int32)) = 32) ∧ (((a ||| b) &&& (32 : Int32)) = 32)) 32 0)) ||| (Int32.ofNat (znt (((c &&& (64 : Int32)) = 64) ∧ (((a &&& (32 : Int32)) = 32) ∨ ((b &&& (64 : Int32)) = 64))) 64 0))) ||| (Int32.ofNat (znt (((c &&& (128 : Int32)) = 128) ∧ (((a &&& (32 : Int32)) = 32) ∨ ((b &&& (64 : Int32)) = 64))) 128 0)))
theorem ao10 {d : Nat} {S : zS} (hF : zFin true S) (hd : 1 ≤ d) (n x y z : Nat) (p q t a b c : Int32)  (hn : n < 3000) (hx : x < 3000) (hy : y < 3000) (hz : z < 3000) (hp : gA S 1616 x = p) (hq : gA S 1616 y = q) (ht9 : gA S 1616 z = t) (ha : gA S 1617 x = a) (hb : gA S 1617 y = b) (hc : gA S 1617 z = c) {post : Outcome × zS → Prop} (h1 : (p = 0) → ((a &&& (24 : Int32)) = 24) → ((q = 0) ∨ (q = 2) ∨ (q = 1)) → (q = t) → post (.returned none, sA (sA S 1616 n q) 1617 n ((ao10_e1 a b c) ||| (Int32.ofNat (znt (((((a &&& b) &&& c) &&& (256 : Int32)) = 256) ∧ ((a &&& (128 : Int32)) = 128) ∧ ((((a ||| b) ||| c) &&& (32 : Int32)) = 32)) 256 0))))) (h2 : ((¬ (p = 0)) ∨ (¬ ((a &&& (24 : Int32)) = 24)) ∨ (¬ ((q = 0) ∨ (q = 2) ∨ (q = 1))) ∨ (¬ (q = t))) → post (.returned none, S)) : zCall d 142 [.ref 1592, .int (Int32.ofNat n), .int (Int32.ofNat x), .int (Int32.ofNat y), .int (Int32.ofNat z)] S post := by
  have ht : ztab 142 = ztb142 := rfl
  show zEv d 142 0 [.ref 1592, .int (Int32.ofNat n), .int (Int32.ofNat x), .int (Int32.ofNat y), .int (Int32.ofNat z), .retAddr 0, .retAddr 0, .retAddr 0, .retAddr 0] [] S post
  refine zv_c1 ht rfl rfl ?_
  refine zv_gl (st' := [.ref 1617]) ht rfl hF rfl rfl rfl ?_
  refine zv_c1 ht rfl rfl ?_
  refine zv_iaE (j := x) (x := a) ht rfl rfl rfl rfl (zi_natE (a := x) rfl (by omega)) ⟨(Or.inl rfl), zi_inE (a := x) (n := 3000) rfl (by omega) (by omega)⟩ ha ?_
  refine zv_c2 (L' := [.ref 1592, .int (Int32.ofNat n), .int (Int32.ofNat x), .int (Int32.ofNat y), .int (Int32.ofNat z), .int a, .retAddr 0, .retAddr 0, .retAddr 0]) ht rfl rfl ?_
  refine zv_c1 ht rfl rfl ?_
  refine zv_gl (st' := [.ref 1617]) ht rfl hF rfl rfl rfl ?_
  refine zv_c1 ht rfl rfl ?_
  refine zv_iaE (j := y) (x := b) ht rfl rfl rfl rfl (zi_natE (a := y) rfl (by omega)) ⟨(Or.inl rfl), zi_inE (a := y) (n := 3000) rfl (by omega) (by omega)⟩ hb ?_
  refine zv_c2 (L' := [.ref 1592, .int (Int32.ofNat n), .int (Int32.ofNat x), .int (Int32.ofNat y), .int (Int32.ofNat z), .int a, .int b, .retAddr 0, .retAddr 0]) ht rfl rfl ?_
  refine zv_c1 ht rfl rfl ?_
  refine zv_gl (st' := [.ref 1617]) ht rfl hF rfl rfl rfl ?_
  refine zv_c1 ht rfl rfl ?_
  refine zv_iaE (j := z) (x := c) ht rfl rfl rfl rfl (zi_natE (a := z) rfl (by omega)) ⟨(Or.inl rfl), zi_inE (a := z) (n := 3000) rfl (by omega) (by omega)⟩ hc ?_
  refine zv_c2 (L' := [.ref 1592, .int (Int32.ofNat n), .int (Int32.ofNat x), .int (Int32.ofNat y), .int (Int32.ofNat z), .int a, .int b, .int c, .retAddr 0]) ht rfl rfl ?_
  refine zv_c1 ht rfl rfl ?_
  refine zv_gl (st' := [.ref 1616]) ht rfl hF rfl rfl rfl ?_
  refine zv_c1 ht rfl rfl ?_
  refine zv_iaE (j := x) (x := p) ht rfl rfl rfl rfl (zi_natE (a := x) rfl (by omega)) ⟨(Or.inl rfl), zi_inE (a := x) (n := 3000) rfl (by omega) (by omega)⟩ hp ?_
  have J210 : ((¬ (p = 0)) ∨ (¬ ((a &&& (24 : Int32)) = 24)) ∨ (¬ ((q = 0) ∨ (q = 2) ∨ (q = 1))) ∨ (¬ (q = t))) → zEv d 142 72 [.retAddr 0, .retAddr 0, .retAddr 0, .retAddr 0, .retAddr 0, .retAddr 0, .retAddr 0, .retAddr 0, .retAddr 0] [] S post := by
    intro b211
    exact zv_rt ht rfl rfl rfl rfl (h2 b211)
  refine zv_br ht rfl rfl rfl (fun b1 => ?_) (fun b1 => ?_)
  · exact zEv.wk (L := [.retAddr 0, .retAddr 0, .retAddr 0, .retAddr 0, .retAddr 0, .retAddr 0, .retAddr 0, .retAddr 0, .retAddr 0]) (L' := [.ref 1592, .int (Int32.ofNat n), .int (Int32.ofNat x), .int (Int32.ofNat y), .int (Int32.ofNat z), .int a, .int b, .int c, .retAddr 0]) (And.intro (Or.inr rfl) (And.intro (Or.inr rfl) (And.intro (Or.inr rfl) (And.intro (Or.inr rfl) (And.intro (Or.inr rfl) (And.intro (Or.inr rfl) (And.intro (Or.inr rfl) (And.intro (Or.inr rfl) (And.intro (Or.inl rfl) trivial))))))))) (J210 (Or.inl b1))
  · replace b1 : p = 0 := Classical.not_not.mp b1
    refine zv_c1 ht rfl rfl (zv_c1 ht rfl rfl ?_)
    have C3 : ∀ (pst2 : Outcome × zS → Prop), (pst2 (.returned (some (.int (zbo ((a &&& (24 : Int32)) = 24)))), S)) → zCall (d - 1) 139 [.int a, .int 24] S pst2 := by
      intro pst2 k8
      have ht4 : ztab 139 = ztb139 := rfl
      show zEv (d - 1) 139 0 [.int a, .int 24] [] S pst2
      refine zv_c1 ht4 rfl rfl (zv_c1 ht4 rfl rfl ?_)
      refine zv_c1 (st' := [.int (a &&& (24 : Int32))]) (S' := S) ht4 rfl rfl ?_
      refine zv_c1 ht4 rfl rfl ?_
      have J6 : zEv (d - 1) 139 12 [.retAddr 0, .retAddr 0] [.int (zbo ((a &&& (24 : Int32)) = 24))] S pst2 := by
        exact zv_rc ht4 rfl rfl rfl rfl zbo_rng k8
      refine zv_br ht4 rfl rfl rfl (fun b5 => ?_) (fun b5 => ?_)
      · refine zv_c1 ht4 rfl rfl ?_
        exact zEv.wk (L := [.retAddr 0, .retAddr 0]) (L' := [.int a, .int 24]) (And.intro (Or.inr rfl) (And.intro (Or.inr rfl) trivial)) (zv_sub (zz := zbo ((a &&& (24 : Int32)) = 24)) (zy := 0) (p := fun zz => zEv (d - 1) 139 12 [.retAddr 0, .retAddr 0] [.int zz] S pst2) (zbo_neg b5) J6)
      · replace b5 : (a &&& (24 : Int32)) = 24 := Classical.not_not.mp b5
        refine zv_c1 ht4 rfl rfl (zv_c1 ht4 rfl rfl ?_)
        exact zEv.wk (L := [.retAddr 0, .retAddr 0]) (L' := [.int a, .int 24]) (And.intro (Or.inr rfl) (And.intro (Or.inr rfl) trivial)) (zv_sub (zz := zbo ((a &&& (24 : Int32)) = 24)) (zy := 1) (p := fun zz => zEv (d - 1) 139 12 [.retAddr 0, .retAddr 0] [.int zz] S pst2) (zbo_pos b5) J6)
    refine zv_cl ht rfl rfl rfl rfl (by omega) (Nat.le_of_ble_eq_true rfl) (C3 _ ?_)
    show zEv d 142 41 [.ref 1592, .int (Int32.ofNat n), .int (Int32.ofNat x), .int (Int32.ofNat y), .int (Int32.ofNat z), .int a, .int b, .int c, .retAddr 0] [.int (zbo ((a &&& (24 : Int32)) = 24))] S post
    refine zv_br ht rfl rfl rfl (fun b9 => ?_) (fun b9 => ?_)
    · replace b9 : ¬ ((a &&& (24 : Int32)) = 24) := (zbo_eq0 : (zbo ((a &&& (24 : Int32)) = 24)) = 0 ↔ ¬ ((a &&& (24 : Int32)) = 24)).mp b9
      exact zEv.wk (L := [.retAddr 0, .retAddr 0, .retAddr 0, .retAddr 0, .retAddr 0, .retAddr 0, .retAddr 0, .retAddr 0, .retAddr 0]) (L' := [.ref 1592, .int (Int32.ofNat n), .int (Int32.ofNat x), .int (Int32.ofNat y), .int (Int32.ofNat z), .int a, .int b, .int c, .retAddr 0]) (And.intro (Or.inr rfl) (And.intro (Or.inr rfl) (And.intro (Or.inr rfl) (And.intro (Or.inr rfl) (And.intro (Or.inr rfl) (And.intro (Or.inr rfl) (And.intro (Or.inr rfl) (And.intro (Or.inr rfl) (And.intro (Or.inl rfl) trivial))))))))) (J210 (Or.inr (Or.inl b9)))
    · replace b9 : (a &&& (24 : Int32)) = 24 := Classical.byContradiction (fun h => b9 ((zbo_eq0 : (zbo ((a &&& (24 : Int32)) = 24)) = 0 ↔ ¬ ((a &&& (24 : Int32)) = 24)).mpr h))
      refine zv_c1 ht rfl rfl ?_
      refine zv_gl (st' := [.ref 1616]) ht rfl hF rfl rfl rfl ?_
      refine zv_c1 ht rfl rfl ?_
      refine zv_iaE (j := y) (x := q) ht rfl rfl rfl rfl (zi_natE (a := y) rfl (by omega)) ⟨(Or.inl rfl), zi_inE (a := y) (n := 3000) rfl (by omega) (by omega)⟩ hq ?_
      have C11 : ∀ (pst10 : Outcome × zS → Prop), (pst10 (.returned (some (.int (zbo ((q = 0) ∨ (q = 2) ∨ (q = 1))))), S)) → zCall (d - 1) 143 [.int q] S pst10 := by
        intro pst10 k20
        have ht12 : ztab 143 = ztb143 := rfl
        show zEv (d - 1) 143 0 [.int q] [] S pst10
        refine zv_c1 ht12 rfl rfl ?_
        have J18 : zEv (d - 1) 143 19 [.retAddr 0] [.int (zbo ((q = 0) ∨ (q = 2) ∨ (q = 1)))] S pst10 := by
          exact zv_rc ht12 rfl rfl rfl rfl zbo_rng k20
        have J16 : ((q = 0) ∨ (q = 2) ∨ (q = 1)) → zEv (d - 1) 143 14 [.retAddr 0] [] S pst10 := by
          intro b17
          refine zv_c1 ht12 rfl rfl (zv_c1 ht12 rfl rfl ?_)
          exact (zv_sub (zz := zbo ((q = 0) ∨ (q = 2) ∨ (q = 1))) (zy := 1) (p := fun zz => zEv (d - 1) 143 19 [.retAddr 0] [.int zz] S pst10) (zbo_pos b17) J18)
        refine zv_br ht12 rfl rfl rfl (fun b13 => ?_) (fun b13 => ?_)
        · exact zEv.wk (L := [.retAddr 0]) (L' := [.int q]) (And.intro (Or.inr rfl) trivial) (J16 (Or.inl b13))
        · refine zv_c1 ht12 rfl rfl (zv_c1 ht12 rfl rfl ?_)
          refine zv_br ht12 rfl rfl rfl (fun b14 => ?_) (fun b14 => ?_)
          · exact zEv.wk (L := [.retAddr 0]) (L' := [.int q]) (And.intro (Or.inr rfl) trivial) (J16 (Or.inr (Or.inl b14)))
          · refine zv_c1 ht12 rfl rfl (zv_c1 ht12 rfl rfl ?_)
            refine zv_br ht12 rfl rfl rfl (fun b15 => ?_) (fun b15 => ?_)
            · refine zv_c1 ht12 rfl rfl ?_
              exact zEv.wk (L := [.retAddr 0]) (L' := [.int q]) (And.intro (Or.inr rfl) trivial) (zv_sub (zz := zbo ((q = 0) ∨ (q = 2) ∨ (q = 1))) (zy := 0) (p := fun zz => zEv (d - 1) 143 19 [.retAddr 0] [.int zz] S pst10) (zbo_neg (fun h => h.elim b13 (fun h => h.elim b14 b15))) J18)
            · replace b15 : q = 1 := Classical.not_not.mp b15
              exact zEv.wk (L := [.retAddr 0]) (L' := [.int q]) (And.intro (Or.inr rfl) trivial) (J16 (Or.inr (Or.inr b15)))
      refine zv_cl ht rfl rfl rfl rfl (by omega) (Nat.le_of_ble_eq_true rfl) (C11 _ ?_)
      show zEv d 142 53 [.ref 1592, .int (Int32.ofNat n), .int (Int32.ofNat x), .int (Int32.ofNat y), .int (Int32.ofNat z), .int a, .int b, .int c, .retAddr 0] [.int (zbo ((q = 0) ∨ (q = 2) ∨ (q = 1)))] S post
      refine zv_br ht rfl rfl rfl (fun b21 => ?_) (fun b21 => ?_)
      · replace b21 : ¬ ((q = 0) ∨ (q = 2) ∨ (q = 1)) := (zbo_eq0 : (zbo ((q = 0) ∨ (q = 2) ∨ (q = 1))) = 0 ↔ ¬ ((q = 0) ∨ (q = 2) ∨ (q = 1))).mp b21
        exact zEv.wk (L := [.retAddr 0, .retAddr 0, .retAddr 0, .retAddr 0, .retAddr 0, .retAddr 0, .retAddr 0, .retAddr 0, .retAddr 0]) (L' := [.ref 1592, .int (Int32.ofNat n), .int (Int32.ofNat x), .int (Int32.ofNat y), .int (Int32.ofNat z), .int a, .int b, .int c, .retAddr 0]) (And.intro (Or.inr rfl) (And.intro (Or.inr rfl) (And.intro (Or.inr rfl) (And.intro (Or.inr rfl) (And.intro (Or.inr rfl) (And.intro (Or.inr rfl) (And.intro (Or.inr rfl) (And.intro (Or.inr rfl) (And.intro (Or.inl rfl) trivial))))))))) (J210 (Or.inr (Or.inr (Or.inl b21))))
      · replace b21 : (q = 0) ∨ (q = 2) ∨ (q = 1) := Classical.byContradiction (fun h => b21 ((zbo_eq0 : (zbo ((q = 0) ∨ (q = 2) ∨ (q = 1))) = 0 ↔ ¬ ((q = 0) ∨ (q = 2) ∨ (q = 1))).mpr h))
        refine zv_c1 ht rfl rfl ?_
        refine zv_gl (st' := [.ref 1616]) ht rfl hF rfl rfl rfl ?_
        refine zv_c1 ht rfl rfl ?_
        refine zv_iaE (j := y) (x := q) ht rfl rfl rfl rfl (zi_natE (a := y) rfl (by omega)) ⟨(Or.inl rfl), zi_inE (a := y) (n := 3000) rfl (by omega) (by omega)⟩ hq ?_
        refine zv_c1 ht rfl rfl ?_
        refine zv_gl (st' := [.ref 1616, .int q]) ht rfl hF rfl rfl rfl ?_
        refine zv_c1 ht rfl rfl ?_
        refine zv_iaE (j := z) (x := t) ht rfl rfl rfl rfl (zi_natE (a := z) rfl (by omega)) ⟨(Or.inl rfl), zi_inE (a := z) (n := 3000) rfl (by omega) (by omega)⟩ ht9 ?_
        refine zv_br ht rfl rfl rfl (fun b22 => ?_) (fun b22 => ?_)
        · refine zv_c1 ht rfl rfl (zv_c1 ht rfl rfl ?_)
          refine zv_c1 (st' := [.int (a &&& b)]) (S' := S) ht rfl rfl ?_
          refine zv_c1 ht rfl rfl ?_
          refine zv_c1 (st' := [.int ((a &&& b) &&& c)]) (S' := S) ht rfl rfl ?_
          refine zv_c1 ht rfl rfl ?_
          refine zv_c1 (st' := [.int (((a &&& b) &&& c) &&& (1 : Int32))]) (S' := S) ht rfl rfl ?_
          refine zv_c1 ht rfl rfl (zv_c1 ht rfl rfl ?_)
          refine zv_c1 (st' := [.int (b &&& c), .int (((a &&& b) &&& c) &&& (1 : Int32))]) (S' := S) ht rfl rfl ?_
          refine zv_c1 ht rfl rfl ?_
          refine zv_c1 (st' := [.int ((b &&& c) &&& (16 : Int32)), .int (((a &&& b) &&& c) &&& (1 : Int32))]) (S' := S) ht rfl rfl ?_
          refine zv_c1 (st' := [.int ((((a &&& b) &&& c) &&& (1 : Int32)) ||| ((b &&& c) &&& (16 : Int32)))]) (S' := S) ht rfl rfl ?_
          refine zv_c1 ht rfl rfl (zv_c1 ht rfl rfl ?_)
          refine zv_c1 (st' := [.int (c &&& (8 : Int32)), .int ((((a &&& b) &&& c) &&& (1 : Int32)) ||| ((b &&& c) &&& (16 : Int32)))]) (S' := S) ht rfl rfl ?_
          refine zv_c1 (st' := [.int (((((a &&& b) &&& c) &&& (1 : Int32)) ||| ((b &&& c) &&& (16 : Int32))) ||| (c &&& (8 : Int32)))]) (S' := S) ht rfl rfl ?_
          refine zv_c2 (L' := [.ref 1592, .int (Int32.ofNat n), .int (Int32.ofNat x), .int (Int32.ofNat y), .int (Int32.ofNat z), .int a, .int b, .int c, .int (((((a &&& b) &&& c) &&& (1 : Int32)) ||| ((b &&& c) &&& (16 : Int32))) ||| (c &&& (8 : Int32)))]) ht rfl rfl ?_
          refine zv_c1 ht rfl rfl (zv_c1 ht rfl rfl (zv_c1 ht rfl rfl ?_))
          refine zv_c1 (st' := [.int (a &&& (1 : Int32)), .int (((((a &&& b) &&& c) &&& (1 : Int32)) ||| ((b &&& c) &&& (16 : Int32))) ||| (c &&& (8 : Int32)))]) (S' := S) ht rfl rfl ?_
          refine zv_c1 ht rfl rfl ?_
          have C24 : ∀ (pst23 : Outcome × zS → Prop), (pst23 (.returned (some (.int (zbo (((a &&& (1 : Int32)) &&& (1 : Int32)) = 1)))), S)) → zCall (d - 1) 139 [.int (a &&& (1 : Int32)), .int 1] S pst23 := by
            intro pst23 k29
            have ht25 : ztab 139 = ztb139 := rfl
            show zEv (d - 1) 139 0 [.int (a &&& (1 : Int32)), .int 1] [] S pst23
            refine zv_c1 ht25 rfl rfl (zv_c1 ht25 rfl rfl ?_)
            refine zv_c1 (st' := [.int ((a &&& (1 : Int32)) &&& (1 : Int32))]) (S' := S) ht25 rfl rfl ?_
            refine zv_c1 ht25 rfl rfl ?_
            have J27 : zEv (d - 1) 139 12 [.retAddr 0, .retAddr 0] [.int (zbo (((a &&& (1 : Int32)) &&& (1 : Int32)) = 1))] S pst23 := by
              exact zv_rc ht25 rfl rfl rfl rfl zbo_rng k29
            refine zv_br ht25 rfl rfl rfl (fun b26 => ?_) (fun b26 => ?_)
            · refine zv_c1 ht25 rfl rfl ?_
              exact zEv.wk (L := [.retAddr 0, .retAddr 0]) (L' := [.int (a &&& (1 : Int32)), .int 1]) (And.intro (Or.inr rfl) (And.intro (Or.inr rfl) trivial)) (zv_sub (zz := zbo (((a &&& (1 : Int32)) &&& (1 : Int32)) = 1)) (zy := 0) (p := fun zz => zEv (d - 1) 139 12 [.retAddr 0, .retAddr 0] [.int zz] S pst23) (zbo_neg b26) J27)
            · replace b26 : ((a &&& (1 : Int32)) &&& (1 : Int32)) = 1 := Classical.not_not.mp b26
              refine zv_c1 ht25 rfl rfl (zv_c1 ht25 rfl rfl ?_)
              exact zEv.wk (L := [.retAddr 0, .retAddr 0]) (L' := [.int (a &&& (1 : Int32)), .int 1]) (And.intro (Or.inr rfl) (And.intro (Or.inr rfl) trivial)) (zv_sub (zz := zbo (((a &&& (1 : Int32)) &&& (1 : Int32)) = 1)) (zy := 1) (p := fun zz => zEv (d - 1) 139 12 [.retAddr 0, .retAddr 0] [.int zz] S pst23) (zbo_pos b26) J27)
          refine zv_cl ht rfl rfl rfl rfl (by omega) (Nat.le_of_ble_eq_true rfl) (C24 _ ?_)
          show zEv d 142 110 [.ref 1592, .int (Int32.ofNat n), .int (Int32.ofNat x), .int (Int32.ofNat y), .int (Int32.ofNat z), .int a, .int b, .int c, .int (((((a &&& b) &&& c) &&& (1 : Int32)) ||| ((b &&& c) &&& (16 : Int32))) ||| (c &&& (8 : Int32)))] [.int (zbo (((a &&& (1 : Int32)) &&& (1 : Int32)) = 1)), .int (((((a &&& b) &&& c) &&& (1 : Int32)) ||| ((b &&& c) &&& (16 : Int32))) ||| (c &&& (8 : Int32)))] S post
          have J61 : zEv d 142 151 [.ref 1592, .int (Int32.ofNat n), .retAddr 0, .int (Int32.ofNat y), .retAddr 0, .int a, .int b, .int c, .retAddr 0] [.int (zbo (((((a &&& (1 : Int32)) &&& (1 : Int32)) = 1) ∧ (((b &&& c) &&& (2 : Int32)) = 2)) ∨ (((a &&& (2 : Int32)) = 2) ∧ (((b &&& c) &&& (1 : Int32)) = 1)))), .int (((((a &&& b) &&& c) &&& (1 : Int32)) ||| ((b &&& c) &&& (16 : Int32))) ||| (c &&& (8 : Int32)))] S post := by
            refine zv_c1 ht rfl rfl ?_
            have C64 : ∀ (pst63 : Outcome × zS → Prop), (pst63 (.returned (some (.int (Int32.ofNat (znt (((((a &&& (1 : Int32)) &&& (1 : Int32)) = 1) ∧ (((b &&& c) &&& (2 : Int32)) = 2)) ∨ (((a &&& (2 : Int32)) = 2) ∧ (((b &&& c) &&& (1 : Int32)) = 1))) 2 0)))), S)) → zCall (d - 1) 140 [.int (zbo (((((a &&& (1 : Int32)) &&& (1 : Int32)) = 1) ∧ (((b &&& c) &&& (2 : Int32)) = 2)) ∨ (((a &&& (2 : Int32)) = 2) ∧ (((b &&& c) &&& (1 : Int32)) = 1)))), .int 2] S pst63 := by
              intro pst63 k69
              have ht65 : ztab 140 = ztb140 := rfl
              show zEv (d - 1) 140 0 [.int (zbo (((((a &&& (1 : Int32)) &&& (1 : Int32)) = 1) ∧ (((b &&& c) &&& (2 : Int32)) = 2)) ∨ (((a &&& (2 : Int32)) = 2) ∧ (((b &&& c) &&& (1 : Int32)) = 1)))), .int 2] [] S pst63
              refine zv_c1 ht65 rfl rfl ?_
              have J67 : zEv (d - 1) 140 9 [.retAddr 0, .retAddr 0] [.int (Int32.ofNat (znt (((((a &&& (1 : Int32)) &&& (1 : Int32)) = 1) ∧ (((b &&& c) &&& (2 : Int32)) = 2)) ∨ (((a &&& (2 : Int32)) = 2) ∧ (((b &&& c) &&& (1 : Int32)) = 1))) 2 0))] S pst63 := by
                exact zv_rt ht65 rfl rfl rfl rfl k69
              refine zv_br ht65 rfl rfl rfl (fun b66 => ?_) (fun b66 => ?_)
              · replace b66 : ¬ (((((a &&& (1 : Int32)) &&& (1 : Int32)) = 1) ∧ (((b &&& c) &&& (2 : Int32)) = 2)) ∨ (((a &&& (2 : Int32)) = 2) ∧ (((b &&& c) &&& (1 : Int32)) = 1))) := (zbo_eq0 : (zbo (((((a &&& (1 : Int32)) &&& (1 : Int32)) = 1) ∧ (((b &&& c) &&& (2 : Int32)) = 2)) ∨ (((a &&& (2 : Int32)) = 2) ∧ (((b &&& c) &&& (1 : Int32)) = 1)))) = 0 ↔ ¬ (((((a &&& (1 : Int32)) &&& (1 : Int32)) = 1) ∧ (((b &&& c) &&& (2 : Int32)) = 2)) ∨ (((a &&& (2 : Int32)) = 2) ∧ (((b &&& c) &&& (1 : Int32)) = 1)))).mp b66
                refine zv_c1 ht65 rfl rfl ?_
                exact zEv.wk (L := [.retAddr 0, .retAddr 0]) (L' := [.int (zbo (((((a &&& (1 : Int32)) &&& (1 : Int32)) = 1) ∧ (((b &&& c) &&& (2 : Int32)) = 2)) ∨ (((a &&& (2 : Int32)) = 2) ∧ (((b &&& c) &&& (1 : Int32)) = 1)))), .int 2]) (And.intro (Or.inr rfl) (And.intro (Or.inr rfl) trivial)) (zv_sub (zz := Int32.ofNat (znt (((((a &&& (1 : Int32)) &&& (1 : Int32)) = 1) ∧ (((b &&& c) &&& (2 : Int32)) = 2)) ∨ (((a &&& (2 : Int32)) = 2) ∧ (((b &&& c) &&& (1 : Int32)) = 1))) 2 0)) (zy := 0) (p := fun zz => zEv (d - 1) 140 9 [.retAddr 0, .retAddr 0] [.int zz] S pst63) (congrArg Int32.ofNat (znt_neg b66)) J67)
              · replace b66 : ((((a &&& (1 : Int32)) &&& (1 : Int32)) = 1) ∧ (((b &&& c) &&& (2 : Int32)) = 2)) ∨ (((a &&& (2 : Int32)) = 2) ∧ (((b &&& c) &&& (1 : Int32)) = 1)) := Classical.byContradiction (fun h => b66 ((zbo_eq0 : (zbo (((((a &&& (1 : Int32)) &&& (1 : Int32)) = 1) ∧ (((b &&& c) &&& (2 : Int32)) = 2)) ∨ (((a &&& (2 : Int32)) = 2) ∧ (((b &&& c) &&& (1 : Int32)) = 1)))) = 0 ↔ ¬ (((((a &&& (1 : Int32)) &&& (1 : Int32)) = 1) ∧ (((b &&& c) &&& (2 : Int32)) = 2)) ∨ (((a &&& (2 : Int32)) = 2) ∧ (((b &&& c) &&& (1 : Int32)) = 1)))).mpr h))
                refine zv_c1 ht65 rfl rfl (zv_c1 ht65 rfl rfl ?_)
                exact zEv.wk (L := [.retAddr 0, .retAddr 0]) (L' := [.int (zbo (((((a &&& (1 : Int32)) &&& (1 : Int32)) = 1) ∧ (((b &&& c) &&& (2 : Int32)) = 2)) ∨ (((a &&& (2 : Int32)) = 2) ∧ (((b &&& c) &&& (1 : Int32)) = 1)))), .int 2]) (And.intro (Or.inr rfl) (And.intro (Or.inr rfl) trivial)) (zv_sub (zz := Int32.ofNat (znt (((((a &&& (1 : Int32)) &&& (1 : Int32)) = 1) ∧ (((b &&& c) &&& (2 : Int32)) = 2)) ∨ (((a &&& (2 : Int32)) = 2) ∧ (((b &&& c) &&& (1 : Int32)) = 1))) 2 0)) (zy := 2) (p := fun zz => zEv (d - 1) 140 9 [.retAddr 0, .retAddr 0] [.int zz] S pst63) (congrArg Int32.ofNat (znt_pos b66)) J67)
            refine zv_cl ht rfl rfl rfl rfl (by omega) (Nat.le_of_ble_eq_true rfl) (C64 _ ?_)
            show zEv d 142 155 [.ref 1592, .int (Int32.ofNat n), .retAddr 0, .int (Int32.ofNat y), .retAddr 0, .int a, .int b, .int c, .retAddr 0] [.int (Int32.ofNat (znt (((((a &&& (1 : Int32)) &&& (1 : Int32)) = 1) ∧ (((b &&& c) &&& (2 : Int32)) = 2)) ∨ (((a &&& (2 : Int32)) = 2) ∧ (((b &&& c) &&& (1 : Int32)) = 1))) 2 0)), .int (((((a &&& b) &&& c) &&& (1 : Int32)) ||| ((b &&& c) &&& (16 : Int32))) ||| (c &&& (8 : Int32)))] S post
            refine zv_c1 (st' := [.int ((((((a &&& b) &&& c) &&& (1 : Int32)) ||| ((b &&& c) &&& (16 : Int32))) ||| (c &&& (8 : Int32))) ||| (Int32.ofNat (znt (((((a &&& (1 : Int32)) &&& (1 : Int32)) = 1) ∧ (((b &&& c) &&& (2 : Int32)) = 2)) ∨ (((a &&& (2 : Int32)) = 2) ∧ (((b &&& c) &&& (1 : Int32)) = 1))) 2 0)))]) (S' := S) ht rfl rfl ?_
            refine zv_c2 (L' := [.ref 1592, .int (Int32.ofNat n), .retAddr 0, .int (Int32.ofNat y), .retAddr 0, .int a, .int b, .int c, .int ((((((a &&& b) &&& c) &&& (1 : Int32)) ||| ((b &&& c) &&& (16 : Int32))) ||| (c &&& (8 : Int32))) ||| (Int32.ofNat (znt (((((a &&& (1 : Int32)) &&& (1 : Int32)) = 1) ∧ (((b &&& c) &&& (2 : Int32)) = 2)) ∨ (((a &&& (2 : Int32)) = 2) ∧ (((b &&& c) &&& (1 : Int32)) = 1))) 2 0)))]) ht rfl rfl ?_
            refine zv_c1 ht rfl rfl (zv_c1 ht rfl rfl (zv_c1 ht rfl rfl ?_))
            have C71 : ∀ (pst70 : Outcome × zS → Prop), (pst70 (.returned (some (.int (zbo ((c &&& (32 : Int32)) = 32)))), S)) → zCall (d - 1) 139 [.int c, .int 32] S pst70 := by
              intro pst70 k76
              have ht72 : ztab 139 = ztb139 := rfl
              show zEv (d - 1) 139 0 [.int c, .int 32] [] S pst70
              refine zv_c1 ht72 rfl rfl (zv_c1 ht72 rfl rfl ?_)
              refine zv_c1 (st' := [.int (c &&& (32 : Int32))]) (S' := S) ht72 rfl rfl ?_
              refine zv_c1 ht72 rfl rfl ?_
              have J74 : zEv (d - 1) 139 12 [.retAddr 0, .retAddr 0] [.int (zbo ((c &&& (32 : Int32)) = 32))] S pst70 := by
                exact zv_rc ht72 rfl rfl rfl rfl zbo_rng k76
              refine zv_br ht72 rfl rfl rfl (fun b73 => ?_) (fun b73 => ?_)
              · refine zv_c1 ht72 rfl rfl ?_
                exact zEv.wk (L := [.retAddr 0, .retAddr 0]) (L' := [.int c, .int 32]) (And.intro (Or.inr rfl) (And.intro (Or.inr rfl) trivial)) (zv_sub (zz := zbo ((c &&& (32 : Int32)) = 32)) (zy := 0) (p := fun zz => zEv (d - 1) 139 12 [.retAddr 0, .retAddr 0] [.int zz] S pst70) (zbo_neg b73) J74)
              · replace b73 : (c &&& (32 : Int32)) = 32 := Classical.not_not.mp b73
                refine zv_c1 ht72 rfl rfl (zv_c1 ht72 rfl rfl ?_)
                exact zEv.wk (L := [.retAddr 0, .retAddr 0]) (L' := [.int c, .int 32]) (And.intro (Or.inr rfl) (And.intro (Or.inr rfl) trivial)) (zv_sub (zz := zbo ((c &&& (32 : Int32)) = 32)) (zy := 1) (p := fun zz => zEv (d - 1) 139 12 [.retAddr 0, .retAddr 0] [.int zz] S pst70) (zbo_pos b73) J74)
            refine zv_cl ht rfl rfl rfl rfl (by omega) (Nat.le_of_ble_eq_true rfl) (C71 _ ?_)
            show zEv d 142 167 [.ref 1592, .int (Int32.ofNat n), .retAddr 0, .int (Int32.ofNat y), .retAddr 0, .int a, .int b, .int c, .int ((((((a &&& b) &&& c) &&& (1 : Int32)) ||| ((b &&& c) &&& (16 : Int32))) ||| (c &&& (8 : Int32))) ||| (Int32.ofNat (znt (((((a &&& (1 : Int32)) &&& (1 : Int32)) = 1) ∧ (((b &&& c) &&& (2 : Int32)) = 2)) ∨ (((a &&& (2 : Int32)) = 2) ∧ (((b &&& c) &&& (1 : Int32)) = 1))) 2 0)))] [.int (zbo ((c &&& (32 : Int32)) = 32)), .int ((((((a &&& b) &&& c) &&& (1 : Int32)) ||| ((b &&& c) &&& (16 : Int32))) ||| (c &&& (8 : Int32))) ||| (Int32.ofNat (znt (((((a &&& (1 : Int32)) &&& (1 : Int32)) = 1) ∧ (((b &&& c) &&& (2 : Int32)) = 2)) ∨ (((a &&& (2 : Int32)) = 2) ∧ (((b &&& c) &&& (1 : Int32)) = 1))) 2 0)))] S post
            have J88 : zEv d 142 188 [.ref 1592, .int (Int32.ofNat n), .retAddr 0, .int (Int32.ofNat y), .retAddr 0, .int a, .int b, .int c, .retAddr 0] [.int (zbo (((c &&& (32 : Int32)) = 32) ∧ (((a ||| b) &&& (32 : Int32)) = 32))), .int ((((((a &&& b) &&& c) &&& (1 : Int32)) ||| ((b &&& c) &&& (16 : Int32))) ||| (c &&& (8 : Int32))) ||| (Int32.ofNat (znt (((((a &&& (1 : Int32)) &&& (1 : Int32)) = 1) ∧ (((b &&& c) &&& (2 : Int32)) = 2)) ∨ (((a &&& (2 : Int32)) = 2) ∧ (((b &&& c) &&& (1 : Int32)) = 1))) 2 0)))] S post := by
              refine zv_c1 ht rfl rfl ?_
              have C91 : ∀ (pst90 : Outcome × zS → Prop), (pst90 (.returned (some (.int (Int32.ofNat (znt (((c &&& (32 : Int32)) = 32) ∧ (((a ||| b) &&& (32 : Int32)) = 32)) 32 0)))), S)) → zCall (d - 1) 140 [.int (zbo (((c &&& (32 : Int32)) = 32) ∧ (((a ||| b) &&& (32 : Int32)) = 32))), .int 32] S pst90 := by
                intro pst90 k96
                have ht92 : ztab 140 = ztb140 := rfl
                show zEv (d - 1) 140 0 [.int (zbo (((c &&& (32 : Int32)) = 32) ∧ (((a ||| b) &&& (32 : Int32)) = 32))), .int 32] [] S pst90
                refine zv_c1 ht92 rfl rfl ?_
                have J94 : zEv (d - 1) 140 9 [.retAddr 0, .retAddr 0] [.int (Int32.ofNat (znt (((c &&& (32 : Int32)) = 32) ∧ (((a ||| b) &&& (32 : Int32)) = 32)) 32 0))] S pst90 := by
                  exact zv_rt ht92 rfl rfl rfl rfl k96
                refine zv_br ht92 rfl rfl rfl (fun b93 => ?_) (fun b93 => ?_)
                · replace b93 : ¬ (((c &&& (32 : Int32)) = 32) ∧ (((a ||| b) &&& (32 : Int32)) = 32)) := (zbo_eq0 : (zbo (((c &&& (32 : Int32)) = 32) ∧ (((a ||| b) &&& (32 : Int32)) = 32))) = 0 ↔ ¬ (((c &&& (32 : Int32)) = 32) ∧ (((a ||| b) &&& (32 : Int32)) = 32))).mp b93
                  refine zv_c1 ht92 rfl rfl ?_
                  exact zEv.wk (L := [.retAddr 0, .retAddr 0]) (L' := [.int (zbo (((c &&& (32 : Int32)) = 32) ∧ (((a ||| b) &&& (32 : Int32)) = 32))), .int 32]) (And.intro (Or.inr rfl) (And.intro (Or.inr rfl) trivial)) (zv_sub (zz := Int32.ofNat (znt (((c &&& (32 : Int32)) = 32) ∧ (((a ||| b) &&& (32 : Int32)) = 32)) 32 0)) (zy := 0) (p := fun zz => zEv (d - 1) 140 9 [.retAddr 0, .retAddr 0] [.int zz] S pst90) (congrArg Int32.ofNat (znt_neg b93)) J94)
                · replace b93 : ((c &&& (32 : Int32)) = 32) ∧ (((a ||| b) &&& (32 : Int32)) = 32) := Classical.byContradiction (fun h => b93 ((zbo_eq0 : (zbo (((c &&& (32 : Int32)) = 32) ∧ (((a ||| b) &&& (32 : Int32)) = 32))) = 0 ↔ ¬ (((c &&& (32 : Int32)) = 32) ∧ (((a ||| b) &&& (32 : Int32)) = 32))).mpr h))
                  refine zv_c1 ht92 rfl rfl (zv_c1 ht92 rfl rfl ?_)
                  exact zEv.wk (L := [.retAddr 0, .retAddr 0]) (L' := [.int (zbo (((c &&& (32 : Int32)) = 32) ∧ (((a ||| b) &&& (32 : Int32)) = 32))), .int 32]) (And.intro (Or.inr rfl) (And.intro (Or.inr rfl) trivial)) (zv_sub (zz := Int32.ofNat (znt (((c &&& (32 : Int32)) = 32) ∧ (((a ||| b) &&& (32 : Int32)) = 32)) 32 0)) (zy := 32) (p := fun zz => zEv (d - 1) 140 9 [.retAddr 0, .retAddr 0] [.int zz] S pst90) (congrArg Int32.ofNat (znt_pos b93)) J94)
              refine zv_cl ht rfl rfl rfl rfl (by omega) (Nat.le_of_ble_eq_true rfl) (C91 _ ?_)
              show zEv d 142 193 [.ref 1592, .int (Int32.ofNat n), .retAddr 0, .int (Int32.ofNat y), .retAddr 0, .int a, .int b, .int c, .retAddr 0] [.int (Int32.ofNat (znt (((c &&& (32 : Int32)) = 32) ∧ (((a ||| b) &&& (32 : Int32)) = 32)) 32 0)), .int ((((((a &&& b) &&& c) &&& (1 : Int32)) ||| ((b &&& c) &&& (16 : Int32))) ||| (c &&& (8 : Int32))) ||| (Int32.ofNat (znt (((((a &&& (1 : Int32)) &&& (1 : Int32)) = 1) ∧ (((b &&& c) &&& (2 : Int32)) = 2)) ∨ (((a &&& (2 : Int32)) = 2) ∧ (((b &&& c) &&& (1 : Int32)) = 1))) 2 0)))] S post
              refine zv_c1 ht rfl rfl (zv_c1 ht rfl rfl ?_)
              have C98 : ∀ (pst97 : Outcome × zS → Prop), (pst97 (.returned (some (.int (zbo ((c &&& (64 : Int32)) = 64)))), S)) → zCall (d - 1) 139 [.int c, .int 64] S pst97 := by
                intro pst97 k103
                have ht99 : ztab 139 = ztb139 := rfl
                show zEv (d - 1) 139 0 [.int c, .int 64] [] S pst97
                refine zv_c1 ht99 rfl rfl (zv_c1 ht99 rfl rfl ?_)
                refine zv_c1 (st' := [.int (c &&& (64 : Int32))]) (S' := S) ht99 rfl rfl ?_
                refine zv_c1 ht99 rfl rfl ?_
                have J101 : zEv (d - 1) 139 12 [.retAddr 0, .retAddr 0] [.int (zbo ((c &&& (64 : Int32)) = 64))] S pst97 := by
                  exact zv_rc ht99 rfl rfl rfl rfl zbo_rng k103
                refine zv_br ht99 rfl rfl rfl (fun b100 => ?_) (fun b100 => ?_)
                · refine zv_c1 ht99 rfl rfl ?_
                  exact zEv.wk (L := [.retAddr 0, .retAddr 0]) (L' := [.int c, .int 64]) (And.intro (Or.inr rfl) (And.intro (Or.inr rfl) trivial)) (zv_sub (zz := zbo ((c &&& (64 : Int32)) = 64)) (zy := 0) (p := fun zz => zEv (d - 1) 139 12 [.retAddr 0, .retAddr 0] [.int zz] S pst97) (zbo_neg b100) J101)
                · replace b100 : (c &&& (64 : Int32)) = 64 := Classical.not_not.mp b100
                  refine zv_c1 ht99 rfl rfl (zv_c1 ht99 rfl rfl ?_)
                  exact zEv.wk (L := [.retAddr 0, .retAddr 0]) (L' := [.int c, .int 64]) (And.intro (Or.inr rfl) (And.intro (Or.inr rfl) trivial)) (zv_sub (zz := zbo ((c &&& (64 : Int32)) = 64)) (zy := 1) (p := fun zz => zEv (d - 1) 139 12 [.retAddr 0, .retAddr 0] [.int zz] S pst97) (zbo_pos b100) J101)
              refine zv_cl ht rfl rfl rfl rfl (by omega) (Nat.le_of_ble_eq_true rfl) (C98 _ ?_)
              show zEv d 142 200 [.ref 1592, .int (Int32.ofNat n), .retAddr 0, .int (Int32.ofNat y), .retAddr 0, .int a, .int b, .int c, .retAddr 0] [.int (zbo ((c &&& (64 : Int32)) = 64)), .int (Int32.ofNat (znt (((c &&& (32 : Int32)) = 32) ∧ (((a ||| b) &&& (32 : Int32)) = 32)) 32 0)), .int ((((((a &&& b) &&& c) &&& (1 : Int32)) ||| ((b &&& c) &&& (16 : Int32))) ||| (c &&& (8 : Int32))) ||| (Int32.ofNat (znt (((((a &&& (1 : Int32)) &&& (1 : Int32)) = 1) ∧ (((b &&& c) &&& (2 : Int32)) = 2)) ∨ (((a &&& (2 : Int32)) = 2) ∧ (((b &&& c) &&& (1 : Int32)) = 1))) 2 0)))] S post
              have J125 : zEv d 142 228 [.ref 1592, .int (Int32.ofNat n), .retAddr 0, .int (Int32.ofNat y), .retAddr 0, .int a, .int b, .int c, .retAddr 0] [.int (zbo (((c &&& (64 : Int32)) = 64) ∧ (((a &&& (32 : Int32)) = 32) ∨ ((b &&& (64 : Int32)) = 64)))), .int (Int32.ofNat (znt (((c &&& (32 : Int32)) = 32) ∧ (((a ||| b) &&& (32 : Int32)) = 32)) 32 0)), .int ((((((a &&& b) &&& c) &&& (1 : Int32)) ||| ((b &&& c) &&& (16 : Int32))) ||| (c &&& (8 : Int32))) ||| (Int32.ofNat (znt (((((a &&& (1 : Int32)) &&& (1 : Int32)) = 1) ∧ (((b &&& c) &&& (2 : Int32)) = 2)) ∨ (((a &&& (2 : Int32)) = 2) ∧ (((b &&& c) &&& (1 : Int32)) = 1))) 2 0)))] S post := by
                refine zv_c1 ht rfl rfl ?_
                have C128 : ∀ (pst127 : Outcome × zS → Prop), (pst127 (.returned (some (.int (Int32.ofNat (znt (((c &&& (64 : Int32)) = 64) ∧ (((a &&& (32 : Int32)) = 32) ∨ ((b &&& (64 : Int32)) = 64))) 64 0)))), S)) → zCall (d - 1) 140 [.int (zbo (((c &&& (64 : Int32)) = 64) ∧ (((a &&& (32 : Int32)) = 32) ∨ ((b &&& (64 : Int32)) = 64)))), .int 64] S pst127 := by
                  intro pst127 k133
                  have ht129 : ztab 140 = ztb140 := rfl
                  show zEv (d - 1) 140 0 [.int (zbo (((c &&& (64 : Int32)) = 64) ∧ (((a &&& (32 : Int32)) = 32) ∨ ((b &&& (64 : Int32)) = 64)))), .int 64] [] S pst127
                  refine zv_c1 ht129 rfl rfl ?_
                  have J131 : zEv (d - 1) 140 9 [.retAddr 0, .retAddr 0] [.int (Int32.ofNat (znt (((c &&& (64 : Int32)) = 64) ∧ (((a &&& (32 : Int32)) = 32) ∨ ((b &&& (64 : Int32)) = 64))) 64 0))] S pst127 := by
                    exact zv_rt ht129 rfl rfl rfl rfl k133
                  refine zv_br ht129 rfl rfl rfl (fun b130 => ?_) (fun b130 => ?_)
                  · replace b130 : ¬ (((c &&& (64 : Int32)) = 64) ∧ (((a &&& (32 : Int32)) = 32) ∨ ((b &&& (64 : Int32)) = 64))) := (zbo_eq0 : (zbo (((c &&& (64 : Int32)) = 64) ∧ (((a &&& (32 : Int32)) = 32) ∨ ((b &&& (64 : Int32)) = 64)))) = 0 ↔ ¬ (((c &&& (64 : Int32)) = 64) ∧ (((a &&& (32 : Int32)) = 32) ∨ ((b &&& (64 : Int32)) = 64)))).mp b130
                    refine zv_c1 ht129 rfl rfl ?_
                    exact zEv.wk (L := [.retAddr 0, .retAddr 0]) (L' := [.int (zbo (((c &&& (64 : Int32)) = 64) ∧ (((a &&& (32 : Int32)) = 32) ∨ ((b &&& (64 : Int32)) = 64)))), .int 64]) (And.intro (Or.inr rfl) (And.intro (Or.inr rfl) trivial)) (zv_sub (zz := Int32.ofNat (znt (((c &&& (64 : Int32)) = 64) ∧ (((a &&& (32 : Int32)) = 32) ∨ ((b &&& (64 : Int32)) = 64))) 64 0)) (zy := 0) (p := fun zz => zEv (d - 1) 140 9 [.retAddr 0, .retAddr 0] [.int zz] S pst127) (congrArg Int32.ofNat (znt_neg b130)) J131)
                  · replace b130 : ((c &&& (64 : Int32)) = 64) ∧ (((a &&& (32 : Int32)) = 32) ∨ ((b &&& (64 : Int32)) = 64)) := Classical.byContradiction (fun h => b130 ((zbo_eq0 : (zbo (((c &&& (64 : Int32)) = 64) ∧ (((a &&& (32 : Int32)) = 32) ∨ ((b &&& (64 : Int32)) = 64)))) = 0 ↔ ¬ (((c &&& (64 : Int32)) = 64) ∧ (((a &&& (32 : Int32)) = 32) ∨ ((b &&& (64 : Int32)) = 64)))).mpr h))
                    refine zv_c1 ht129 rfl rfl (zv_c1 ht129 rfl rfl ?_)
                    exact zEv.wk (L := [.retAddr 0, .retAddr 0]) (L' := [.int (zbo (((c &&& (64 : Int32)) = 64) ∧ (((a &&& (32 : Int32)) = 32) ∨ ((b &&& (64 : Int32)) = 64)))), .int 64]) (And.intro (Or.inr rfl) (And.intro (Or.inr rfl) trivial)) (zv_sub (zz := Int32.ofNat (znt (((c &&& (64 : Int32)) = 64) ∧ (((a &&& (32 : Int32)) = 32) ∨ ((b &&& (64 : Int32)) = 64))) 64 0)) (zy := 64) (p := fun zz => zEv (d - 1) 140 9 [.retAddr 0, .retAddr 0] [.int zz] S pst127) (congrArg Int32.ofNat (znt_pos b130)) J131)
                refine zv_cl ht rfl rfl rfl rfl (by omega) (Nat.le_of_ble_eq_true rfl) (C128 _ ?_)
                show zEv d 142 233 [.ref 1592, .int (Int32.ofNat n), .retAddr 0, .int (Int32.ofNat y), .retAddr 0, .int a, .int b, .int c, .retAddr 0] [.int (Int32.ofNat (znt (((c &&& (64 : Int32)) = 64) ∧ (((a &&& (32 : Int32)) = 32) ∨ ((b &&& (64 : Int32)) = 64))) 64 0)), .int (Int32.ofNat (znt (((c &&& (32 : Int32)) = 32) ∧ (((a ||| b) &&& (32 : Int32)) = 32)) 32 0)), .int ((((((a &&& b) &&& c) &&& (1 : Int32)) ||| ((b &&& c) &&& (16 : Int32))) ||| (c &&& (8 : Int32))) ||| (Int32.ofNat (znt (((((a &&& (1 : Int32)) &&& (1 : Int32)) = 1) ∧ (((b &&& c) &&& (2 : Int32)) = 2)) ∨ (((a &&& (2 : Int32)) = 2) ∧ (((b &&& c) &&& (1 : Int32)) = 1))) 2 0)))] S post
                refine zv_c1 (st' := [.int ((Int32.ofNat (znt (((c &&& (32 : Int32)) = 32) ∧ (((a ||| b) &&& (32 : Int32)) = 32)) 32 0)) ||| (Int32.ofNat (znt (((c &&& (64 : Int32)) = 64) ∧ (((a &&& (32 : Int32)) = 32) ∨ ((b &&& (64 : Int32)) = 64))) 64 0))), .int ((((((a &&& b) &&& c) &&& (1 : Int32)) ||| ((b &&& c) &&& (16 : Int32))) ||| (c &&& (8 : Int32))) ||| (Int32.ofNat (znt (((((a &&& (1 : Int32)) &&& (1 : Int32)) = 1) ∧ (((b &&& c) &&& (2 : Int32)) = 2)) ∨ (((a &&& (2 : Int32)) = 2) ∧ (((b &&& c) &&& (1 : Int32)) = 1))) 2 0)))]) (S' := S) ht rfl rfl ?_
                refine zv_c1 ht rfl rfl (zv_c1 ht rfl rfl ?_)
                have C135 : ∀ (pst134 : Outcome × zS → Prop), (pst134 (.returned (some (.int (zbo ((c &&& (128 : Int32)) = 128)))), S)) → zCall (d - 1) 139 [.int c, .int 128] S pst134 := by
                  intro pst134 k140
                  have ht136 : ztab 139 = ztb139 := rfl
                  show zEv (d - 1) 139 0 [.int c, .int 128] [] S pst134
                  refine zv_c1 ht136 rfl rfl (zv_c1 ht136 rfl rfl ?_)
                  refine zv_c1 (st' := [.int (c &&& (128 : Int32))]) (S' := S) ht136 rfl rfl ?_
                  refine zv_c1 ht136 rfl rfl ?_
                  have J138 : zEv (d - 1) 139 12 [.retAddr 0, .retAddr 0] [.int (zbo ((c &&& (128 : Int32)) = 128))] S pst134 := by
                    exact zv_rc ht136 rfl rfl rfl rfl zbo_rng k140
                  refine zv_br ht136 rfl rfl rfl (fun b137 => ?_) (fun b137 => ?_)
                  · refine zv_c1 ht136 rfl rfl ?_
                    exact zEv.wk (L := [.retAddr 0, .retAddr 0]) (L' := [.int c, .int 128]) (And.intro (Or.inr rfl) (And.intro (Or.inr rfl) trivial)) (zv_sub (zz := zbo ((c &&& (128 : Int32)) = 128)) (zy := 0) (p := fun zz => zEv (d - 1) 139 12 [.retAddr 0, .retAddr 0] [.int zz] S pst134) (zbo_neg b137) J138)
                  · replace b137 : (c &&& (128 : Int32)) = 128 := Classical.not_not.mp b137
                    refine zv_c1 ht136 rfl rfl (zv_c1 ht136 rfl rfl ?_)
                    exact zEv.wk (L := [.retAddr 0, .retAddr 0]) (L' := [.int c, .int 128]) (And.intro (Or.inr rfl) (And.intro (Or.inr rfl) trivial)) (zv_sub (zz := zbo ((c &&& (128 : Int32)) = 128)) (zy := 1) (p := fun zz => zEv (d - 1) 139 12 [.retAddr 0, .retAddr 0] [.int zz] S pst134) (zbo_pos b137) J138)
                refine zv_cl ht rfl rfl rfl rfl (by omega) (Nat.le_of_ble_eq_true rfl) (C135 _ ?_)
                show zEv d 142 242 [.ref 1592, .int (Int32.ofNat n), .retAddr 0, .int (Int32.ofNat y), .retAddr 0, .int a, .int b, .int c, .retAddr 0] [.int (zbo ((c &&& (128 : Int32)) = 128)), .int ((Int32.ofNat (znt (((c &&& (32 : Int32)) = 32) ∧ (((a ||| b) &&& (32 : Int32)) = 32)) 32 0)) ||| (Int32.ofNat (znt (((c &&& (64 : Int32)) = 64) ∧ (((a &&& (32 : Int32)) = 32) ∨ ((b &&& (64 : Int32)) = 64))) 64 0))), .int ((((((a &&& b) &&& c) &&& (1 : Int32)) ||| ((b &&& c) &&& (16 : Int32))) ||| (c &&& (8 : Int32))) ||| (Int32.ofNat (znt (((((a &&& (1 : Int32)) &&& (1 : Int32)) = 1) ∧ (((b &&& c) &&& (2 : Int32)) = 2)) ∨ (((a &&& (2 : Int32)) = 2) ∧ (((b &&& c) &&& (1 : Int32)) = 1))) 2 0)))] S post
                have J162 : zEv d 142 270 [.ref 1592, .int (Int32.ofNat n), .retAddr 0, .int (Int32.ofNat y), .retAddr 0, .int a, .int b, .int c, .retAddr 0] [.int (zbo (((c &&& (128 : Int32)) = 128) ∧ (((a &&& (32 : Int32)) = 32) ∨ ((b &&& (64 : Int32)) = 64)))), .int ((Int32.ofNat (znt (((c &&& (32 : Int32)) = 32) ∧ (((a ||| b) &&& (32 : Int32)) = 32)) 32 0)) ||| (Int32.ofNat (znt (((c &&& (64 : Int32)) = 64) ∧ (((a &&& (32 : Int32)) = 32) ∨ ((b &&& (64 : Int32)) = 64))) 64 0))), .int ((((((a &&& b) &&& c) &&& (1 : Int32)) ||| ((b &&& c) &&& (16 : Int32))) ||| (c &&& (8 : Int32))) ||| (Int32.ofNat (znt (((((a &&& (1 : Int32)) &&& (1 : Int32)) = 1) ∧ (((b &&& c) &&& (2 : Int32)) = 2)) ∨ (((a &&& (2 : Int32)) = 2) ∧ (((b &&& c) &&& (1 : Int32)) = 1))) 2 0)))] S post := by
                  refine zv_c1 ht rfl rfl ?_
                  have C165 : ∀ (pst164 : Outcome × zS → Prop), (pst164 (.returned (some (.int (Int32.ofNat (znt (((c &&& (128 : Int32)) = 128) ∧ (((a &&& (32 : Int32)) = 32) ∨ ((b &&& (64 : Int32)) = 64))) 128 0)))), S)) → zCall (d - 1) 140 [.int (zbo (((c &&& (128 : Int32)) = 128) ∧ (((a &&& (32 : Int32)) = 32) ∨ ((b &&& (64 : Int32)) = 64)))), .int 128] S pst164 := by
                    intro pst164 k170
                    have ht166 : ztab 140 = ztb140 := rfl
                    show zEv (d - 1) 140 0 [.int (zbo (((c &&& (128 : Int32)) = 128) ∧ (((a &&& (32 : Int32)) = 32) ∨ ((b &&& (64 : Int32)) = 64)))), .int 128] [] S pst164
                    refine zv_c1 ht166 rfl rfl ?_
                    have J168 : zEv (d - 1) 140 9 [.retAddr 0, .retAddr 0] [.int (Int32.ofNat (znt (((c &&& (128 : Int32)) = 128) ∧ (((a &&& (32 : Int32)) = 32) ∨ ((b &&& (64 : Int32)) = 64))) 128 0))] S pst164 := by
                      exact zv_rt ht166 rfl rfl rfl rfl k170
                    refine zv_br ht166 rfl rfl rfl (fun b167 => ?_) (fun b167 => ?_)
                    · replace b167 : ¬ (((c &&& (128 : Int32)) = 128) ∧ (((a &&& (32 : Int32)) = 32) ∨ ((b &&& (64 : Int32)) = 64))) := (zbo_eq0 : (zbo (((c &&& (128 : Int32)) = 128) ∧ (((a &&& (32 : Int32)) = 32) ∨ ((b &&& (64 : Int32)) = 64)))) = 0 ↔ ¬ (((c &&& (128 : Int32)) = 128) ∧ (((a &&& (32 : Int32)) = 32) ∨ ((b &&& (64 : Int32)) = 64)))).mp b167
                      refine zv_c1 ht166 rfl rfl ?_
                      exact zEv.wk (L := [.retAddr 0, .retAddr 0]) (L' := [.int (zbo (((c &&& (128 : Int32)) = 128) ∧ (((a &&& (32 : Int32)) = 32) ∨ ((b &&& (64 : Int32)) = 64)))), .int 128]) (And.intro (Or.inr rfl) (And.intro (Or.inr rfl) trivial)) (zv_sub (zz := Int32.ofNat (znt (((c &&& (128 : Int32)) = 128) ∧ (((a &&& (32 : Int32)) = 32) ∨ ((b &&& (64 : Int32)) = 64))) 128 0)) (zy := 0) (p := fun zz => zEv (d - 1) 140 9 [.retAddr 0, .retAddr 0] [.int zz] S pst164) (congrArg Int32.ofNat (znt_neg b167)) J168)
                    · replace b167 : ((c &&& (128 : Int32)) = 128) ∧ (((a &&& (32 : Int32)) = 32) ∨ ((b &&& (64 : Int32)) = 64)) := Classical.byContradiction (fun h => b167 ((zbo_eq0 : (zbo (((c &&& (128 : Int32)) = 128) ∧ (((a &&& (32 : Int32)) = 32) ∨ ((b &&& (64 : Int32)) = 64)))) = 0 ↔ ¬ (((c &&& (128 : Int32)) = 128) ∧ (((a &&& (32 : Int32)) = 32) ∨ ((b &&& (64 : Int32)) = 64)))).mpr h))
                      refine zv_c1 ht166 rfl rfl (zv_c1 ht166 rfl rfl ?_)
                      exact zEv.wk (L := [.retAddr 0, .retAddr 0]) (L' := [.int (zbo (((c &&& (128 : Int32)) = 128) ∧ (((a &&& (32 : Int32)) = 32) ∨ ((b &&& (64 : Int32)) = 64)))), .int 128]) (And.intro (Or.inr rfl) (And.intro (Or.inr rfl) trivial)) (zv_sub (zz := Int32.ofNat (znt (((c &&& (128 : Int32)) = 128) ∧ (((a &&& (32 : Int32)) = 32) ∨ ((b &&& (64 : Int32)) = 64))) 128 0)) (zy := 128) (p := fun zz => zEv (d - 1) 140 9 [.retAddr 0, .retAddr 0] [.int zz] S pst164) (congrArg Int32.ofNat (znt_pos b167)) J168)
                  refine zv_cl ht rfl rfl rfl rfl (by omega) (Nat.le_of_ble_eq_true rfl) (C165 _ ?_)
                  show zEv d 142 276 [.ref 1592, .int (Int32.ofNat n), .retAddr 0, .int (Int32.ofNat y), .retAddr 0, .int a, .int b, .int c, .retAddr 0] [.int (Int32.ofNat (znt (((c &&& (128 : Int32)) = 128) ∧ (((a &&& (32 : Int32)) = 32) ∨ ((b &&& (64 : Int32)) = 64))) 128 0)), .int ((Int32.ofNat (znt (((c &&& (32 : Int32)) = 32) ∧ (((a ||| b) &&& (32 : Int32)) = 32)) 32 0)) ||| (Int32.ofNat (znt (((c &&& (64 : Int32)) = 64) ∧ (((a &&& (32 : Int32)) = 32) ∨ ((b &&& (64 : Int32)) = 64))) 64 0))), .int ((((((a &&& b) &&& c) &&& (1 : Int32)) ||| ((b &&& c) &&& (16 : Int32))) ||| (c &&& (8 : Int32))) ||| (Int32.ofNat (znt (((((a &&& (1 : Int32)) &&& (1 : Int32)) = 1) ∧ (((b &&& c) &&& (2 : Int32)) = 2)) ∨ (((a &&& (2 : Int32)) = 2) ∧ (((b &&& c) &&& (1 : Int32)) = 1))) 2 0)))] S post
                  refine zv_c1 (st' := [.int (((Int32.ofNat (znt (((c &&& (32 : Int32)) = 32) ∧ (((a ||| b) &&& (32 : Int32)) = 32)) 32 0)) ||| (Int32.ofNat (znt (((c &&& (64 : Int32)) = 64) ∧ (((a &&& (32 : Int32)) = 32) ∨ ((b &&& (64 : Int32)) = 64))) 64 0))) ||| (Int32.ofNat (znt (((c &&& (128 : Int32)) = 128) ∧ (((a &&& (32 : Int32)) = 32) ∨ ((b &&& (64 : Int32)) = 64))) 128 0))), .int ((((((a &&& b) &&& c) &&& (1 : Int32)) ||| ((b &&& c) &&& (16 : Int32))) ||| (c &&& (8 : Int32))) ||| (Int32.ofNat (znt (((((a &&& (1 : Int32)) &&& (1 : Int32)) = 1) ∧ (((b &&& c) &&& (2 : Int32)) = 2)) ∨ (((a &&& (2 : Int32)) = 2) ∧ (((b &&& c) &&& (1 : Int32)) = 1))) 2 0)))]) (S' := S) ht rfl rfl ?_
                  refine zv_c1 (st' := [.int (((((((a &&& b) &&& c) &&& (1 : Int32)) ||| ((b &&& c) &&& (16 : Int32))) ||| (c &&& (8 : Int32))) ||| (Int32.ofNat (znt (((((a &&& (1 : Int32)) &&& (1 : Int32)) = 1) ∧ (((b &&& c) &&& (2 : Int32)) = 2)) ∨ (((a &&& (2 : Int32)) = 2) ∧ (((b &&& c) &&& (1 : Int32)) = 1))) 2 0))) ||| (((Int32.ofNat (znt (((c &&& (32 : Int32)) = 32) ∧ (((a ||| b) &&& (32 : Int32)) = 32)) 32 0)) ||| (Int32.ofNat (znt (((c &&& (64 : Int32)) = 64) ∧ (((a &&& (32 : Int32)) = 32) ∨ ((b &&& (64 : Int32)) = 64))) 64 0))) ||| (Int32.ofNat (znt (((c &&& (128 : Int32)) = 128) ∧ (((a &&& (32 : Int32)) = 32) ∨ ((b &&& (64 : Int32)) = 64))) 128 0))))]) (S' := S) ht rfl rfl ?_
                  refine zv_c2 (L' := [.ref 1592, .int (Int32.ofNat n), .retAddr 0, .int (Int32.ofNat y), .retAddr 0, .int a, .int b, .int c, .int (ao10_e1 a b c)]) ht rfl rfl ?_
                  refine zv_c1 ht rfl rfl (zv_c1 ht rfl rfl (zv_c1 ht rfl rfl ?_))
                  refine zv_c1 (st' := [.int (a &&& b), .int (ao10_e1 a b c)]) (S' := S) ht rfl rfl ?_
                  refine zv_c1 ht rfl rfl ?_
                  refine zv_c1 (st' := [.int ((a &&& b) &&& c), .int (ao10_e1 a b c)]) (S' := S) ht rfl rfl ?_
                  refine zv_c1 ht rfl rfl ?_
                  have C172 : ∀ (pst171 : Outcome × zS → Prop), (pst171 (.returned (some (.int (zbo ((((a &&& b) &&& c) &&& (256 : Int32)) = 256)))), S)) → zCall (d - 1) 139 [.int ((a &&& b) &&& c), .int 256] S pst171 := by
                    intro pst171 k177
                    have ht173 : ztab 139 = ztb139 := rfl
                    show zEv (d - 1) 139 0 [.int ((a &&& b) &&& c), .int 256] [] S pst171
                    refine zv_c1 ht173 rfl rfl (zv_c1 ht173 rfl rfl ?_)
                    refine zv_c1 (st' := [.int (((a &&& b) &&& c) &&& (256 : Int32))]) (S' := S) ht173 rfl rfl ?_
                    refine zv_c1 ht173 rfl rfl ?_
                    have J175 : zEv (d - 1) 139 12 [.retAddr 0, .retAddr 0] [.int (zbo ((((a &&& b) &&& c) &&& (256 : Int32)) = 256))] S pst171 := by
                      exact zv_rc ht173 rfl rfl rfl rfl zbo_rng k177
                    refine zv_br ht173 rfl rfl rfl (fun b174 => ?_) (fun b174 => ?_)
                    · refine zv_c1 ht173 rfl rfl ?_
                      exact zEv.wk (L := [.retAddr 0, .retAddr 0]) (L' := [.int ((a &&& b) &&& c), .int 256]) (And.intro (Or.inr rfl) (And.intro (Or.inr rfl) trivial)) (zv_sub (zz := zbo ((((a &&& b) &&& c) &&& (256 : Int32)) = 256)) (zy := 0) (p := fun zz => zEv (d - 1) 139 12 [.retAddr 0, .retAddr 0] [.int zz] S pst171) (zbo_neg b174) J175)
                    · replace b174 : (((a &&& b) &&& c) &&& (256 : Int32)) = 256 := Classical.not_not.mp b174
                      refine zv_c1 ht173 rfl rfl (zv_c1 ht173 rfl rfl ?_)
                      exact zEv.wk (L := [.retAddr 0, .retAddr 0]) (L' := [.int ((a &&& b) &&& c), .int 256]) (And.intro (Or.inr rfl) (And.intro (Or.inr rfl) trivial)) (zv_sub (zz := zbo ((((a &&& b) &&& c) &&& (256 : Int32)) = 256)) (zy := 1) (p := fun zz => zEv (d - 1) 139 12 [.retAddr 0, .retAddr 0] [.int zz] S pst171) (zbo_pos b174) J175)
                  refine zv_cl ht rfl rfl rfl rfl (by omega) (Nat.le_of_ble_eq_true rfl) (C172 _ ?_)
                  show zEv d 142 296 [.ref 1592, .int (Int32.ofNat n), .retAddr 0, .int (Int32.ofNat y), .retAddr 0, .int a, .int b, .int c, .int (ao10_e1 a b c)] [.int (zbo ((((a &&& b) &&& c) &&& (256 : Int32)) = 256)), .int (ao10_e1 a b c)] S post
                  have J197 : zEv d 142 331 [.ref 1592, .int (Int32.ofNat n), .retAddr 0, .int (Int32.ofNat y), .retAddr 0, .retAddr 0, .retAddr 0, .retAddr 0, .retAddr 0] [.int (zbo (((((a &&& b) &&& c) &&& (256 : Int32)) = 256) ∧ ((a &&& (128 : Int32)) = 128) ∧ ((((a ||| b) ||| c) &&& (32 : Int32)) = 32))), .int (ao10_e1 a b c)] S post := by
                    refine zv_c1 ht rfl rfl ?_
                    have C200 : ∀ (pst199 : Outcome × zS → Prop), (pst199 (.returned (some (.int (Int32.ofNat (znt (((((a &&& b) &&& c) &&& (256 : Int32)) = 256) ∧ ((a &&& (128 : Int32)) = 128) ∧ ((((a ||| b) ||| c) &&& (32 : Int32)) = 32)) 256 0)))), S)) → zCall (d - 1) 140 [.int (zbo (((((a &&& b) &&& c) &&& (256 : Int32)) = 256) ∧ ((a &&& (128 : Int32)) = 128) ∧ ((((a ||| b) ||| c) &&& (32 : Int32)) = 32))), .int 256] S pst199 := by
                      intro pst199 k205
                      have ht201 : ztab 140 = ztb140 := rfl
                      show zEv (d - 1) 140 0 [.int (zbo (((((a &&& b) &&& c) &&& (256 : Int32)) = 256) ∧ ((a &&& (128 : Int32)) = 128) ∧ ((((a ||| b) ||| c) &&& (32 : Int32)) = 32))), .int 256] [] S pst199
                      refine zv_c1 ht201 rfl rfl ?_
                      have J203 : zEv (d - 1) 140 9 [.retAddr 0, .retAddr 0] [.int (Int32.ofNat (znt (((((a &&& b) &&& c) &&& (256 : Int32)) = 256) ∧ ((a &&& (128 : Int32)) = 128) ∧ ((((a ||| b) ||| c) &&& (32 : Int32)) = 32)) 256 0))] S pst199 := by
                        exact zv_rt ht201 rfl rfl rfl rfl k205
                      refine zv_br ht201 rfl rfl rfl (fun b202 => ?_) (fun b202 => ?_)
                      · replace b202 : ¬ (((((a &&& b) &&& c) &&& (256 : Int32)) = 256) ∧ ((a &&& (128 : Int32)) = 128) ∧ ((((a ||| b) ||| c) &&& (32 : Int32)) = 32)) := (zbo_eq0 : (zbo (((((a &&& b) &&& c) &&& (256 : Int32)) = 256) ∧ ((a &&& (128 : Int32)) = 128) ∧ ((((a ||| b) ||| c) &&& (32 : Int32)) = 32))) = 0 ↔ ¬ (((((a &&& b) &&& c) &&& (256 : Int32)) = 256) ∧ ((a &&& (128 : Int32)) = 128) ∧ ((((a ||| b) ||| c) &&& (32 : Int32)) = 32))).mp b202
                        refine zv_c1 ht201 rfl rfl ?_
                        exact zEv.wk (L := [.retAddr 0, .retAddr 0]) (L' := [.int (zbo (((((a &&& b) &&& c) &&& (256 : Int32)) = 256) ∧ ((a &&& (128 : Int32)) = 128) ∧ ((((a ||| b) ||| c) &&& (32 : Int32)) = 32))), .int 256]) (And.intro (Or.inr rfl) (And.intro (Or.inr rfl) trivial)) (zv_sub (zz := Int32.ofNat (znt (((((a &&& b) &&& c) &&& (256 : Int32)) = 256) ∧ ((a &&& (128 : Int32)) = 128) ∧ ((((a ||| b) ||| c) &&& (32 : Int32)) = 32)) 256 0)) (zy := 0) (p := fun zz => zEv (d - 1) 140 9 [.retAddr 0, .retAddr 0] [.int zz] S pst199) (congrArg Int32.ofNat (znt_neg b202)) J203)
                      · replace b202 : ((((a &&& b) &&& c) &&& (256 : Int32)) = 256) ∧ ((a &&& (128 : Int32)) = 128) ∧ ((((a ||| b) ||| c) &&& (32 : Int32)) = 32) := Classical.byContradiction (fun h => b202 ((zbo_eq0 : (zbo (((((a &&& b) &&& c) &&& (256 : Int32)) = 256) ∧ ((a &&& (128 : Int32)) = 128) ∧ ((((a ||| b) ||| c) &&& (32 : Int32)) = 32))) = 0 ↔ ¬ (((((a &&& b) &&& c) &&& (256 : Int32)) = 256) ∧ ((a &&& (128 : Int32)) = 128) ∧ ((((a ||| b) ||| c) &&& (32 : Int32)) = 32))).mpr h))
                        refine zv_c1 ht201 rfl rfl (zv_c1 ht201 rfl rfl ?_)
                        exact zEv.wk (L := [.retAddr 0, .retAddr 0]) (L' := [.int (zbo (((((a &&& b) &&& c) &&& (256 : Int32)) = 256) ∧ ((a &&& (128 : Int32)) = 128) ∧ ((((a ||| b) ||| c) &&& (32 : Int32)) = 32))), .int 256]) (And.intro (Or.inr rfl) (And.intro (Or.inr rfl) trivial)) (zv_sub (zz := Int32.ofNat (znt (((((a &&& b) &&& c) &&& (256 : Int32)) = 256) ∧ ((a &&& (128 : Int32)) = 128) ∧ ((((a ||| b) ||| c) &&& (32 : Int32)) = 32)) 256 0)) (zy := 256) (p := fun zz => zEv (d - 1) 140 9 [.retAddr 0, .retAddr 0] [.int zz] S pst199) (congrArg Int32.ofNat (znt_pos b202)) J203)
                    refine zv_cl ht rfl rfl rfl rfl (by omega) (Nat.le_of_ble_eq_true rfl) (C200 _ ?_)
                    show zEv d 142 337 [.ref 1592, .int (Int32.ofNat n), .retAddr 0, .int (Int32.ofNat y), .retAddr 0, .retAddr 0, .retAddr 0, .retAddr 0, .retAddr 0] [.int (Int32.ofNat (znt (((((a &&& b) &&& c) &&& (256 : Int32)) = 256) ∧ ((a &&& (128 : Int32)) = 128) ∧ ((((a ||| b) ||| c) &&& (32 : Int32)) = 32)) 256 0)), .int (ao10_e1 a b c)] S post
                    refine zv_c1 (st' := [.int ((ao10_e1 a b c) ||| (Int32.ofNat (znt (((((a &&& b) &&& c) &&& (256 : Int32)) = 256) ∧ ((a &&& (128 : Int32)) = 128) ∧ ((((a ||| b) ||| c) &&& (32 : Int32)) = 32)) 256 0)))]) (S' := S) ht rfl rfl ?_
                    refine zv_c2 (L' := [.ref 1592, .int (Int32.ofNat n), .retAddr 0, .int (Int32.ofNat y), .retAddr 0, .retAddr 0, .retAddr 0, .retAddr 0, .int ((ao10_e1 a b c) ||| (Int32.ofNat (znt (((((a &&& b) &&& c) &&& (256 : Int32)) = 256) ∧ ((a &&& (128 : Int32)) = 128) ∧ ((((a ||| b) ||| c) &&& (32 : Int32)) = 32)) 256 0)))]) ht rfl rfl ?_
                    refine zv_c1 ht rfl rfl (zv_c1 ht rfl rfl (zv_c1 ht rfl rfl ?_))
                    refine zv_gl (st' := [.ref 1616, .int (Int32.ofNat n), .ref 1592]) ht rfl hF rfl rfl rfl ?_
                    refine zv_c1 ht rfl rfl ?_
                    refine zv_iaE (j := y) (x := q) ht rfl rfl rfl rfl (zi_natE (a := y) rfl (by omega)) ⟨(Or.inl rfl), zi_inE (a := y) (n := 3000) rfl (by omega) (by omega)⟩ hq ?_
                    refine zv_c1 ht rfl rfl ?_
                    have C207 : ∀ (pst206 : Outcome × zS → Prop), (pst206 (.returned none, sA (sA S 1616 n q) 1617 n ((ao10_e1 a b c) ||| (Int32.ofNat (znt (((((a &&& b) &&& c) &&& (256 : Int32)) = 256) ∧ ((a &&& (128 : Int32)) = 128) ∧ ((((a ||| b) ||| c) &&& (32 : Int32)) = 32)) 256 0))))) → zCall (d - 1) 137 [.ref 1592, .int (Int32.ofNat n), .int q, .int ((ao10_e1 a b c) ||| (Int32.ofNat (znt (((((a &&& b) &&& c) &&& (256 : Int32)) = 256) ∧ ((a &&& (128 : Int32)) = 128) ∧ ((((a ||| b) ||| c) &&& (32 : Int32)) = 32)) 256 0)))] S pst206 := by
                      intro pst206 k209
                      have ht208 : ztab 137 = ztb137 := rfl
                      show zEv (d - 1) 137 0 [.ref 1592, .int (Int32.ofNat n), .int q, .int ((ao10_e1 a b c) ||| (Int32.ofNat (znt (((((a &&& b) &&& c) &&& (256 : Int32)) = 256) ∧ ((a &&& (128 : Int32)) = 128) ∧ ((((a ||| b) ||| c) &&& (32 : Int32)) = 32)) 256 0)))] [] S pst206
                      refine zv_c1 ht208 rfl rfl ?_
                      refine zv_gl (st' := [.ref 1616]) ht208 rfl hF rfl rfl rfl ?_
                      refine zv_c1 ht208 rfl rfl (zv_c1 ht208 rfl rfl ?_)
                      refine zv_is (j := n) (x := q) ht208 rfl rfl rfl rfl (zi_natE (a := n) rfl (by omega)) ⟨rfl, zi_inE (a := n) (n := 3000) rfl (by omega) (by omega)⟩ ?_
                      refine zv_c1 ht208 rfl rfl ?_
                      refine zv_gl (st' := [.ref 1617]) ht208 rfl hF rfl rfl rfl ?_
                      refine zv_c1 ht208 rfl rfl (zv_c1 ht208 rfl rfl ?_)
                      refine zv_is (j := n) (x := (ao10_e1 a b c) ||| (Int32.ofNat (znt (((((a &&& b) &&& c) &&& (256 : Int32)) = 256) ∧ ((a &&& (128 : Int32)) = 128) ∧ ((((a ||| b) ||| c) &&& (32 : Int32)) = 32)) 256 0))) ht208 rfl rfl rfl rfl (zi_natE (a := n) rfl (by omega)) ⟨rfl, zi_inE (a := n) (n := 3000) rfl (by omega) (by omega)⟩ ?_
                      exact zv_rt ht208 rfl rfl rfl rfl k209
                    refine zv_cl ht rfl rfl rfl rfl (by omega) (Nat.le_of_ble_eq_true rfl) (C207 _ ?_)
                    show zEv d 142 353 [.ref 1592, .int (Int32.ofNat n), .retAddr 0, .int (Int32.ofNat y), .retAddr 0, .retAddr 0, .retAddr 0, .retAddr 0, .int ((ao10_e1 a b c) ||| (Int32.ofNat (znt (((((a &&& b) &&& c) &&& (256 : Int32)) = 256) ∧ ((a &&& (128 : Int32)) = 128) ∧ ((((a ||| b) ||| c) &&& (32 : Int32)) = 32)) 256 0)))] [] (sA (sA S 1616 n q) 1617 n ((ao10_e1 a b c) ||| (Int32.ofNat (znt (((((a &&& b) &&& c) &&& (256 : Int32)) = 256) ∧ ((a &&& (128 : Int32)) = 128) ∧ ((((a ||| b) ||| c) &&& (32 : Int32)) = 32)) 256 0)))) post
                    exact zv_rt ht rfl rfl rfl rfl (h1 b1 b9 b21 b22)
                  have J195 : ((¬ ((((a &&& b) &&& c) &&& (256 : Int32)) = 256)) ∨ (¬ ((a &&& (128 : Int32)) = 128)) ∨ (¬ ((((a ||| b) ||| c) &&& (32 : Int32)) = 32))) → zEv d 142 330 [.ref 1592, .int (Int32.ofNat n), .retAddr 0, .int (Int32.ofNat y), .retAddr 0, .retAddr 0, .retAddr 0, .retAddr 0, .retAddr 0] [.int (ao10_e1 a b c)] S post := by
                    intro b196
                    refine zv_c1 ht rfl rfl ?_
                    exact (zv_sub (zz := zbo (((((a &&& b) &&& c) &&& (256 : Int32)) = 256) ∧ ((a &&& (128 : Int32)) = 128) ∧ ((((a ||| b) ||| c) &&& (32 : Int32)) = 32))) (zy := 0) (p := fun zz => zEv d 142 331 [.ref 1592, .int (Int32.ofNat n), .retAddr 0, .int (Int32.ofNat y), .retAddr 0, .retAddr 0, .retAddr 0, .retAddr 0, .retAddr 0] [.int zz, .int (ao10_e1 a b c)] S post) (zbo_neg (b21.elim (fun y1 => (b196.elim (fun y2 => (fun h => y2 h.1)) (fun y2 => (y2.elim (fun y3 => (fun h => (fun h => y3 h.1) h.2)) (fun y3 => (fun h => (fun h => y3 h.2) h.2)))))) (fun y1 => (b196.elim (fun y2 => (fun h => y2 h.1)) (fun y2 => (y1.elim (fun y3 => (y2.elim (fun y4 => (fun h => (fun h => y4 h.1) h.2)) (fun y4 => (fun h => (fun h => y4 h.2) h.2)))) (fun y3 => (y2.elim (fun y4 => (fun h => (fun h => y4 h.1) h.2)) (fun y4 => (fun h => (fun h => y4 h.2) h.2)))))))))) J197)
                  refine zv_br ht rfl rfl rfl (fun b178 => ?_) (fun b178 => ?_)
                  · replace b178 : ¬ ((((a &&& b) &&& c) &&& (256 : Int32)) = 256) := (zbo_eq0 : (zbo ((((a &&& b) &&& c) &&& (256 : Int32)) = 256)) = 0 ↔ ¬ ((((a &&& b) &&& c) &&& (256 : Int32)) = 256)).mp b178
                    exact zEv.wk (L := [.ref 1592, .int (Int32.ofNat n), .retAddr 0, .int (Int32.ofNat y), .retAddr 0, .retAddr 0, .retAddr 0, .retAddr 0, .retAddr 0]) (L' := [.ref 1592, .int (Int32.ofNat n), .retAddr 0, .int (Int32.ofNat y), .retAddr 0, .int a, .int b, .int c, .int (ao10_e1 a b c)]) (And.intro (Or.inl rfl) (And.intro (Or.inl rfl) (And.intro (Or.inl rfl) (And.intro (Or.inl rfl) (And.intro (Or.inl rfl) (And.intro (Or.inr rfl) (And.intro (Or.inr rfl) (And.intro (Or.inr rfl) (And.intro (Or.inr rfl) trivial))))))))) (J195 (Or.inl b178))
                  · replace b178 : (((a &&& b) &&& c) &&& (256 : Int32)) = 256 := Classical.byContradiction (fun h => b178 ((zbo_eq0 : (zbo ((((a &&& b) &&& c) &&& (256 : Int32)) = 256)) = 0 ↔ ¬ ((((a &&& b) &&& c) &&& (256 : Int32)) = 256)).mpr h))
                    refine zv_c1 ht rfl rfl (zv_c1 ht rfl rfl ?_)
                    have C180 : ∀ (pst179 : Outcome × zS → Prop), (pst179 (.returned (some (.int (zbo ((a &&& (128 : Int32)) = 128)))), S)) → zCall (d - 1) 139 [.int a, .int 128] S pst179 := by
                      intro pst179 k185
                      have ht181 : ztab 139 = ztb139 := rfl
                      show zEv (d - 1) 139 0 [.int a, .int 128] [] S pst179
                      refine zv_c1 ht181 rfl rfl (zv_c1 ht181 rfl rfl ?_)
                      refine zv_c1 (st' := [.int (a &&& (128 : Int32))]) (S' := S) ht181 rfl rfl ?_
                      refine zv_c1 ht181 rfl rfl ?_
                      have J183 : zEv (d - 1) 139 12 [.retAddr 0, .retAddr 0] [.int (zbo ((a &&& (128 : Int32)) = 128))] S pst179 := by
                        exact zv_rc ht181 rfl rfl rfl rfl zbo_rng k185
                      refine zv_br ht181 rfl rfl rfl (fun b182 => ?_) (fun b182 => ?_)
                      · refine zv_c1 ht181 rfl rfl ?_
                        exact zEv.wk (L := [.retAddr 0, .retAddr 0]) (L' := [.int a, .int 128]) (And.intro (Or.inr rfl) (And.intro (Or.inr rfl) trivial)) (zv_sub (zz := zbo ((a &&& (128 : Int32)) = 128)) (zy := 0) (p := fun zz => zEv (d - 1) 139 12 [.retAddr 0, .retAddr 0] [.int zz] S pst179) (zbo_neg b182) J183)
                      · replace b182 : (a &&& (128 : Int32)) = 128 := Classical.not_not.mp b182
                        refine zv_c1 ht181 rfl rfl (zv_c1 ht181 rfl rfl ?_)
                        exact zEv.wk (L := [.retAddr 0, .retAddr 0]) (L' := [.int a, .int 128]) (And.intro (Or.inr rfl) (And.intro (Or.inr rfl) trivial)) (zv_sub (zz := zbo ((a &&& (128 : Int32)) = 128)) (zy := 1) (p := fun zz => zEv (d - 1) 139 12 [.retAddr 0, .retAddr 0] [.int zz] S pst179) (zbo_pos b182) J183)
                    refine zv_cl ht rfl rfl rfl rfl (by omega) (Nat.le_of_ble_eq_true rfl) (C180 _ ?_)
                    show zEv d 142 307 [.ref 1592, .int (Int32.ofNat n), .retAddr 0, .int (Int32.ofNat y), .retAddr 0, .int a, .int b, .int c, .int (ao10_e1 a b c)] [.int (zbo ((a &&& (128 : Int32)) = 128)), .int (ao10_e1 a b c)] S post
                    refine zv_br ht rfl rfl rfl (fun b186 => ?_) (fun b186 => ?_)
                    · replace b186 : ¬ ((a &&& (128 : Int32)) = 128) := (zbo_eq0 : (zbo ((a &&& (128 : Int32)) = 128)) = 0 ↔ ¬ ((a &&& (128 : Int32)) = 128)).mp b186
                      exact zEv.wk (L := [.ref 1592, .int (Int32.ofNat n), .retAddr 0, .int (Int32.ofNat y), .retAddr 0, .retAddr 0, .retAddr 0, .retAddr 0, .retAddr 0]) (L' := [.ref 1592, .int (Int32.ofNat n), .retAddr 0, .int (Int32.ofNat y), .retAddr 0, .int a, .int b, .int c, .int (ao10_e1 a b c)]) (And.intro (Or.inl rfl) (And.intro (Or.inl rfl) (And.intro (Or.inl rfl) (And.intro (Or.inl rfl) (And.intro (Or.inl rfl) (And.intro (Or.inr rfl) (And.intro (Or.inr rfl) (And.intro (Or.inr rfl) (And.intro (Or.inr rfl) trivial))))))))) (J195 (Or.inr (Or.inl b186)))
                    · replace b186 : (a &&& (128 : Int32)) = 128 := Classical.byContradiction (fun h => b186 ((zbo_eq0 : (zbo ((a &&& (128 : Int32)) = 128)) = 0 ↔ ¬ ((a &&& (128 : Int32)) = 128)).mpr h))
                      refine zv_c1 ht rfl rfl (zv_c1 ht rfl rfl ?_)
                      refine zv_c1 (st' := [.int (a ||| b), .int (ao10_e1 a b c)]) (S' := S) ht rfl rfl ?_
                      refine zv_c1 ht rfl rfl ?_
                      refine zv_c1 (st' := [.int ((a ||| b) ||| c), .int (ao10_e1 a b c)]) (S' := S) ht rfl rfl ?_
                      refine zv_c1 ht rfl rfl ?_
                      have C188 : ∀ (pst187 : Outcome × zS → Prop), (pst187 (.returned (some (.int (zbo ((((a ||| b) ||| c) &&& (32 : Int32)) = 32)))), S)) → zCall (d - 1) 139 [.int ((a ||| b) ||| c), .int 32] S pst187 := by
                        intro pst187 k193
                        have ht189 : ztab 139 = ztb139 := rfl
                        show zEv (d - 1) 139 0 [.int ((a ||| b) ||| c), .int 32] [] S pst187
                        refine zv_c1 ht189 rfl rfl (zv_c1 ht189 rfl rfl ?_)
                        refine zv_c1 (st' := [.int (((a ||| b) ||| c) &&& (32 : Int32))]) (S' := S) ht189 rfl rfl ?_
                        refine zv_c1 ht189 rfl rfl ?_
                        have J191 : zEv (d - 1) 139 12 [.retAddr 0, .retAddr 0] [.int (zbo ((((a ||| b) ||| c) &&& (32 : Int32)) = 32))] S pst187 := by
                          exact zv_rc ht189 rfl rfl rfl rfl zbo_rng k193
                        refine zv_br ht189 rfl rfl rfl (fun b190 => ?_) (fun b190 => ?_)
                        · refine zv_c1 ht189 rfl rfl ?_
                          exact zEv.wk (L := [.retAddr 0, .retAddr 0]) (L' := [.int ((a ||| b) ||| c), .int 32]) (And.intro (Or.inr rfl) (And.intro (Or.inr rfl) trivial)) (zv_sub (zz := zbo ((((a ||| b) ||| c) &&& (32 : Int32)) = 32)) (zy := 0) (p := fun zz => zEv (d - 1) 139 12 [.retAddr 0, .retAddr 0] [.int zz] S pst187) (zbo_neg b190) J191)
                        · replace b190 : (((a ||| b) ||| c) &&& (32 : Int32)) = 32 := Classical.not_not.mp b190
                          refine zv_c1 ht189 rfl rfl (zv_c1 ht189 rfl rfl ?_)
                          exact zEv.wk (L := [.retAddr 0, .retAddr 0]) (L' := [.int ((a ||| b) ||| c), .int 32]) (And.intro (Or.inr rfl) (And.intro (Or.inr rfl) trivial)) (zv_sub (zz := zbo ((((a ||| b) ||| c) &&& (32 : Int32)) = 32)) (zy := 1) (p := fun zz => zEv (d - 1) 139 12 [.retAddr 0, .retAddr 0] [.int zz] S pst187) (zbo_pos b190) J191)
                      refine zv_cl ht rfl rfl rfl rfl (by omega) (Nat.le_of_ble_eq_true rfl) (C188 _ ?_)
                      show zEv d 142 323 [.ref 1592, .int (Int32.ofNat n), .retAddr 0, .int (Int32.ofNat y), .retAddr 0, .int a, .int b, .int c, .int (ao10_e1 a b c)] [.int (zbo ((((a ||| b) ||| c) &&& (32 : Int32)) = 32)), .int (ao10_e1 a b c)] S post
                      refine zv_br ht rfl rfl rfl (fun b194 => ?_) (fun b194 => ?_)
                      · replace b194 : ¬ ((((a ||| b) ||| c) &&& (32 : Int32)) = 32) := (zbo_eq0 : (zbo ((((a ||| b) ||| c) &&& (32 : Int32)) = 32)) = 0 ↔ ¬ ((((a ||| b) ||| c) &&& (32 : Int32)) = 32)).mp b194
                        exact zEv.wk (L := [.ref 1592, .int (Int32.ofNat n), .retAddr 0, .int (Int32.ofNat y), .retAddr 0, .retAddr 0, .retAddr 0, .retAddr 0, .retAddr 0]) (L' := [.ref 1592, .int (Int32.ofNat n), .retAddr 0, .int (Int32.ofNat y), .retAddr 0, .int a, .int b, .int c, .int (ao10_e1 a b c)]) (And.intro (Or.inl rfl) (And.intro (Or.inl rfl) (And.intro (Or.inl rfl) (And.intro (Or.inl rfl) (And.intro (Or.inl rfl) (And.intro (Or.inr rfl) (And.intro (Or.inr rfl) (And.intro (Or.inr rfl) (And.intro (Or.inr rfl) trivial))))))))) (J195 (Or.inr (Or.inr b194)))
                      · replace b194 : (((a ||| b) ||| c) &&& (32 : Int32)) = 32 := Classical.byContradiction (fun h => b194 ((zbo_eq0 : (zbo ((((a ||| b) ||| c) &&& (32 : Int32)) = 32)) = 0 ↔ ¬ ((((a ||| b) ||| c) &&& (32 : Int32)) = 32)).mpr h))
                        refine zv_c1 ht rfl rfl (zv_c1 ht rfl rfl ?_)
                        exact zEv.wk (L := [.ref 1592, .int (Int32.ofNat n), .retAddr 0, .int (Int32.ofNat y), .retAddr 0, .retAddr 0, .retAddr 0, .retAddr 0, .retAddr 0]) (L' := [.ref 1592, .int (Int32.ofNat n), .retAddr 0, .int (Int32.ofNat y), .retAddr 0, .int a, .int b, .int c, .int (ao10_e1 a b c)]) (And.intro (Or.inl rfl) (And.intro (Or.inl rfl) (And.intro (Or.inl rfl) (And.intro (Or.inl rfl) (And.intro (Or.inl rfl) (And.intro (Or.inr rfl) (And.intro (Or.inr rfl) (And.intro (Or.inr rfl) (And.intro (Or.inr rfl) trivial))))))))) (zv_sub (zz := zbo (((((a &&& b) &&& c) &&& (256 : Int32)) = 256) ∧ ((a &&& (128 : Int32)) = 128) ∧ ((((a ||| b) ||| c) &&& (32 : Int32)) = 32))) (zy := 1) (p := fun zz => zEv d 142 331 [.ref 1592, .int (Int32.ofNat n), .retAddr 0, .int (Int32.ofNat y), .retAddr 0, .retAddr 0, .retAddr 0, .retAddr 0, .retAddr 0] [.int zz, .int (ao10_e1 a b c)] S post) (zbo_pos ⟨b178, ⟨b186, b194⟩⟩) J197)
                have J160 : ((¬ ((c &&& (128 : Int32)) = 128)) ∨ ((¬ ((a &&& (32 : Int32)) = 32)) ∧ (¬ ((b &&& (64 : Int32)) = 64)))) → zEv d 142 269 [.ref 1592, .int (Int32.ofNat n), .retAddr 0, .int (Int32.ofNat y), .retAddr 0, .int a, .int b, .int c, .retAddr 0] [.int ((Int32.ofNat (znt (((c &&& (32 : Int32)) = 32) ∧ (((a ||| b) &&& (32 : Int32)) = 32)) 32 0)) ||| (Int32.ofNat (znt (((c &&& (64 : Int32)) = 64) ∧ (((a &&& (32 : Int32)) = 32) ∨ ((b &&& (64 : Int32)) = 64))) 64 0))), .int ((((((a &&& b) &&& c) &&& (1 : Int32)) ||| ((b &&& c) &&& (16 : Int32))) ||| (c &&& (8 : Int32))) ||| (Int32.ofNat (znt (((((a &&& (1 : Int32)) &&& (1 : Int32)) = 1) ∧ (((b &&& c) &&& (2 : Int32)) = 2)) ∨ (((a &&& (2 : Int32)) = 2) ∧ (((b &&& c) &&& (1 : Int32)) = 1))) 2 0)))] S post := by
                  intro b161
                  refine zv_c1 ht rfl rfl ?_
                  exact (zv_sub (zz := zbo (((c &&& (128 : Int32)) = 128) ∧ (((a &&& (32 : Int32)) = 32) ∨ ((b &&& (64 : Int32)) = 64)))) (zy := 0) (p := fun zz => zEv d 142 270 [.ref 1592, .int (Int32.ofNat n), .retAddr 0, .int (Int32.ofNat y), .retAddr 0, .int a, .int b, .int c, .retAddr 0] [.int zz, .int ((Int32.ofNat (znt (((c &&& (32 : Int32)) = 32) ∧ (((a ||| b) &&& (32 : Int32)) = 32)) 32 0)) ||| (Int32.ofNat (znt (((c &&& (64 : Int32)) = 64) ∧ (((a &&& (32 : Int32)) = 32) ∨ ((b &&& (64 : Int32)) = 64))) 64 0))), .int ((((((a &&& b) &&& c) &&& (1 : Int32)) ||| ((b &&& c) &&& (16 : Int32))) ||| (c &&& (8 : Int32))) ||| (Int32.ofNat (znt (((((a &&& (1 : Int32)) &&& (1 : Int32)) = 1) ∧ (((b &&& c) &&& (2 : Int32)) = 2)) ∨ (((a &&& (2 : Int32)) = 2) ∧ (((b &&& c) &&& (1 : Int32)) = 1))) 2 0)))] S post) (zbo_neg (b21.elim (fun y1 => (b161.elim (fun y2 => (fun h => y2 h.1)) (fun y2 => (fun h => (fun h => h.elim y2.1 y2.2) h.2)))) (fun y1 => (b161.elim (fun y2 => (fun h => y2 h.1)) (fun y2 => (fun h => (fun h => h.elim y2.1 y2.2) h.2)))))) J162)
                refine zv_br ht rfl rfl rfl (fun b141 => ?_) (fun b141 => ?_)
                · replace b141 : ¬ ((c &&& (128 : Int32)) = 128) := (zbo_eq0 : (zbo ((c &&& (128 : Int32)) = 128)) = 0 ↔ ¬ ((c &&& (128 : Int32)) = 128)).mp b141
                  exact (J160 (Or.inl b141))
                · replace b141 : (c &&& (128 : Int32)) = 128 := Classical.byContradiction (fun h => b141 ((zbo_eq0 : (zbo ((c &&& (128 : Int32)) = 128)) = 0 ↔ ¬ ((c &&& (128 : Int32)) = 128)).mpr h))
                  refine zv_c1 ht rfl rfl (zv_c1 ht rfl rfl ?_)
                  have C143 : ∀ (pst142 : Outcome × zS → Prop), (pst142 (.returned (some (.int (zbo ((a &&& (32 : Int32)) = 32)))), S)) → zCall (d - 1) 139 [.int a, .int 32] S pst142 := by
                    intro pst142 k148
                    have ht144 : ztab 139 = ztb139 := rfl
                    show zEv (d - 1) 139 0 [.int a, .int 32] [] S pst142
                    refine zv_c1 ht144 rfl rfl (zv_c1 ht144 rfl rfl ?_)
                    refine zv_c1 (st' := [.int (a &&& (32 : Int32))]) (S' := S) ht144 rfl rfl ?_
                    refine zv_c1 ht144 rfl rfl ?_
                    have J146 : zEv (d - 1) 139 12 [.retAddr 0, .retAddr 0] [.int (zbo ((a &&& (32 : Int32)) = 32))] S pst142 := by
                      exact zv_rc ht144 rfl rfl rfl rfl zbo_rng k148
                    refine zv_br ht144 rfl rfl rfl (fun b145 => ?_) (fun b145 => ?_)
                    · refine zv_c1 ht144 rfl rfl ?_
                      exact zEv.wk (L := [.retAddr 0, .retAddr 0]) (L' := [.int a, .int 32]) (And.intro (Or.inr rfl) (And.intro (Or.inr rfl) trivial)) (zv_sub (zz := zbo ((a &&& (32 : Int32)) = 32)) (zy := 0) (p := fun zz => zEv (d - 1) 139 12 [.retAddr 0, .retAddr 0] [.int zz] S pst142) (zbo_neg b145) J146)
                    · replace b145 : (a &&& (32 : Int32)) = 32 := Classical.not_not.mp b145
                      refine zv_c1 ht144 rfl rfl (zv_c1 ht144 rfl rfl ?_)
                      exact zEv.wk (L := [.retAddr 0, .retAddr 0]) (L' := [.int a, .int 32]) (And.intro (Or.inr rfl) (And.intro (Or.inr rfl) trivial)) (zv_sub (zz := zbo ((a &&& (32 : Int32)) = 32)) (zy := 1) (p := fun zz => zEv (d - 1) 139 12 [.retAddr 0, .retAddr 0] [.int zz] S pst142) (zbo_pos b145) J146)
                  refine zv_cl ht rfl rfl rfl rfl (by omega) (Nat.le_of_ble_eq_true rfl) (C143 _ ?_)
                  show zEv d 142 252 [.ref 1592, .int (Int32.ofNat n), .retAddr 0, .int (Int32.ofNat y), .retAddr 0, .int a, .int b, .int c, .retAddr 0] [.int (zbo ((a &&& (32 : Int32)) = 32)), .int ((Int32.ofNat (znt (((c &&& (32 : Int32)) = 32) ∧ (((a ||| b) &&& (32 : Int32)) = 32)) 32 0)) ||| (Int32.ofNat (znt (((c &&& (64 : Int32)) = 64) ∧ (((a &&& (32 : Int32)) = 32) ∨ ((b &&& (64 : Int32)) = 64))) 64 0))), .int ((((((a &&& b) &&& c) &&& (1 : Int32)) ||| ((b &&& c) &&& (16 : Int32))) ||| (c &&& (8 : Int32))) ||| (Int32.ofNat (znt (((((a &&& (1 : Int32)) &&& (1 : Int32)) = 1) ∧ (((b &&& c) &&& (2 : Int32)) = 2)) ∨ (((a &&& (2 : Int32)) = 2) ∧ (((b &&& c) &&& (1 : Int32)) = 1))) 2 0)))] S post
                  have J158 : (((a &&& (32 : Int32)) = 32) ∨ ((b &&& (64 : Int32)) = 64)) → zEv d 142 265 [.ref 1592, .int (Int32.ofNat n), .retAddr 0, .int (Int32.ofNat y), .retAddr 0, .int a, .int b, .int c, .retAddr 0] [.int ((Int32.ofNat (znt (((c &&& (32 : Int32)) = 32) ∧ (((a ||| b) &&& (32 : Int32)) = 32)) 32 0)) ||| (Int32.ofNat (znt (((c &&& (64 : Int32)) = 64) ∧ (((a &&& (32 : Int32)) = 32) ∨ ((b &&& (64 : Int32)) = 64))) 64 0))), .int ((((((a &&& b) &&& c) &&& (1 : Int32)) ||| ((b &&& c) &&& (16 : Int32))) ||| (c &&& (8 : Int32))) ||| (Int32.ofNat (znt (((((a &&& (1 : Int32)) &&& (1 : Int32)) = 1) ∧ (((b &&& c) &&& (2 : Int32)) = 2)) ∨ (((a &&& (2 : Int32)) = 2) ∧ (((b &&& c) &&& (1 : Int32)) = 1))) 2 0)))] S post := by
                    intro b159
                    refine zv_c1 ht rfl rfl (zv_c1 ht rfl rfl ?_)
                    exact (zv_sub (zz := zbo (((c &&& (128 : Int32)) = 128) ∧ (((a &&& (32 : Int32)) = 32) ∨ ((b &&& (64 : Int32)) = 64)))) (zy := 1) (p := fun zz => zEv d 142 270 [.ref 1592, .int (Int32.ofNat n), .retAddr 0, .int (Int32.ofNat y), .retAddr 0, .int a, .int b, .int c, .retAddr 0] [.int zz, .int ((Int32.ofNat (znt (((c &&& (32 : Int32)) = 32) ∧ (((a ||| b) &&& (32 : Int32)) = 32)) 32 0)) ||| (Int32.ofNat (znt (((c &&& (64 : Int32)) = 64) ∧ (((a &&& (32 : Int32)) = 32) ∨ ((b &&& (64 : Int32)) = 64))) 64 0))), .int ((((((a &&& b) &&& c) &&& (1 : Int32)) ||| ((b &&& c) &&& (16 : Int32))) ||| (c &&& (8 : Int32))) ||| (Int32.ofNat (znt (((((a &&& (1 : Int32)) &&& (1 : Int32)) = 1) ∧ (((b &&& c) &&& (2 : Int32)) = 2)) ∨ (((a &&& (2 : Int32)) = 2) ∧ (((b &&& c) &&& (1 : Int32)) = 1))) 2 0)))] S post) (zbo_pos ⟨b141, b159⟩) J162)
                  refine zv_br ht rfl rfl rfl (fun b149 => ?_) (fun b149 => ?_)
                  · replace b149 : (a &&& (32 : Int32)) = 32 := Classical.byContradiction (fun h => b149 ((zbo_eq0 : (zbo ((a &&& (32 : Int32)) = 32)) = 0 ↔ ¬ ((a &&& (32 : Int32)) = 32)).mpr h))
                    exact (J158 (Or.inl b149))
                  · replace b149 : ¬ ((a &&& (32 : Int32)) = 32) := (zbo_eq0 : (zbo ((a &&& (32 : Int32)) = 32)) = 0 ↔ ¬ ((a &&& (32 : Int32)) = 32)).mp (Classical.not_not.mp b149)
                    refine zv_c1 ht rfl rfl (zv_c1 ht rfl rfl ?_)
                    have C151 : ∀ (pst150 : Outcome × zS → Prop), (pst150 (.returned (some (.int (zbo ((b &&& (64 : Int32)) = 64)))), S)) → zCall (d - 1) 139 [.int b, .int 64] S pst150 := by
                      intro pst150 k156
                      have ht152 : ztab 139 = ztb139 := rfl
                      show zEv (d - 1) 139 0 [.int b, .int 64] [] S pst150
                      refine zv_c1 ht152 rfl rfl (zv_c1 ht152 rfl rfl ?_)
                      refine zv_c1 (st' := [.int (b &&& (64 : Int32))]) (S' := S) ht152 rfl rfl ?_
                      refine zv_c1 ht152 rfl rfl ?_
                      have J154 : zEv (d - 1) 139 12 [.retAddr 0, .retAddr 0] [.int (zbo ((b &&& (64 : Int32)) = 64))] S pst150 := by
                        exact zv_rc ht152 rfl rfl rfl rfl zbo_rng k156
                      refine zv_br ht152 rfl rfl rfl (fun b153 => ?_) (fun b153 => ?_)
                      · refine zv_c1 ht152 rfl rfl ?_
                        exact zEv.wk (L := [.retAddr 0, .retAddr 0]) (L' := [.int b, .int 64]) (And.intro (Or.inr rfl) (And.intro (Or.inr rfl) trivial)) (zv_sub (zz := zbo ((b &&& (64 : Int32)) = 64)) (zy := 0) (p := fun zz => zEv (d - 1) 139 12 [.retAddr 0, .retAddr 0] [.int zz] S pst150) (zbo_neg b153) J154)
                      · replace b153 : (b &&& (64 : Int32)) = 64 := Classical.not_not.mp b153
                        refine zv_c1 ht152 rfl rfl (zv_c1 ht152 rfl rfl ?_)
                        exact zEv.wk (L := [.retAddr 0, .retAddr 0]) (L' := [.int b, .int 64]) (And.intro (Or.inr rfl) (And.intro (Or.inr rfl) trivial)) (zv_sub (zz := zbo ((b &&& (64 : Int32)) = 64)) (zy := 1) (p := fun zz => zEv (d - 1) 139 12 [.retAddr 0, .retAddr 0] [.int zz] S pst150) (zbo_pos b153) J154)
                    refine zv_cl ht rfl rfl rfl rfl (by omega) (Nat.le_of_ble_eq_true rfl) (C151 _ ?_)
                    show zEv d 142 262 [.ref 1592, .int (Int32.ofNat n), .retAddr 0, .int (Int32.ofNat y), .retAddr 0, .int a, .int b, .int c, .retAddr 0] [.int (zbo ((b &&& (64 : Int32)) = 64)), .int ((Int32.ofNat (znt (((c &&& (32 : Int32)) = 32) ∧ (((a ||| b) &&& (32 : Int32)) = 32)) 32 0)) ||| (Int32.ofNat (znt (((c &&& (64 : Int32)) = 64) ∧ (((a &&& (32 : Int32)) = 32) ∨ ((b &&& (64 : Int32)) = 64))) 64 0))), .int ((((((a &&& b) &&& c) &&& (1 : Int32)) ||| ((b &&& c) &&& (16 : Int32))) ||| (c &&& (8 : Int32))) ||| (Int32.ofNat (znt (((((a &&& (1 : Int32)) &&& (1 : Int32)) = 1) ∧ (((b &&& c) &&& (2 : Int32)) = 2)) ∨ (((a &&& (2 : Int32)) = 2) ∧ (((b &&& c) &&& (1 : Int32)) = 1))) 2 0)))] S post
                    refine zv_br ht rfl rfl rfl (fun b157 => ?_) (fun b157 => ?_)
                    · replace b157 : ¬ ((b &&& (64 : Int32)) = 64) := (zbo_eq0 : (zbo ((b &&& (64 : Int32)) = 64)) = 0 ↔ ¬ ((b &&& (64 : Int32)) = 64)).mp b157
                      exact (J160 (Or.inr ⟨b149, b157⟩))
                    · replace b157 : (b &&& (64 : Int32)) = 64 := Classical.byContradiction (fun h => b157 ((zbo_eq0 : (zbo ((b &&& (64 : Int32)) = 64)) = 0 ↔ ¬ ((b &&& (64 : Int32)) = 64)).mpr h))
                      exact (J158 (Or.inr b157))
              have J123 : ((¬ ((c &&& (64 : Int32)) = 64)) ∨ ((¬ ((a &&& (32 : Int32)) = 32)) ∧ (¬ ((b &&& (64 : Int32)) = 64)))) → zEv d 142 227 [.ref 1592, .int (Int32.ofNat n), .retAddr 0, .int (Int32.ofNat y), .retAddr 0, .int a, .int b, .int c, .retAddr 0] [.int (Int32.ofNat (znt (((c &&& (32 : Int32)) = 32) ∧ (((a ||| b) &&& (32 : Int32)) = 32)) 32 0)), .int ((((((a &&& b) &&& c) &&& (1 : Int32)) ||| ((b &&& c) &&& (16 : Int32))) ||| (c &&& (8 : Int32))) ||| (Int32.ofNat (znt (((((a &&& (1 : Int32)) &&& (1 : Int32)) = 1) ∧ (((b &&& c) &&& (2 : Int32)) = 2)) ∨ (((a &&& (2 : Int32)) = 2) ∧ (((b &&& c) &&& (1 : Int32)) = 1))) 2 0)))] S post := by
                intro b124
                refine zv_c1 ht rfl rfl ?_
                exact (zv_sub (zz := zbo (((c &&& (64 : Int32)) = 64) ∧ (((a &&& (32 : Int32)) = 32) ∨ ((b &&& (64 : Int32)) = 64)))) (zy := 0) (p := fun zz => zEv d 142 228 [.ref 1592, .int (Int32.ofNat n), .retAddr 0, .int (Int32.ofNat y), .retAddr 0, .int a, .int b, .int c, .retAddr 0] [.int zz, .int (Int32.ofNat (znt (((c &&& (32 : Int32)) = 32) ∧ (((a ||| b) &&& (32 : Int32)) = 32)) 32 0)), .int ((((((a &&& b) &&& c) &&& (1 : Int32)) ||| ((b &&& c) &&& (16 : Int32))) ||| (c &&& (8 : Int32))) ||| (Int32.ofNat (znt (((((a &&& (1 : Int32)) &&& (1 : Int32)) = 1) ∧ (((b &&& c) &&& (2 : Int32)) = 2)) ∨ (((a &&& (2 : Int32)) = 2) ∧ (((b &&& c) &&& (1 : Int32)) = 1))) 2 0)))] S post) (zbo_neg (b21.elim (fun y1 => (b124.elim (fun y2 => (fun h => y2 h.1)) (fun y2 => (fun h => (fun h => h.elim y2.1 y2.2) h.2)))) (fun y1 => (b124.elim (fun y2 => (fun h => y2 h.1)) (fun y2 => (fun h => (fun h => h.elim y2.1 y2.2) h.2)))))) J125)
              refine zv_br ht rfl rfl rfl (fun b104 => ?_) (fun b104 => ?_)
              · replace b104 : ¬ ((c &&& (64 : Int32)) = 64) := (zbo_eq0 : (zbo ((c &&& (64 : Int32)) = 64)) = 0 ↔ ¬ ((c &&& (64 : Int32)) = 64)).mp b104
                exact (J123 (Or.inl b104))
              · replace b104 : (c &&& (64 : Int32)) = 64 := Classical.byContradiction (fun h => b104 ((zbo_eq0 : (zbo ((c &&& (64 : Int32)) = 64)) = 0 ↔ ¬ ((c &&& (64 : Int32)) = 64)).mpr h))
                refine zv_c1 ht rfl rfl (zv_c1 ht rfl rfl ?_)
                have C106 : ∀ (pst105 : Outcome × zS → Prop), (pst105 (.returned (some (.int (zbo ((a &&& (32 : Int32)) = 32)))), S)) → zCall (d - 1) 139 [.int a, .int 32] S pst105 := by
                  intro pst105 k111
                  have ht107 : ztab 139 = ztb139 := rfl
                  show zEv (d - 1) 139 0 [.int a, .int 32] [] S pst105
                  refine zv_c1 ht107 rfl rfl (zv_c1 ht107 rfl rfl ?_)
                  refine zv_c1 (st' := [.int (a &&& (32 : Int32))]) (S' := S) ht107 rfl rfl ?_
                  refine zv_c1 ht107 rfl rfl ?_
                  have J109 : zEv (d - 1) 139 12 [.retAddr 0, .retAddr 0] [.int (zbo ((a &&& (32 : Int32)) = 32))] S pst105 := by
                    exact zv_rc ht107 rfl rfl rfl rfl zbo_rng k111
                  refine zv_br ht107 rfl rfl rfl (fun b108 => ?_) (fun b108 => ?_)
                  · refine zv_c1 ht107 rfl rfl ?_
                    exact zEv.wk (L := [.retAddr 0, .retAddr 0]) (L' := [.int a, .int 32]) (And.intro (Or.inr rfl) (And.intro (Or.inr rfl) trivial)) (zv_sub (zz := zbo ((a &&& (32 : Int32)) = 32)) (zy := 0) (p := fun zz => zEv (d - 1) 139 12 [.retAddr 0, .retAddr 0] [.int zz] S pst105) (zbo_neg b108) J109)
                  · replace b108 : (a &&& (32 : Int32)) = 32 := Classical.not_not.mp b108
                    refine zv_c1 ht107 rfl rfl (zv_c1 ht107 rfl rfl ?_)
                    exact zEv.wk (L := [.retAddr 0, .retAddr 0]) (L' := [.int a, .int 32]) (And.intro (Or.inr rfl) (And.intro (Or.inr rfl) trivial)) (zv_sub (zz := zbo ((a &&& (32 : Int32)) = 32)) (zy := 1) (p := fun zz => zEv (d - 1) 139 12 [.retAddr 0, .retAddr 0] [.int zz] S pst105) (zbo_pos b108) J109)
                refine zv_cl ht rfl rfl rfl rfl (by omega) (Nat.le_of_ble_eq_true rfl) (C106 _ ?_)
                show zEv d 142 210 [.ref 1592, .int (Int32.ofNat n), .retAddr 0, .int (Int32.ofNat y), .retAddr 0, .int a, .int b, .int c, .retAddr 0] [.int (zbo ((a &&& (32 : Int32)) = 32)), .int (Int32.ofNat (znt (((c &&& (32 : Int32)) = 32) ∧ (((a ||| b) &&& (32 : Int32)) = 32)) 32 0)), .int ((((((a &&& b) &&& c) &&& (1 : Int32)) ||| ((b &&& c) &&& (16 : Int32))) ||| (c &&& (8 : Int32))) ||| (Int32.ofNat (znt (((((a &&& (1 : Int32)) &&& (1 : Int32)) = 1) ∧ (((b &&& c) &&& (2 : Int32)) = 2)) ∨ (((a &&& (2 : Int32)) = 2) ∧ (((b &&& c) &&& (1 : Int32)) = 1))) 2 0)))] S post
                have J121 : (((a &&& (32 : Int32)) = 32) ∨ ((b &&& (64 : Int32)) = 64)) → zEv d 142 223 [.ref 1592, .int (Int32.ofNat n), .retAddr 0, .int (Int32.ofNat y), .retAddr 0, .int a, .int b, .int c, .retAddr 0] [.int (Int32.ofNat (znt (((c &&& (32 : Int32)) = 32) ∧ (((a ||| b) &&& (32 : Int32)) = 32)) 32 0)), .int ((((((a &&& b) &&& c) &&& (1 : Int32)) ||| ((b &&& c) &&& (16 : Int32))) ||| (c &&& (8 : Int32))) ||| (Int32.ofNat (znt (((((a &&& (1 : Int32)) &&& (1 : Int32)) = 1) ∧ (((b &&& c) &&& (2 : Int32)) = 2)) ∨ (((a &&& (2 : Int32)) = 2) ∧ (((b &&& c) &&& (1 : Int32)) = 1))) 2 0)))] S post := by
                  intro b122
                  refine zv_c1 ht rfl rfl (zv_c1 ht rfl rfl ?_)
                  exact (zv_sub (zz := zbo (((c &&& (64 : Int32)) = 64) ∧ (((a &&& (32 : Int32)) = 32) ∨ ((b &&& (64 : Int32)) = 64)))) (zy := 1) (p := fun zz => zEv d 142 228 [.ref 1592, .int (Int32.ofNat n), .retAddr 0, .int (Int32.ofNat y), .retAddr 0, .int a, .int b, .int c, .retAddr 0] [.int zz, .int (Int32.ofNat (znt (((c &&& (32 : Int32)) = 32) ∧ (((a ||| b) &&& (32 : Int32)) = 32)) 32 0)), .int ((((((a &&& b) &&& c) &&& (1 : Int32)) ||| ((b &&& c) &&& (16 : Int32))) ||| (c &&& (8 : Int32))) ||| (Int32.ofNat (znt (((((a &&& (1 : Int32)) &&& (1 : Int32)) = 1) ∧ (((b &&& c) &&& (2 : Int32)) = 2)) ∨ (((a &&& (2 : Int32)) = 2) ∧ (((b &&& c) &&& (1 : Int32)) = 1))) 2 0)))] S post) (zbo_pos ⟨b104, b122⟩) J125)
                refine zv_br ht rfl rfl rfl (fun b112 => ?_) (fun b112 => ?_)
                · replace b112 : (a &&& (32 : Int32)) = 32 := Classical.byContradiction (fun h => b112 ((zbo_eq0 : (zbo ((a &&& (32 : Int32)) = 32)) = 0 ↔ ¬ ((a &&& (32 : Int32)) = 32)).mpr h))
                  exact (J121 (Or.inl b112))
                · replace b112 : ¬ ((a &&& (32 : Int32)) = 32) := (zbo_eq0 : (zbo ((a &&& (32 : Int32)) = 32)) = 0 ↔ ¬ ((a &&& (32 : Int32)) = 32)).mp (Classical.not_not.mp b112)
                  refine zv_c1 ht rfl rfl (zv_c1 ht rfl rfl ?_)
                  have C114 : ∀ (pst113 : Outcome × zS → Prop), (pst113 (.returned (some (.int (zbo ((b &&& (64 : Int32)) = 64)))), S)) → zCall (d - 1) 139 [.int b, .int 64] S pst113 := by
                    intro pst113 k119
                    have ht115 : ztab 139 = ztb139 := rfl
                    show zEv (d - 1) 139 0 [.int b, .int 64] [] S pst113
                    refine zv_c1 ht115 rfl rfl (zv_c1 ht115 rfl rfl ?_)
                    refine zv_c1 (st' := [.int (b &&& (64 : Int32))]) (S' := S) ht115 rfl rfl ?_
                    refine zv_c1 ht115 rfl rfl ?_
                    have J117 : zEv (d - 1) 139 12 [.retAddr 0, .retAddr 0] [.int (zbo ((b &&& (64 : Int32)) = 64))] S pst113 := by
                      exact zv_rc ht115 rfl rfl rfl rfl zbo_rng k119
                    refine zv_br ht115 rfl rfl rfl (fun b116 => ?_) (fun b116 => ?_)
                    · refine zv_c1 ht115 rfl rfl ?_
                      exact zEv.wk (L := [.retAddr 0, .retAddr 0]) (L' := [.int b, .int 64]) (And.intro (Or.inr rfl) (And.intro (Or.inr rfl) trivial)) (zv_sub (zz := zbo ((b &&& (64 : Int32)) = 64)) (zy := 0) (p := fun zz => zEv (d - 1) 139 12 [.retAddr 0, .retAddr 0] [.int zz] S pst113) (zbo_neg b116) J117)
                    · replace b116 : (b &&& (64 : Int32)) = 64 := Classical.not_not.mp b116
                      refine zv_c1 ht115 rfl rfl (zv_c1 ht115 rfl rfl ?_)
                      exact zEv.wk (L := [.retAddr 0, .retAddr 0]) (L' := [.int b, .int 64]) (And.intro (Or.inr rfl) (And.intro (Or.inr rfl) trivial)) (zv_sub (zz := zbo ((b &&& (64 : Int32)) = 64)) (zy := 1) (p := fun zz => zEv (d - 1) 139 12 [.retAddr 0, .retAddr 0] [.int zz] S pst113) (zbo_pos b116) J117)
                  refine zv_cl ht rfl rfl rfl rfl (by omega) (Nat.le_of_ble_eq_true rfl) (C114 _ ?_)
                  show zEv d 142 220 [.ref 1592, .int (Int32.ofNat n), .retAddr 0, .int (Int32.ofNat y), .retAddr 0, .int a, .int b, .int c, .retAddr 0] [.int (zbo ((b &&& (64 : Int32)) = 64)), .int (Int32.ofNat (znt (((c &&& (32 : Int32)) = 32) ∧ (((a ||| b) &&& (32 : Int32)) = 32)) 32 0)), .int ((((((a &&& b) &&& c) &&& (1 : Int32)) ||| ((b &&& c) &&& (16 : Int32))) ||| (c &&& (8 : Int32))) ||| (Int32.ofNat (znt (((((a &&& (1 : Int32)) &&& (1 : Int32)) = 1) ∧ (((b &&& c) &&& (2 : Int32)) = 2)) ∨ (((a &&& (2 : Int32)) = 2) ∧ (((b &&& c) &&& (1 : Int32)) = 1))) 2 0)))] S post
                  refine zv_br ht rfl rfl rfl (fun b120 => ?_) (fun b120 => ?_)
                  · replace b120 : ¬ ((b &&& (64 : Int32)) = 64) := (zbo_eq0 : (zbo ((b &&& (64 : Int32)) = 64)) = 0 ↔ ¬ ((b &&& (64 : Int32)) = 64)).mp b120
                    exact (J123 (Or.inr ⟨b112, b120⟩))
                  · replace b120 : (b &&& (64 : Int32)) = 64 := Classical.byContradiction (fun h => b120 ((zbo_eq0 : (zbo ((b &&& (64 : Int32)) = 64)) = 0 ↔ ¬ ((b &&& (64 : Int32)) = 64)).mpr h))
                    exact (J121 (Or.inr b120))
            have J86 : ((¬ ((c &&& (32 : Int32)) = 32)) ∨ (¬ (((a ||| b) &&& (32 : Int32)) = 32))) → zEv d 142 187 [.ref 1592, .int (Int32.ofNat n), .retAddr 0, .int (Int32.ofNat y), .retAddr 0, .int a, .int b, .int c, .retAddr 0] [.int ((((((a &&& b) &&& c) &&& (1 : Int32)) ||| ((b &&& c) &&& (16 : Int32))) ||| (c &&& (8 : Int32))) ||| (Int32.ofNat (znt (((((a &&& (1 : Int32)) &&& (1 : Int32)) = 1) ∧ (((b &&& c) &&& (2 : Int32)) = 2)) ∨ (((a &&& (2 : Int32)) = 2) ∧ (((b &&& c) &&& (1 : Int32)) = 1))) 2 0)))] S post := by
              intro b87
              refine zv_c1 ht rfl rfl ?_
              exact (zv_sub (zz := zbo (((c &&& (32 : Int32)) = 32) ∧ (((a ||| b) &&& (32 : Int32)) = 32))) (zy := 0) (p := fun zz => zEv d 142 188 [.ref 1592, .int (Int32.ofNat n), .retAddr 0, .int (Int32.ofNat y), .retAddr 0, .int a, .int b, .int c, .retAddr 0] [.int zz, .int ((((((a &&& b) &&& c) &&& (1 : Int32)) ||| ((b &&& c) &&& (16 : Int32))) ||| (c &&& (8 : Int32))) ||| (Int32.ofNat (znt (((((a &&& (1 : Int32)) &&& (1 : Int32)) = 1) ∧ (((b &&& c) &&& (2 : Int32)) = 2)) ∨ (((a &&& (2 : Int32)) = 2) ∧ (((b &&& c) &&& (1 : Int32)) = 1))) 2 0)))] S post) (zbo_neg (b21.elim (fun y1 => (b87.elim (fun y2 => (fun h => y2 h.1)) (fun y2 => (fun h => y2 h.2)))) (fun y1 => (b87.elim (fun y2 => (fun h => y2 h.1)) (fun y2 => (fun h => y2 h.2)))))) J88)
            refine zv_br ht rfl rfl rfl (fun b77 => ?_) (fun b77 => ?_)
            · replace b77 : ¬ ((c &&& (32 : Int32)) = 32) := (zbo_eq0 : (zbo ((c &&& (32 : Int32)) = 32)) = 0 ↔ ¬ ((c &&& (32 : Int32)) = 32)).mp b77
              exact zEv.wk (L := [.ref 1592, .int (Int32.ofNat n), .retAddr 0, .int (Int32.ofNat y), .retAddr 0, .int a, .int b, .int c, .retAddr 0]) (L' := [.ref 1592, .int (Int32.ofNat n), .retAddr 0, .int (Int32.ofNat y), .retAddr 0, .int a, .int b, .int c, .int ((((((a &&& b) &&& c) &&& (1 : Int32)) ||| ((b &&& c) &&& (16 : Int32))) ||| (c &&& (8 : Int32))) ||| (Int32.ofNat (znt (((((a &&& (1 : Int32)) &&& (1 : Int32)) = 1) ∧ (((b &&& c) &&& (2 : Int32)) = 2)) ∨ (((a &&& (2 : Int32)) = 2) ∧ (((b &&& c) &&& (1 : Int32)) = 1))) 2 0)))]) (And.intro (Or.inl rfl) (And.intro (Or.inl rfl) (And.intro (Or.inl rfl) (And.intro (Or.inl rfl) (And.intro (Or.inl rfl) (And.intro (Or.inl rfl) (And.intro (Or.inl rfl) (And.intro (Or.inl rfl) (And.intro (Or.inr rfl) trivial))))))))) (J86 (Or.inl b77))
            · replace b77 : (c &&& (32 : Int32)) = 32 := Classical.byContradiction (fun h => b77 ((zbo_eq0 : (zbo ((c &&& (32 : Int32)) = 32)) = 0 ↔ ¬ ((c &&& (32 : Int32)) = 32)).mpr h))
              refine zv_c1 ht rfl rfl (zv_c1 ht rfl rfl ?_)
              refine zv_c1 (st' := [.int (a ||| b), .int ((((((a &&& b) &&& c) &&& (1 : Int32)) ||| ((b &&& c) &&& (16 : Int32))) ||| (c &&& (8 : Int32))) ||| (Int32.ofNat (znt (((((a &&& (1 : Int32)) &&& (1 : Int32)) = 1) ∧ (((b &&& c) &&& (2 : Int32)) = 2)) ∨ (((a &&& (2 : Int32)) = 2) ∧ (((b &&& c) &&& (1 : Int32)) = 1))) 2 0)))]) (S' := S) ht rfl rfl ?_
              refine zv_c1 ht rfl rfl ?_
              have C79 : ∀ (pst78 : Outcome × zS → Prop), (pst78 (.returned (some (.int (zbo (((a ||| b) &&& (32 : Int32)) = 32)))), S)) → zCall (d - 1) 139 [.int (a ||| b), .int 32] S pst78 := by
                intro pst78 k84
                have ht80 : ztab 139 = ztb139 := rfl
                show zEv (d - 1) 139 0 [.int (a ||| b), .int 32] [] S pst78
                refine zv_c1 ht80 rfl rfl (zv_c1 ht80 rfl rfl ?_)
                refine zv_c1 (st' := [.int ((a ||| b) &&& (32 : Int32))]) (S' := S) ht80 rfl rfl ?_
                refine zv_c1 ht80 rfl rfl ?_
                have J82 : zEv (d - 1) 139 12 [.retAddr 0, .retAddr 0] [.int (zbo (((a ||| b) &&& (32 : Int32)) = 32))] S pst78 := by
                  exact zv_rc ht80 rfl rfl rfl rfl zbo_rng k84
                refine zv_br ht80 rfl rfl rfl (fun b81 => ?_) (fun b81 => ?_)
                · refine zv_c1 ht80 rfl rfl ?_
                  exact zEv.wk (L := [.retAddr 0, .retAddr 0]) (L' := [.int (a ||| b), .int 32]) (And.intro (Or.inr rfl) (And.intro (Or.inr rfl) trivial)) (zv_sub (zz := zbo (((a ||| b) &&& (32 : Int32)) = 32)) (zy := 0) (p := fun zz => zEv (d - 1) 139 12 [.retAddr 0, .retAddr 0] [.int zz] S pst78) (zbo_neg b81) J82)
                · replace b81 : ((a ||| b) &&& (32 : Int32)) = 32 := Classical.not_not.mp b81
                  refine zv_c1 ht80 rfl rfl (zv_c1 ht80 rfl rfl ?_)
                  exact zEv.wk (L := [.retAddr 0, .retAddr 0]) (L' := [.int (a ||| b), .int 32]) (And.intro (Or.inr rfl) (And.intro (Or.inr rfl) trivial)) (zv_sub (zz := zbo (((a ||| b) &&& (32 : Int32)) = 32)) (zy := 1) (p := fun zz => zEv (d - 1) 139 12 [.retAddr 0, .retAddr 0] [.int zz] S pst78) (zbo_pos b81) J82)
              refine zv_cl ht rfl rfl rfl rfl (by omega) (Nat.le_of_ble_eq_true rfl) (C79 _ ?_)
              show zEv d 142 180 [.ref 1592, .int (Int32.ofNat n), .retAddr 0, .int (Int32.ofNat y), .retAddr 0, .int a, .int b, .int c, .int ((((((a &&& b) &&& c) &&& (1 : Int32)) ||| ((b &&& c) &&& (16 : Int32))) ||| (c &&& (8 : Int32))) ||| (Int32.ofNat (znt (((((a &&& (1 : Int32)) &&& (1 : Int32)) = 1) ∧ (((b &&& c) &&& (2 : Int32)) = 2)) ∨ (((a &&& (2 : Int32)) = 2) ∧ (((b &&& c) &&& (1 : Int32)) = 1))) 2 0)))] [.int (zbo (((a ||| b) &&& (32 : Int32)) = 32)), .int ((((((a &&& b) &&& c) &&& (1 : Int32)) ||| ((b &&& c) &&& (16 : Int32))) ||| (c &&& (8 : Int32))) ||| (Int32.ofNat (znt (((((a &&& (1 : Int32)) &&& (1 : Int32)) = 1) ∧ (((b &&& c) &&& (2 : Int32)) = 2)) ∨ (((a &&& (2 : Int32)) = 2) ∧ (((b &&& c) &&& (1 : Int32)) = 1))) 2 0)))] S post
              refine zv_br ht rfl rfl rfl (fun b85 => ?_) (fun b85 => ?_)
              · replace b85 : ¬ (((a ||| b) &&& (32 : Int32)) = 32) := (zbo_eq0 : (zbo (((a ||| b) &&& (32 : Int32)) = 32)) = 0 ↔ ¬ (((a ||| b) &&& (32 : Int32)) = 32)).mp b85
                exact zEv.wk (L := [.ref 1592, .int (Int32.ofNat n), .retAddr 0, .int (Int32.ofNat y), .retAddr 0, .int a, .int b, .int c, .retAddr 0]) (L' := [.ref 1592, .int (Int32.ofNat n), .retAddr 0, .int (Int32.ofNat y), .retAddr 0, .int a, .int b, .int c, .int ((((((a &&& b) &&& c) &&& (1 : Int32)) ||| ((b &&& c) &&& (16 : Int32))) ||| (c &&& (8 : Int32))) ||| (Int32.ofNat (znt (((((a &&& (1 : Int32)) &&& (1 : Int32)) = 1) ∧ (((b &&& c) &&& (2 : Int32)) = 2)) ∨ (((a &&& (2 : Int32)) = 2) ∧ (((b &&& c) &&& (1 : Int32)) = 1))) 2 0)))]) (And.intro (Or.inl rfl) (And.intro (Or.inl rfl) (And.intro (Or.inl rfl) (And.intro (Or.inl rfl) (And.intro (Or.inl rfl) (And.intro (Or.inl rfl) (And.intro (Or.inl rfl) (And.intro (Or.inl rfl) (And.intro (Or.inr rfl) trivial))))))))) (J86 (Or.inr b85))
              · replace b85 : ((a ||| b) &&& (32 : Int32)) = 32 := Classical.byContradiction (fun h => b85 ((zbo_eq0 : (zbo (((a ||| b) &&& (32 : Int32)) = 32)) = 0 ↔ ¬ (((a ||| b) &&& (32 : Int32)) = 32)).mpr h))
                refine zv_c1 ht rfl rfl (zv_c1 ht rfl rfl ?_)
                exact zEv.wk (L := [.ref 1592, .int (Int32.ofNat n), .retAddr 0, .int (Int32.ofNat y), .retAddr 0, .int a, .int b, .int c, .retAddr 0]) (L' := [.ref 1592, .int (Int32.ofNat n), .retAddr 0, .int (Int32.ofNat y), .retAddr 0, .int a, .int b, .int c, .int ((((((a &&& b) &&& c) &&& (1 : Int32)) ||| ((b &&& c) &&& (16 : Int32))) ||| (c &&& (8 : Int32))) ||| (Int32.ofNat (znt (((((a &&& (1 : Int32)) &&& (1 : Int32)) = 1) ∧ (((b &&& c) &&& (2 : Int32)) = 2)) ∨ (((a &&& (2 : Int32)) = 2) ∧ (((b &&& c) &&& (1 : Int32)) = 1))) 2 0)))]) (And.intro (Or.inl rfl) (And.intro (Or.inl rfl) (And.intro (Or.inl rfl) (And.intro (Or.inl rfl) (And.intro (Or.inl rfl) (And.intro (Or.inl rfl) (And.intro (Or.inl rfl) (And.intro (Or.inl rfl) (And.intro (Or.inr rfl) trivial))))))))) (zv_sub (zz := zbo (((c &&& (32 : Int32)) = 32) ∧ (((a ||| b) &&& (32 : Int32)) = 32))) (zy := 1) (p := fun zz => zEv d 142 188 [.ref 1592, .int (Int32.ofNat n), .retAddr 0, .int (Int32.ofNat y), .retAddr 0, .int a, .int b, .int c, .retAddr 0] [.int zz, .int ((((((a &&& b) &&& c) &&& (1 : Int32)) ||| ((b &&& c) &&& (16 : Int32))) ||| (c &&& (8 : Int32))) ||| (Int32.ofNat (znt (((((a &&& (1 : Int32)) &&& (1 : Int32)) = 1) ∧ (((b &&& c) &&& (2 : Int32)) = 2)) ∨ (((a &&& (2 : Int32)) = 2) ∧ (((b &&& c) &&& (1 : Int32)) = 1))) 2 0)))] S post) (zbo_pos ⟨b77, b85⟩) J88)
          have J59 : (((((a &&& (1 : Int32)) &&& (1 : Int32)) = 1) ∧ (((b &&& c) &&& (2 : Int32)) = 2)) ∨ (((a &&& (2 : Int32)) = 2) ∧ (((b &&& c) &&& (1 : Int32)) = 1))) → zEv d 142 146 [.ref 1592, .int (Int32.ofNat n), .retAddr 0, .int (Int32.ofNat y), .retAddr 0, .int a, .int b, .int c, .retAddr 0] [.int (((((a &&& b) &&& c) &&& (1 : Int32)) ||| ((b &&& c) &&& (16 : Int32))) ||| (c &&& (8 : Int32)))] S post := by
            intro b60
            refine zv_c1 ht rfl rfl (zv_c1 ht rfl rfl ?_)
            exact (zv_sub (zz := zbo (((((a &&& (1 : Int32)) &&& (1 : Int32)) = 1) ∧ (((b &&& c) &&& (2 : Int32)) = 2)) ∨ (((a &&& (2 : Int32)) = 2) ∧ (((b &&& c) &&& (1 : Int32)) = 1)))) (zy := 1) (p := fun zz => zEv d 142 151 [.ref 1592, .int (Int32.ofNat n), .retAddr 0, .int (Int32.ofNat y), .retAddr 0, .int a, .int b, .int c, .retAddr 0] [.int zz, .int (((((a &&& b) &&& c) &&& (1 : Int32)) ||| ((b &&& c) &&& (16 : Int32))) ||| (c &&& (8 : Int32)))] S post) (zbo_pos b60) J61)
          have J39 : ((¬ (((a &&& (1 : Int32)) &&& (1 : Int32)) = 1)) ∨ (¬ (((b &&& c) &&& (2 : Int32)) = 2))) → zEv d 142 125 [.ref 1592, .int (Int32.ofNat n), .retAddr 0, .int (Int32.ofNat y), .retAddr 0, .int a, .int b, .int c, .retAddr 0] [.int (((((a &&& b) &&& c) &&& (1 : Int32)) ||| ((b &&& c) &&& (16 : Int32))) ||| (c &&& (8 : Int32)))] S post := by
            intro b40
            refine zv_c1 ht rfl rfl (zv_c1 ht rfl rfl ?_)
            have C42 : ∀ (pst41 : Outcome × zS → Prop), (pst41 (.returned (some (.int (zbo ((a &&& (2 : Int32)) = 2)))), S)) → zCall (d - 1) 139 [.int a, .int 2] S pst41 := by
              intro pst41 k47
              have ht43 : ztab 139 = ztb139 := rfl
              show zEv (d - 1) 139 0 [.int a, .int 2] [] S pst41
              refine zv_c1 ht43 rfl rfl (zv_c1 ht43 rfl rfl ?_)
              refine zv_c1 (st' := [.int (a &&& (2 : Int32))]) (S' := S) ht43 rfl rfl ?_
              refine zv_c1 ht43 rfl rfl ?_
              have J45 : zEv (d - 1) 139 12 [.retAddr 0, .retAddr 0] [.int (zbo ((a &&& (2 : Int32)) = 2))] S pst41 := by
                exact zv_rc ht43 rfl rfl rfl rfl zbo_rng k47
              refine zv_br ht43 rfl rfl rfl (fun b44 => ?_) (fun b44 => ?_)
              · refine zv_c1 ht43 rfl rfl ?_
                exact zEv.wk (L := [.retAddr 0, .retAddr 0]) (L' := [.int a, .int 2]) (And.intro (Or.inr rfl) (And.intro (Or.inr rfl) trivial)) (zv_sub (zz := zbo ((a &&& (2 : Int32)) = 2)) (zy := 0) (p := fun zz => zEv (d - 1) 139 12 [.retAddr 0, .retAddr 0] [.int zz] S pst41) (zbo_neg b44) J45)
              · replace b44 : (a &&& (2 : Int32)) = 2 := Classical.not_not.mp b44
                refine zv_c1 ht43 rfl rfl (zv_c1 ht43 rfl rfl ?_)
                exact zEv.wk (L := [.retAddr 0, .retAddr 0]) (L' := [.int a, .int 2]) (And.intro (Or.inr rfl) (And.intro (Or.inr rfl) trivial)) (zv_sub (zz := zbo ((a &&& (2 : Int32)) = 2)) (zy := 1) (p := fun zz => zEv (d - 1) 139 12 [.retAddr 0, .retAddr 0] [.int zz] S pst41) (zbo_pos b44) J45)
            refine zv_cl ht rfl rfl rfl rfl (by omega) (Nat.le_of_ble_eq_true rfl) (C42 _ ?_)
            show zEv d 142 131 [.ref 1592, .int (Int32.ofNat n), .retAddr 0, .int (Int32.ofNat y), .retAddr 0, .int a, .int b, .int c, .retAddr 0] [.int (zbo ((a &&& (2 : Int32)) = 2)), .int (((((a &&& b) &&& c) &&& (1 : Int32)) ||| ((b &&& c) &&& (16 : Int32))) ||| (c &&& (8 : Int32)))] S post
            have J57 : ((¬ ((a &&& (2 : Int32)) = 2)) ∨ (¬ (((b &&& c) &&& (1 : Int32)) = 1))) → zEv d 142 150 [.ref 1592, .int (Int32.ofNat n), .retAddr 0, .int (Int32.ofNat y), .retAddr 0, .int a, .int b, .int c, .retAddr 0] [.int (((((a &&& b) &&& c) &&& (1 : Int32)) ||| ((b &&& c) &&& (16 : Int32))) ||| (c &&& (8 : Int32)))] S post := by
              intro b58
              refine zv_c1 ht rfl rfl ?_
              exact (zv_sub (zz := zbo (((((a &&& (1 : Int32)) &&& (1 : Int32)) = 1) ∧ (((b &&& c) &&& (2 : Int32)) = 2)) ∨ (((a &&& (2 : Int32)) = 2) ∧ (((b &&& c) &&& (1 : Int32)) = 1)))) (zy := 0) (p := fun zz => zEv d 142 151 [.ref 1592, .int (Int32.ofNat n), .retAddr 0, .int (Int32.ofNat y), .retAddr 0, .int a, .int b, .int c, .retAddr 0] [.int zz, .int (((((a &&& b) &&& c) &&& (1 : Int32)) ||| ((b &&& c) &&& (16 : Int32))) ||| (c &&& (8 : Int32)))] S post) (zbo_neg (b21.elim (fun y1 => (b40.elim (fun y2 => (b58.elim (fun y3 => (fun h => h.elim (fun h => y2 h.1) (fun h => y3 h.1))) (fun y3 => (fun h => h.elim (fun h => y2 h.1) (fun h => y3 h.2))))) (fun y2 => (b58.elim (fun y3 => (fun h => h.elim (fun h => y2 h.2) (fun h => y3 h.1))) (fun y3 => (fun h => h.elim (fun h => y2 h.2) (fun h => y3 h.2))))))) (fun y1 => (b40.elim (fun y2 => (b58.elim (fun y3 => (fun h => h.elim (fun h => y2 h.1) (fun h => y3 h.1))) (fun y3 => (fun h => h.elim (fun h => y2 h.1) (fun h => y3 h.2))))) (fun y2 => (b58.elim (fun y3 => (fun h => h.elim (fun h => y2 h.2) (fun h => y3 h.1))) (fun y3 => (fun h => h.elim (fun h => y2 h.2) (fun h => y3 h.2))))))))) J61)
            refine zv_br ht rfl rfl rfl (fun b48 => ?_) (fun b48 => ?_)
            · replace b48 : ¬ ((a &&& (2 : Int32)) = 2) := (zbo_eq0 : (zbo ((a &&& (2 : Int32)) = 2)) = 0 ↔ ¬ ((a &&& (2 : Int32)) = 2)).mp b48
              exact (J57 (Or.inl b48))
            · replace b48 : (a &&& (2 : Int32)) = 2 := Classical.byContradiction (fun h => b48 ((zbo_eq0 : (zbo ((a &&& (2 : Int32)) = 2)) = 0 ↔ ¬ ((a &&& (2 : Int32)) = 2)).mpr h))
              refine zv_c1 ht rfl rfl (zv_c1 ht rfl rfl ?_)
              refine zv_c1 (st' := [.int (b &&& c), .int (((((a &&& b) &&& c) &&& (1 : Int32)) ||| ((b &&& c) &&& (16 : Int32))) ||| (c &&& (8 : Int32)))]) (S' := S) ht rfl rfl ?_
              refine zv_c1 ht rfl rfl ?_
              have C50 : ∀ (pst49 : Outcome × zS → Prop), (pst49 (.returned (some (.int (zbo (((b &&& c) &&& (1 : Int32)) = 1)))), S)) → zCall (d - 1) 139 [.int (b &&& c), .int 1] S pst49 := by
                intro pst49 k55
                have ht51 : ztab 139 = ztb139 := rfl
                show zEv (d - 1) 139 0 [.int (b &&& c), .int 1] [] S pst49
                refine zv_c1 ht51 rfl rfl (zv_c1 ht51 rfl rfl ?_)
                refine zv_c1 (st' := [.int ((b &&& c) &&& (1 : Int32))]) (S' := S) ht51 rfl rfl ?_
                refine zv_c1 ht51 rfl rfl ?_
                have J53 : zEv (d - 1) 139 12 [.retAddr 0, .retAddr 0] [.int (zbo (((b &&& c) &&& (1 : Int32)) = 1))] S pst49 := by
                  exact zv_rc ht51 rfl rfl rfl rfl zbo_rng k55
                refine zv_br ht51 rfl rfl rfl (fun b52 => ?_) (fun b52 => ?_)
                · refine zv_c1 ht51 rfl rfl ?_
                  exact zEv.wk (L := [.retAddr 0, .retAddr 0]) (L' := [.int (b &&& c), .int 1]) (And.intro (Or.inr rfl) (And.intro (Or.inr rfl) trivial)) (zv_sub (zz := zbo (((b &&& c) &&& (1 : Int32)) = 1)) (zy := 0) (p := fun zz => zEv (d - 1) 139 12 [.retAddr 0, .retAddr 0] [.int zz] S pst49) (zbo_neg b52) J53)
                · replace b52 : ((b &&& c) &&& (1 : Int32)) = 1 := Classical.not_not.mp b52
                  refine zv_c1 ht51 rfl rfl (zv_c1 ht51 rfl rfl ?_)
                  exact zEv.wk (L := [.retAddr 0, .retAddr 0]) (L' := [.int (b &&& c), .int 1]) (And.intro (Or.inr rfl) (And.intro (Or.inr rfl) trivial)) (zv_sub (zz := zbo (((b &&& c) &&& (1 : Int32)) = 1)) (zy := 1) (p := fun zz => zEv (d - 1) 139 12 [.retAddr 0, .retAddr 0] [.int zz] S pst49) (zbo_pos b52) J53)
              refine zv_cl ht rfl rfl rfl rfl (by omega) (Nat.le_of_ble_eq_true rfl) (C50 _ ?_)
              show zEv d 142 143 [.ref 1592, .int (Int32.ofNat n), .retAddr 0, .int (Int32.ofNat y), .retAddr 0, .int a, .int b, .int c, .retAddr 0] [.int (zbo (((b &&& c) &&& (1 : Int32)) = 1)), .int (((((a &&& b) &&& c) &&& (1 : Int32)) ||| ((b &&& c) &&& (16 : Int32))) ||| (c &&& (8 : Int32)))] S post
              refine zv_br ht rfl rfl rfl (fun b56 => ?_) (fun b56 => ?_)
              · replace b56 : ¬ (((b &&& c) &&& (1 : Int32)) = 1) := (zbo_eq0 : (zbo (((b &&& c) &&& (1 : Int32)) = 1)) = 0 ↔ ¬ (((b &&& c) &&& (1 : Int32)) = 1)).mp b56
                exact (J57 (Or.inr b56))
              · replace b56 : ((b &&& c) &&& (1 : Int32)) = 1 := Classical.byContradiction (fun h => b56 ((zbo_eq0 : (zbo (((b &&& c) &&& (1 : Int32)) = 1)) = 0 ↔ ¬ (((b &&& c) &&& (1 : Int32)) = 1)).mpr h))
                exact (J59 (Or.inr ⟨b48, b56⟩))
          refine zv_br ht rfl rfl rfl (fun b30 => ?_) (fun b30 => ?_)
          · replace b30 : ¬ (((a &&& (1 : Int32)) &&& (1 : Int32)) = 1) := (zbo_eq0 : (zbo (((a &&& (1 : Int32)) &&& (1 : Int32)) = 1)) = 0 ↔ ¬ (((a &&& (1 : Int32)) &&& (1 : Int32)) = 1)).mp b30
            exact zEv.wk (L := [.ref 1592, .int (Int32.ofNat n), .retAddr 0, .int (Int32.ofNat y), .retAddr 0, .int a, .int b, .int c, .retAddr 0]) (L' := [.ref 1592, .int (Int32.ofNat n), .int (Int32.ofNat x), .int (Int32.ofNat y), .int (Int32.ofNat z), .int a, .int b, .int c, .int (((((a &&& b) &&& c) &&& (1 : Int32)) ||| ((b &&& c) &&& (16 : Int32))) ||| (c &&& (8 : Int32)))]) (And.intro (Or.inl rfl) (And.intro (Or.inl rfl) (And.intro (Or.inr rfl) (And.intro (Or.inl rfl) (And.intro (Or.inr rfl) (And.intro (Or.inl rfl) (And.intro (Or.inl rfl) (And.intro (Or.inl rfl) (And.intro (Or.inr rfl) trivial))))))))) (J39 (Or.inl b30))
          · replace b30 : ((a &&& (1 : Int32)) &&& (1 : Int32)) = 1 := Classical.byContradiction (fun h => b30 ((zbo_eq0 : (zbo (((a &&& (1 : Int32)) &&& (1 : Int32)) = 1)) = 0 ↔ ¬ (((a &&& (1 : Int32)) &&& (1 : Int32)) = 1)).mpr h))
            refine zv_c1 ht rfl rfl (zv_c1 ht rfl rfl ?_)
            refine zv_c1 (st' := [.int (b &&& c), .int (((((a &&& b) &&& c) &&& (1 : Int32)) ||| ((b &&& c) &&& (16 : Int32))) ||| (c &&& (8 : Int32)))]) (S' := S) ht rfl rfl ?_
            refine zv_c1 ht rfl rfl ?_
            have C32 : ∀ (pst31 : Outcome × zS → Prop), (pst31 (.returned (some (.int (zbo (((b &&& c) &&& (2 : Int32)) = 2)))), S)) → zCall (d - 1) 139 [.int (b &&& c), .int 2] S pst31 := by
              intro pst31 k37
              have ht33 : ztab 139 = ztb139 := rfl
              show zEv (d - 1) 139 0 [.int (b &&& c), .int 2] [] S pst31
              refine zv_c1 ht33 rfl rfl (zv_c1 ht33 rfl rfl ?_)
              refine zv_c1 (st' := [.int ((b &&& c) &&& (2 : Int32))]) (S' := S) ht33 rfl rfl ?_
              refine zv_c1 ht33 rfl rfl ?_
              have J35 : zEv (d - 1) 139 12 [.retAddr 0, .retAddr 0] [.int (zbo (((b &&& c) &&& (2 : Int32)) = 2))] S pst31 := by
                exact zv_rc ht33 rfl rfl rfl rfl zbo_rng k37
              refine zv_br ht33 rfl rfl rfl (fun b34 => ?_) (fun b34 => ?_)
              · refine zv_c1 ht33 rfl rfl ?_
                exact zEv.wk (L := [.retAddr 0, .retAddr 0]) (L' := [.int (b &&& c), .int 2]) (And.intro (Or.inr rfl) (And.intro (Or.inr rfl) trivial)) (zv_sub (zz := zbo (((b &&& c) &&& (2 : Int32)) = 2)) (zy := 0) (p := fun zz => zEv (d - 1) 139 12 [.retAddr 0, .retAddr 0] [.int zz] S pst31) (zbo_neg b34) J35)
              · replace b34 : ((b &&& c) &&& (2 : Int32)) = 2 := Classical.not_not.mp b34
                refine zv_c1 ht33 rfl rfl (zv_c1 ht33 rfl rfl ?_)
                exact zEv.wk (L := [.retAddr 0, .retAddr 0]) (L' := [.int (b &&& c), .int 2]) (And.intro (Or.inr rfl) (And.intro (Or.inr rfl) trivial)) (zv_sub (zz := zbo (((b &&& c) &&& (2 : Int32)) = 2)) (zy := 1) (p := fun zz => zEv (d - 1) 139 12 [.retAddr 0, .retAddr 0] [.int zz] S pst31) (zbo_pos b34) J35)
            refine zv_cl ht rfl rfl rfl rfl (by omega) (Nat.le_of_ble_eq_true rfl) (C32 _ ?_)
            show zEv d 142 122 [.ref 1592, .int (Int32.ofNat n), .int (Int32.ofNat x), .int (Int32.ofNat y), .int (Int32.ofNat z), .int a, .int b, .int c, .int (((((a &&& b) &&& c) &&& (1 : Int32)) ||| ((b &&& c) &&& (16 : Int32))) ||| (c &&& (8 : Int32)))] [.int (zbo (((b &&& c) &&& (2 : Int32)) = 2)), .int (((((a &&& b) &&& c) &&& (1 : Int32)) ||| ((b &&& c) &&& (16 : Int32))) ||| (c &&& (8 : Int32)))] S post
            refine zv_br ht rfl rfl rfl (fun b38 => ?_) (fun b38 => ?_)
            · replace b38 : ((b &&& c) &&& (2 : Int32)) = 2 := Classical.byContradiction (fun h => b38 ((zbo_eq0 : (zbo (((b &&& c) &&& (2 : Int32)) = 2)) = 0 ↔ ¬ (((b &&& c) &&& (2 : Int32)) = 2)).mpr h))
              exact zEv.wk (L := [.ref 1592, .int (Int32.ofNat n), .retAddr 0, .int (Int32.ofNat y), .retAddr 0, .int a, .int b, .int c, .retAddr 0]) (L' := [.ref 1592, .int (Int32.ofNat n), .int (Int32.ofNat x), .int (Int32.ofNat y), .int (Int32.ofNat z), .int a, .int b, .int c, .int (((((a &&& b) &&& c) &&& (1 : Int32)) ||| ((b &&& c) &&& (16 : Int32))) ||| (c &&& (8 : Int32)))]) (And.intro (Or.inl rfl) (And.intro (Or.inl rfl) (And.intro (Or.inr rfl) (And.intro (Or.inl rfl) (And.intro (Or.inr rfl) (And.intro (Or.inl rfl) (And.intro (Or.inl rfl) (And.intro (Or.inl rfl) (And.intro (Or.inr rfl) trivial))))))))) (J59 (Or.inl ⟨b30, b38⟩))
            · replace b38 : ¬ (((b &&& c) &&& (2 : Int32)) = 2) := (zbo_eq0 : (zbo (((b &&& c) &&& (2 : Int32)) = 2)) = 0 ↔ ¬ (((b &&& c) &&& (2 : Int32)) = 2)).mp (Classical.not_not.mp b38)
              exact zEv.wk (L := [.ref 1592, .int (Int32.ofNat n), .retAddr 0, .int (Int32.ofNat y), .retAddr 0, .int a, .int b, .int c, .retAddr 0]) (L' := [.ref 1592, .int (Int32.ofNat n), .int (Int32.ofNat x), .int (Int32.ofNat y), .int (Int32.ofNat z), .int a, .int b, .int c, .int (((((a &&& b) &&& c) &&& (1 : Int32)) ||| ((b &&& c) &&& (16 : Int32))) ||| (c &&& (8 : Int32)))]) (And.intro (Or.inl rfl) (And.intro (Or.inl rfl) (And.intro (Or.inr rfl) (And.intro (Or.inl rfl) (And.intro (Or.inr rfl) (And.intro (Or.inl rfl) (And.intro (Or.inl rfl) (And.intro (Or.inl rfl) (And.intro (Or.inr rfl) trivial))))))))) (J39 (Or.inr b38))
        · exact zEv.wk (L := [.retAddr 0, .retAddr 0, .retAddr 0, .retAddr 0, .retAddr 0, .retAddr 0, .retAddr 0, .retAddr 0, .retAddr 0]) (L' := [.ref 1592, .int (Int32.ofNat n), .int (Int32.ofNat x), .int (Int32.ofNat y), .int (Int32.ofNat z), .int a, .int b, .int c, .retAddr 0]) (And.intro (Or.inr rfl) (And.intro (Or.inr rfl) (And.intro (Or.inr rfl) (And.intro (Or.inr rfl) (And.intro (Or.inr rfl) (And.intro (Or.inr rfl) (And.intro (Or.inr rfl) (And.intro (Or.inr rfl) (And.intro (Or.inl rfl) trivial))))))))) (J210 (Or.inr (Or.inr (Or.inr b22))))
noncomputable def tyA10 (p q t a b c : Int32) : Option (Int32 × Int32) := zop ((p = 0) ∧ ((a &&& (24 : Int32)) = 24) ∧ ((q = 0) ∨ (q = 2) ∨ (q = 1)) ∧ (q = t)) (q, (ao10_e1 a b c) ||| (Int32.ofNat (znt (((((a &&& b) &&& c) &&& (256 : Int32)) = 256) ∧ ((a &&& (128 : Int32)) = 128) ∧ ((((a ||| b) ||| c) &&& (32 : Int32)) = 32)) 256 0)))
theorem pl0 {d : Nat} {S : zS} (hF : zFin true S) (hd : 1 ≤ d) (n : Nat)  (hn : n < 3000) (hk : gA S 1610 n = Int32.ofNat 0) {post : Outcome × zS → Prop} (h1 : post (.returned none, sA (sA S 1616 n 0) 1617 n 441)) : zCall d 136 [.ref 1592, .int (Int32.ofNat n)] S post := by
  have ht : ztab 136 = ztb136 := rfl
  show zEv d 136 0 [.ref 1592, .int (Int32.ofNat n)] [] S post
  refine zv_c1 ht rfl rfl ?_
  refine zv_gl (st' := [.ref 1610]) ht rfl hF rfl rfl rfl ?_
  refine zv_c1 ht rfl rfl ?_
  refine zv_iaE (j := n) (x := 0) ht rfl rfl rfl rfl (zi_natE (a := n) rfl (by omega)) ⟨(Or.inl rfl), zi_inE (a := n) (n := 3000) rfl (by omega) (by omega)⟩ hk ?_
  refine zv_sw ht rfl rfl rfl rfl rfl ?_
  refine And.intro (fun _ => ?_) (fun h => absurd (by decide) h)
  refine zv_c1 ht rfl rfl (zv_c1 ht rfl rfl (zv_c1 ht rfl rfl (zv_c1 ht rfl rfl ?_)))
  have C2 : ∀ (pst1 : Outcome × zS → Prop), (pst1 (.returned none, sA (sA S 1616 n 0) 1617 n 441)) → zCall (d - 1) 137 [.ref 1592, .int (Int32.ofNat n), .int 0, .int 441] S pst1 := by
    intro pst1 k4
    have ht3 : ztab 137 = ztb137 := rfl
    show zEv (d - 1) 137 0 [.ref 1592, .int (Int32.ofNat n), .int 0, .int 441] [] S pst1
    refine zv_c1 ht3 rfl rfl ?_
    refine zv_gl (st' := [.ref 1616]) ht3 rfl hF rfl rfl rfl ?_
    refine zv_c1 ht3 rfl rfl (zv_c1 ht3 rfl rfl ?_)
    refine zv_is (j := n) (x := 0) ht3 rfl rfl rfl rfl (zi_natE (a := n) rfl (by omega)) ⟨rfl, zi_inE (a := n) (n := 3000) rfl (by omega) (by omega)⟩ ?_
    refine zv_c1 ht3 rfl rfl ?_
    refine zv_gl (st' := [.ref 1617]) ht3 rfl hF rfl rfl rfl ?_
    refine zv_c1 ht3 rfl rfl (zv_c1 ht3 rfl rfl ?_)
    refine zv_is (j := n) (x := 441) ht3 rfl rfl rfl rfl (zi_natE (a := n) rfl (by omega)) ⟨rfl, zi_inE (a := n) (n := 3000) rfl (by omega) (by omega)⟩ ?_
    exact zv_rt ht3 rfl rfl rfl rfl k4
  refine zv_cl ht rfl rfl rfl rfl (by omega) (Nat.le_of_ble_eq_true rfl) (C2 _ ?_)
  show zEv d 136 105 [.ref 1592, .int (Int32.ofNat n)] [] (sA (sA S 1616 n 0) 1617 n 441) post
  exact zv_rt ht rfl rfl rfl rfl h1

theorem pl1 {d : Nat} {S : zS} (hF : zFin true S) (hd : 1 ≤ d) (n : Nat)  (hn : n < 3000) (hk : gA S 1610 n = Int32.ofNat 1) {post : Outcome × zS → Prop} (h1 : post (.returned none, sA (sA S 1616 n 0) 1617 n 337)) : zCall d 136 [.ref 1592, .int (Int32.ofNat n)] S post := by
  have ht : ztab 136 = ztb136 := rfl
  show zEv d 136 0 [.ref 1592, .int (Int32.ofNat n)] [] S post
  refine zv_c1 ht rfl rfl ?_
  refine zv_gl (st' := [.ref 1610]) ht rfl hF rfl rfl rfl ?_
  refine zv_c1 ht rfl rfl ?_
  refine zv_iaE (j := n) (x := 1) ht rfl rfl rfl rfl (zi_natE (a := n) rfl (by omega)) ⟨(Or.inl rfl), zi_inE (a := n) (n := 3000) rfl (by omega) (by omega)⟩ hk ?_
  refine zv_sw ht rfl rfl rfl rfl rfl ?_
  refine And.intro (fun h => absurd h (by decide)) (fun _ => ?_)
  refine And.intro (fun _ => ?_) (fun h => absurd (by decide) h)
  refine zv_c1 ht rfl rfl (zv_c1 ht rfl rfl (zv_c1 ht rfl rfl (zv_c1 ht rfl rfl ?_)))
  have C2 : ∀ (pst1 : Outcome × zS → Prop), (pst1 (.returned none, sA (sA S 1616 n 0) 1617 n 337)) → zCall (d - 1) 137 [.ref 1592, .int (Int32.ofNat n), .int 0, .int 337] S pst1 := by
    intro pst1 k4
    have ht3 : ztab 137 = ztb137 := rfl
    show zEv (d - 1) 137 0 [.ref 1592, .int (Int32.ofNat n), .int 0, .int 337] [] S pst1
    refine zv_c1 ht3 rfl rfl ?_
    refine zv_gl (st' := [.ref 1616]) ht3 rfl hF rfl rfl rfl ?_
    refine zv_c1 ht3 rfl rfl (zv_c1 ht3 rfl rfl ?_)
    refine zv_is (j := n) (x := 0) ht3 rfl rfl rfl rfl (zi_natE (a := n) rfl (by omega)) ⟨rfl, zi_inE (a := n) (n := 3000) rfl (by omega) (by omega)⟩ ?_
    refine zv_c1 ht3 rfl rfl ?_
    refine zv_gl (st' := [.ref 1617]) ht3 rfl hF rfl rfl rfl ?_
    refine zv_c1 ht3 rfl rfl (zv_c1 ht3 rfl rfl ?_)
    refine zv_is (j := n) (x := 337) ht3 rfl rfl rfl rfl (zi_natE (a := n) rfl (by omega)) ⟨rfl, zi_inE (a := n) (n := 3000) rfl (by omega) (by omega)⟩ ?_
    exact zv_rt ht3 rfl rfl rfl rfl k4
  refine zv_cl ht rfl rfl rfl rfl (by omega) (Nat.le_of_ble_eq_true rfl) (C2 _ ?_)
  show zEv d 136 115 [.ref 1592, .int (Int32.ofNat n)] [] (sA (sA S 1616 n 0) 1617 n 337) post
  exact zv_rt ht rfl rfl rfl rfl h1

theorem pl2 {d : Nat} {S : zS} (hF : zFin true S) (hd : 1 ≤ d) (n : Nat)  (hn : n < 3000) (hk : gA S 1610 n = Int32.ofNat 2) {post : Outcome × zS → Prop} (h1 : post (.returned none, sA (sA S 1616 n 2) 1617 n 446)) : zCall d 136 [.ref 1592, .int (Int32.ofNat n)] S post := by
  have ht : ztab 136 = ztb136 := rfl
  show zEv d 136 0 [.ref 1592, .int (Int32.ofNat n)] [] S post
  refine zv_c1 ht rfl rfl ?_
  refine zv_gl (st' := [.ref 1610]) ht rfl hF rfl rfl rfl ?_
  refine zv_c1 ht rfl rfl ?_
  refine zv_iaE (j := n) (x := 2) ht rfl rfl rfl rfl (zi_natE (a := n) rfl (by omega)) ⟨(Or.inl rfl), zi_inE (a := n) (n := 3000) rfl (by omega) (by omega)⟩ hk ?_
  refine zv_sw ht rfl rfl rfl rfl rfl ?_
  refine And.intro (fun h => absurd h (by decide)) (fun _ => ?_)
  refine And.intro (fun h => absurd h (by decide)) (fun _ => ?_)
  refine And.intro (fun _ => ?_) (fun h => absurd (by decide) h)
  refine zv_c1 ht rfl rfl (zv_c1 ht rfl rfl (zv_c1 ht rfl rfl (zv_c1 ht rfl rfl ?_)))
  have C2 : ∀ (pst1 : Outcome × zS → Prop), (pst1 (.returned none, sA (sA S 1616 n 2) 1617 n 446)) → zCall (d - 1) 137 [.ref 1592, .int (Int32.ofNat n), .int 2, .int 446] S pst1 := by
    intro pst1 k4
    have ht3 : ztab 137 = ztb137 := rfl
    show zEv (d - 1) 137 0 [.ref 1592, .int (Int32.ofNat n), .int 2, .int 446] [] S pst1
    refine zv_c1 ht3 rfl rfl ?_
    refine zv_gl (st' := [.ref 1616]) ht3 rfl hF rfl rfl rfl ?_
    refine zv_c1 ht3 rfl rfl (zv_c1 ht3 rfl rfl ?_)
    refine zv_is (j := n) (x := 2) ht3 rfl rfl rfl rfl (zi_natE (a := n) rfl (by omega)) ⟨rfl, zi_inE (a := n) (n := 3000) rfl (by omega) (by omega)⟩ ?_
    refine zv_c1 ht3 rfl rfl ?_
    refine zv_gl (st' := [.ref 1617]) ht3 rfl hF rfl rfl rfl ?_
    refine zv_c1 ht3 rfl rfl (zv_c1 ht3 rfl rfl ?_)
    refine zv_is (j := n) (x := 446) ht3 rfl rfl rfl rfl (zi_natE (a := n) rfl (by omega)) ⟨rfl, zi_inE (a := n) (n := 3000) rfl (by omega) (by omega)⟩ ?_
    exact zv_rt ht3 rfl rfl rfl rfl k4
  refine zv_cl ht rfl rfl rfl rfl (by omega) (Nat.le_of_ble_eq_true rfl) (C2 _ ?_)
  show zEv d 136 125 [.ref 1592, .int (Int32.ofNat n)] [] (sA (sA S 1616 n 2) 1617 n 446) post
  exact zv_rt ht rfl rfl rfl rfl h1

theorem pl3 {d : Nat} {S : zS} (hF : zFin true S) (hd : 1 ≤ d) (n : Nat)  (hn : n < 3000) (hk : gA S 1610 n = Int32.ofNat 3) {post : Outcome × zS → Prop} (h1 : post (.returned none, sA (sA S 1616 n 2) 1617 n 444)) : zCall d 136 [.ref 1592, .int (Int32.ofNat n)] S post := by
  have ht : ztab 136 = ztb136 := rfl
  show zEv d 136 0 [.ref 1592, .int (Int32.ofNat n)] [] S post
  refine zv_c1 ht rfl rfl ?_
  refine zv_gl (st' := [.ref 1610]) ht rfl hF rfl rfl rfl ?_
  refine zv_c1 ht rfl rfl ?_
  refine zv_iaE (j := n) (x := 3) ht rfl rfl rfl rfl (zi_natE (a := n) rfl (by omega)) ⟨(Or.inl rfl), zi_inE (a := n) (n := 3000) rfl (by omega) (by omega)⟩ hk ?_
  refine zv_sw ht rfl rfl rfl rfl rfl ?_
  refine And.intro (fun h => absurd h (by decide)) (fun _ => ?_)
  refine And.intro (fun h => absurd h (by decide)) (fun _ => ?_)
  refine And.intro (fun h => absurd h (by decide)) (fun _ => ?_)
  refine And.intro (fun _ => ?_) (fun h => absurd (by decide) h)
  refine zv_c1 ht rfl rfl (zv_c1 ht rfl rfl (zv_c1 ht rfl rfl (zv_c1 ht rfl rfl ?_)))
  have C2 : ∀ (pst1 : Outcome × zS → Prop), (pst1 (.returned none, sA (sA S 1616 n 2) 1617 n 444)) → zCall (d - 1) 137 [.ref 1592, .int (Int32.ofNat n), .int 2, .int 444] S pst1 := by
    intro pst1 k4
    have ht3 : ztab 137 = ztb137 := rfl
    show zEv (d - 1) 137 0 [.ref 1592, .int (Int32.ofNat n), .int 2, .int 444] [] S pst1
    refine zv_c1 ht3 rfl rfl ?_
    refine zv_gl (st' := [.ref 1616]) ht3 rfl hF rfl rfl rfl ?_
    refine zv_c1 ht3 rfl rfl (zv_c1 ht3 rfl rfl ?_)
    refine zv_is (j := n) (x := 2) ht3 rfl rfl rfl rfl (zi_natE (a := n) rfl (by omega)) ⟨rfl, zi_inE (a := n) (n := 3000) rfl (by omega) (by omega)⟩ ?_
    refine zv_c1 ht3 rfl rfl ?_
    refine zv_gl (st' := [.ref 1617]) ht3 rfl hF rfl rfl rfl ?_
    refine zv_c1 ht3 rfl rfl (zv_c1 ht3 rfl rfl ?_)
    refine zv_is (j := n) (x := 444) ht3 rfl rfl rfl rfl (zi_natE (a := n) rfl (by omega)) ⟨rfl, zi_inE (a := n) (n := 3000) rfl (by omega) (by omega)⟩ ?_
    exact zv_rt ht3 rfl rfl rfl rfl k4
  refine zv_cl ht rfl rfl rfl rfl (by omega) (Nat.le_of_ble_eq_true rfl) (C2 _ ?_)
  show zEv d 136 135 [.ref 1592, .int (Int32.ofNat n)] [] (sA (sA S 1616 n 2) 1617 n 444) post
  exact zv_rt ht rfl rfl rfl rfl h1

theorem pl4 {d : Nat} {S : zS} (hF : zFin true S) (hd : 1 ≤ d) (n : Nat)  (hn : n < 3000) (hk : gA S 1610 n = Int32.ofNat 4) {post : Outcome × zS → Prop} (h1 : post (.returned none, sA (sA S 1616 n 0) 1617 n 321)) : zCall d 136 [.ref 1592, .int (Int32.ofNat n)] S post := by
  have ht : ztab 136 = ztb136 := rfl
  show zEv d 136 0 [.ref 1592, .int (Int32.ofNat n)] [] S post
  refine zv_c1 ht rfl rfl ?_
  refine zv_gl (st' := [.ref 1610]) ht rfl hF rfl rfl rfl ?_
  refine zv_c1 ht rfl rfl ?_
  refine zv_iaE (j := n) (x := 4) ht rfl rfl rfl rfl (zi_natE (a := n) rfl (by omega)) ⟨(Or.inl rfl), zi_inE (a := n) (n := 3000) rfl (by omega) (by omega)⟩ hk ?_
  refine zv_sw ht rfl rfl rfl rfl rfl ?_
  refine And.intro (fun h => absurd h (by decide)) (fun _ => ?_)
  refine And.intro (fun h => absurd h (by decide)) (fun _ => ?_)
  refine And.intro (fun h => absurd h (by decide)) (fun _ => ?_)
  refine And.intro (fun h => absurd h (by decide)) (fun _ => ?_)
  refine And.intro (fun _ => ?_) (fun h => absurd (by decide) h)
  refine zv_c1 ht rfl rfl (zv_c1 ht rfl rfl (zv_c1 ht rfl rfl (zv_c1 ht rfl rfl ?_)))
  have C2 : ∀ (pst1 : Outcome × zS → Prop), (pst1 (.returned none, sA (sA S 1616 n 0) 1617 n 321)) → zCall (d - 1) 137 [.ref 1592, .int (Int32.ofNat n), .int 0, .int 321] S pst1 := by
    intro pst1 k4
    have ht3 : ztab 137 = ztb137 := rfl
    show zEv (d - 1) 137 0 [.ref 1592, .int (Int32.ofNat n), .int 0, .int 321] [] S pst1
    refine zv_c1 ht3 rfl rfl ?_
    refine zv_gl (st' := [.ref 1616]) ht3 rfl hF rfl rfl rfl ?_
    refine zv_c1 ht3 rfl rfl (zv_c1 ht3 rfl rfl ?_)
    refine zv_is (j := n) (x := 0) ht3 rfl rfl rfl rfl (zi_natE (a := n) rfl (by omega)) ⟨rfl, zi_inE (a := n) (n := 3000) rfl (by omega) (by omega)⟩ ?_
    refine zv_c1 ht3 rfl rfl ?_
    refine zv_gl (st' := [.ref 1617]) ht3 rfl hF rfl rfl rfl ?_
    refine zv_c1 ht3 rfl rfl (zv_c1 ht3 rfl rfl ?_)
    refine zv_is (j := n) (x := 321) ht3 rfl rfl rfl rfl (zi_natE (a := n) rfl (by omega)) ⟨rfl, zi_inE (a := n) (n := 3000) rfl (by omega) (by omega)⟩ ?_
    exact zv_rt ht3 rfl rfl rfl rfl k4
  refine zv_cl ht rfl rfl rfl rfl (by omega) (Nat.le_of_ble_eq_true rfl) (C2 _ ?_)
  show zEv d 136 145 [.ref 1592, .int (Int32.ofNat n)] [] (sA (sA S 1616 n 0) 1617 n 321) post
  exact zv_rt ht rfl rfl rfl rfl h1

theorem pl5 {d : Nat} {S : zS} (hF : zFin true S) (hd : 1 ≤ d) (n : Nat)  (hn : n < 3000) (hk : gA S 1610 n = Int32.ofNat 5) {post : Outcome × zS → Prop} (h1 : post (.returned none, sA (sA S 1616 n 0) 1617 n 321)) : zCall d 136 [.ref 1592, .int (Int32.ofNat n)] S post := by
  have ht : ztab 136 = ztb136 := rfl
  show zEv d 136 0 [.ref 1592, .int (Int32.ofNat n)] [] S post
  refine zv_c1 ht rfl rfl ?_
  refine zv_gl (st' := [.ref 1610]) ht rfl hF rfl rfl rfl ?_
  refine zv_c1 ht rfl rfl ?_
  refine zv_iaE (j := n) (x := 5) ht rfl rfl rfl rfl (zi_natE (a := n) rfl (by omega)) ⟨(Or.inl rfl), zi_inE (a := n) (n := 3000) rfl (by omega) (by omega)⟩ hk ?_
  refine zv_sw ht rfl rfl rfl rfl rfl ?_
  refine And.intro (fun h => absurd h (by decide)) (fun _ => ?_)
  refine And.intro (fun h => absurd h (by decide)) (fun _ => ?_)
  refine And.intro (fun h => absurd h (by decide)) (fun _ => ?_)
  refine And.intro (fun h => absurd h (by decide)) (fun _ => ?_)
  refine And.intro (fun h => absurd h (by decide)) (fun _ => ?_)
  refine And.intro (fun _ => ?_) (fun h => absurd (by decide) h)
  refine zv_c1 ht rfl rfl (zv_c1 ht rfl rfl (zv_c1 ht rfl rfl (zv_c1 ht rfl rfl ?_)))
  have C2 : ∀ (pst1 : Outcome × zS → Prop), (pst1 (.returned none, sA (sA S 1616 n 0) 1617 n 321)) → zCall (d - 1) 137 [.ref 1592, .int (Int32.ofNat n), .int 0, .int 321] S pst1 := by
    intro pst1 k4
    have ht3 : ztab 137 = ztb137 := rfl
    show zEv (d - 1) 137 0 [.ref 1592, .int (Int32.ofNat n), .int 0, .int 321] [] S pst1
    refine zv_c1 ht3 rfl rfl ?_
    refine zv_gl (st' := [.ref 1616]) ht3 rfl hF rfl rfl rfl ?_
    refine zv_c1 ht3 rfl rfl (zv_c1 ht3 rfl rfl ?_)
    refine zv_is (j := n) (x := 0) ht3 rfl rfl rfl rfl (zi_natE (a := n) rfl (by omega)) ⟨rfl, zi_inE (a := n) (n := 3000) rfl (by omega) (by omega)⟩ ?_
    refine zv_c1 ht3 rfl rfl ?_
    refine zv_gl (st' := [.ref 1617]) ht3 rfl hF rfl rfl rfl ?_
    refine zv_c1 ht3 rfl rfl (zv_c1 ht3 rfl rfl ?_)
    refine zv_is (j := n) (x := 321) ht3 rfl rfl rfl rfl (zi_natE (a := n) rfl (by omega)) ⟨rfl, zi_inE (a := n) (n := 3000) rfl (by omega) (by omega)⟩ ?_
    exact zv_rt ht3 rfl rfl rfl rfl k4
  refine zv_cl ht rfl rfl rfl rfl (by omega) (Nat.le_of_ble_eq_true rfl) (C2 _ ?_)
  show zEv d 136 145 [.ref 1592, .int (Int32.ofNat n)] [] (sA (sA S 1616 n 0) 1617 n 321) post
  exact zv_rt ht rfl rfl rfl rfl h1

theorem pl6 {d : Nat} {S : zS} (hF : zFin true S) (hd : 1 ≤ d) (n : Nat)  (hn : n < 3000) (hk : gA S 1610 n = Int32.ofNat 6) {post : Outcome × zS → Prop} (h1 : post (.returned none, sA (sA S 1616 n 0) 1617 n 286)) : zCall d 136 [.ref 1592, .int (Int32.ofNat n)] S post := by
  have ht : ztab 136 = ztb136 := rfl
  show zEv d 136 0 [.ref 1592, .int (Int32.ofNat n)] [] S post
  refine zv_c1 ht rfl rfl ?_
  refine zv_gl (st' := [.ref 1610]) ht rfl hF rfl rfl rfl ?_
  refine zv_c1 ht rfl rfl ?_
  refine zv_iaE (j := n) (x := 6) ht rfl rfl rfl rfl (zi_natE (a := n) rfl (by omega)) ⟨(Or.inl rfl), zi_inE (a := n) (n := 3000) rfl (by omega) (by omega)⟩ hk ?_
  refine zv_sw ht rfl rfl rfl rfl rfl ?_
  refine And.intro (fun h => absurd h (by decide)) (fun _ => ?_)
  refine And.intro (fun h => absurd h (by decide)) (fun _ => ?_)
  refine And.intro (fun h => absurd h (by decide)) (fun _ => ?_)
  refine And.intro (fun h => absurd h (by decide)) (fun _ => ?_)
  refine And.intro (fun h => absurd h (by decide)) (fun _ => ?_)
  refine And.intro (fun h => absurd h (by decide)) (fun _ => ?_)
  refine And.intro (fun h => absurd h (by decide)) (fun _ => ?_)
  refine zv_c1 ht rfl rfl (zv_c1 ht rfl rfl (zv_c1 ht rfl rfl (zv_c1 ht rfl rfl ?_)))
  have C2 : ∀ (pst1 : Outcome × zS → Prop), (pst1 (.returned none, sA (sA S 1616 n 0) 1617 n 286)) → zCall (d - 1) 137 [.ref 1592, .int (Int32.ofNat n), .int 0, .int 286] S pst1 := by
    intro pst1 k4
    have ht3 : ztab 137 = ztb137 := rfl
    show zEv (d - 1) 137 0 [.ref 1592, .int (Int32.ofNat n), .int 0, .int 286] [] S pst1
    refine zv_c1 ht3 rfl rfl ?_
    refine zv_gl (st' := [.ref 1616]) ht3 rfl hF rfl rfl rfl ?_
    refine zv_c1 ht3 rfl rfl (zv_c1 ht3 rfl rfl ?_)
    refine zv_is (j := n) (x := 0) ht3 rfl rfl rfl rfl (zi_natE (a := n) rfl (by omega)) ⟨rfl, zi_inE (a := n) (n := 3000) rfl (by omega) (by omega)⟩ ?_
    refine zv_c1 ht3 rfl rfl ?_
    refine zv_gl (st' := [.ref 1617]) ht3 rfl hF rfl rfl rfl ?_
    refine zv_c1 ht3 rfl rfl (zv_c1 ht3 rfl rfl ?_)
    refine zv_is (j := n) (x := 286) ht3 rfl rfl rfl rfl (zi_natE (a := n) rfl (by omega)) ⟨rfl, zi_inE (a := n) (n := 3000) rfl (by omega) (by omega)⟩ ?_
    exact zv_rt ht3 rfl rfl rfl rfl k4
  refine zv_cl ht rfl rfl rfl rfl (by omega) (Nat.le_of_ble_eq_true rfl) (C2 _ ?_)
  show zEv d 136 165 [.ref 1592, .int (Int32.ofNat n)] [] (sA (sA S 1616 n 0) 1617 n 286) post
  exact zv_rt ht rfl rfl rfl rfl h1

theorem pl7 {d : Nat} {S : zS} (hF : zFin true S) (hd : 1 ≤ d) (n : Nat)  (hn : n < 3000) (hk : gA S 1610 n = Int32.ofNat 7) {post : Outcome × zS → Prop} (h1 : post (.returned none, sA (sA S 1616 n 0) 1617 n 286)) : zCall d 136 [.ref 1592, .int (Int32.ofNat n)] S post := by
  have ht : ztab 136 = ztb136 := rfl
  show zEv d 136 0 [.ref 1592, .int (Int32.ofNat n)] [] S post
  refine zv_c1 ht rfl rfl ?_
  refine zv_gl (st' := [.ref 1610]) ht rfl hF rfl rfl rfl ?_
  refine zv_c1 ht rfl rfl ?_
  refine zv_iaE (j := n) (x := 7) ht rfl rfl rfl rfl (zi_natE (a := n) rfl (by omega)) ⟨(Or.inl rfl), zi_inE (a := n) (n := 3000) rfl (by omega) (by omega)⟩ hk ?_
  refine zv_sw ht rfl rfl rfl rfl rfl ?_
  refine And.intro (fun h => absurd h (by decide)) (fun _ => ?_)
  refine And.intro (fun h => absurd h (by decide)) (fun _ => ?_)
  refine And.intro (fun h => absurd h (by decide)) (fun _ => ?_)
  refine And.intro (fun h => absurd h (by decide)) (fun _ => ?_)
  refine And.intro (fun h => absurd h (by decide)) (fun _ => ?_)
  refine And.intro (fun h => absurd h (by decide)) (fun _ => ?_)
  refine And.intro (fun h => absurd h (by decide)) (fun _ => ?_)
  refine zv_c1 ht rfl rfl (zv_c1 ht rfl rfl (zv_c1 ht rfl rfl (zv_c1 ht rfl rfl ?_)))
  have C2 : ∀ (pst1 : Outcome × zS → Prop), (pst1 (.returned none, sA (sA S 1616 n 0) 1617 n 286)) → zCall (d - 1) 137 [.ref 1592, .int (Int32.ofNat n), .int 0, .int 286] S pst1 := by
    intro pst1 k4
    have ht3 : ztab 137 = ztb137 := rfl
    show zEv (d - 1) 137 0 [.ref 1592, .int (Int32.ofNat n), .int 0, .int 286] [] S pst1
    refine zv_c1 ht3 rfl rfl ?_
    refine zv_gl (st' := [.ref 1616]) ht3 rfl hF rfl rfl rfl ?_
    refine zv_c1 ht3 rfl rfl (zv_c1 ht3 rfl rfl ?_)
    refine zv_is (j := n) (x := 0) ht3 rfl rfl rfl rfl (zi_natE (a := n) rfl (by omega)) ⟨rfl, zi_inE (a := n) (n := 3000) rfl (by omega) (by omega)⟩ ?_
    refine zv_c1 ht3 rfl rfl ?_
    refine zv_gl (st' := [.ref 1617]) ht3 rfl hF rfl rfl rfl ?_
    refine zv_c1 ht3 rfl rfl (zv_c1 ht3 rfl rfl ?_)
    refine zv_is (j := n) (x := 286) ht3 rfl rfl rfl rfl (zi_natE (a := n) rfl (by omega)) ⟨rfl, zi_inE (a := n) (n := 3000) rfl (by omega) (by omega)⟩ ?_
    exact zv_rt ht3 rfl rfl rfl rfl k4
  refine zv_cl ht rfl rfl rfl rfl (by omega) (Nat.le_of_ble_eq_true rfl) (C2 _ ?_)
  show zEv d 136 165 [.ref 1592, .int (Int32.ofNat n)] [] (sA (sA S 1616 n 0) 1617 n 286) post
  exact zv_rt ht rfl rfl rfl rfl h1

theorem pl8 {d : Nat} {S : zS} (hF : zFin true S) (hd : 1 ≤ d) (n : Nat)  (hn : n < 3000) (hk : gA S 1610 n = Int32.ofNat 8) {post : Outcome × zS → Prop} (h1 : post (.returned none, sA (sA S 1616 n 0) 1617 n 286)) : zCall d 136 [.ref 1592, .int (Int32.ofNat n)] S post := by
  have ht : ztab 136 = ztb136 := rfl
  show zEv d 136 0 [.ref 1592, .int (Int32.ofNat n)] [] S post
  refine zv_c1 ht rfl rfl ?_
  refine zv_gl (st' := [.ref 1610]) ht rfl hF rfl rfl rfl ?_
  refine zv_c1 ht rfl rfl ?_
  refine zv_iaE (j := n) (x := 8) ht rfl rfl rfl rfl (zi_natE (a := n) rfl (by omega)) ⟨(Or.inl rfl), zi_inE (a := n) (n := 3000) rfl (by omega) (by omega)⟩ hk ?_
  refine zv_sw ht rfl rfl rfl rfl rfl ?_
  refine And.intro (fun h => absurd h (by decide)) (fun _ => ?_)
  refine And.intro (fun h => absurd h (by decide)) (fun _ => ?_)
  refine And.intro (fun h => absurd h (by decide)) (fun _ => ?_)
  refine And.intro (fun h => absurd h (by decide)) (fun _ => ?_)
  refine And.intro (fun h => absurd h (by decide)) (fun _ => ?_)
  refine And.intro (fun h => absurd h (by decide)) (fun _ => ?_)
  refine And.intro (fun h => absurd h (by decide)) (fun _ => ?_)
  refine zv_c1 ht rfl rfl (zv_c1 ht rfl rfl (zv_c1 ht rfl rfl (zv_c1 ht rfl rfl ?_)))
  have C2 : ∀ (pst1 : Outcome × zS → Prop), (pst1 (.returned none, sA (sA S 1616 n 0) 1617 n 286)) → zCall (d - 1) 137 [.ref 1592, .int (Int32.ofNat n), .int 0, .int 286] S pst1 := by
    intro pst1 k4
    have ht3 : ztab 137 = ztb137 := rfl
    show zEv (d - 1) 137 0 [.ref 1592, .int (Int32.ofNat n), .int 0, .int 286] [] S pst1
    refine zv_c1 ht3 rfl rfl ?_
    refine zv_gl (st' := [.ref 1616]) ht3 rfl hF rfl rfl rfl ?_
    refine zv_c1 ht3 rfl rfl (zv_c1 ht3 rfl rfl ?_)
    refine zv_is (j := n) (x := 0) ht3 rfl rfl rfl rfl (zi_natE (a := n) rfl (by omega)) ⟨rfl, zi_inE (a := n) (n := 3000) rfl (by omega) (by omega)⟩ ?_
    refine zv_c1 ht3 rfl rfl ?_
    refine zv_gl (st' := [.ref 1617]) ht3 rfl hF rfl rfl rfl ?_
    refine zv_c1 ht3 rfl rfl (zv_c1 ht3 rfl rfl ?_)
    refine zv_is (j := n) (x := 286) ht3 rfl rfl rfl rfl (zi_natE (a := n) rfl (by omega)) ⟨rfl, zi_inE (a := n) (n := 3000) rfl (by omega) (by omega)⟩ ?_
    exact zv_rt ht3 rfl rfl rfl rfl k4
  refine zv_cl ht rfl rfl rfl rfl (by omega) (Nat.le_of_ble_eq_true rfl) (C2 _ ?_)
  show zEv d 136 165 [.ref 1592, .int (Int32.ofNat n)] [] (sA (sA S 1616 n 0) 1617 n 286) post
  exact zv_rt ht rfl rfl rfl rfl h1

theorem pl9 {d : Nat} {S : zS} (hF : zFin true S) (hd : 1 ≤ d) (n : Nat)  (hn : n < 3000) (hk : gA S 1610 n = Int32.ofNat 9) {post : Outcome × zS → Prop} (h1 : post (.returned none, sA (sA S 1616 n 0) 1617 n 286)) : zCall d 136 [.ref 1592, .int (Int32.ofNat n)] S post := by
  have ht : ztab 136 = ztb136 := rfl
  show zEv d 136 0 [.ref 1592, .int (Int32.ofNat n)] [] S post
  refine zv_c1 ht rfl rfl ?_
  refine zv_gl (st' := [.ref 1610]) ht rfl hF rfl rfl rfl ?_
  refine zv_c1 ht rfl rfl ?_
  refine zv_iaE (j := n) (x := 9) ht rfl rfl rfl rfl (zi_natE (a := n) rfl (by omega)) ⟨(Or.inl rfl), zi_inE (a := n) (n := 3000) rfl (by omega) (by omega)⟩ hk ?_
  refine zv_sw ht rfl rfl rfl rfl rfl ?_
  refine And.intro (fun h => absurd h (by decide)) (fun _ => ?_)
  refine And.intro (fun h => absurd h (by decide)) (fun _ => ?_)
  refine And.intro (fun h => absurd h (by decide)) (fun _ => ?_)
  refine And.intro (fun h => absurd h (by decide)) (fun _ => ?_)
  refine And.intro (fun h => absurd h (by decide)) (fun _ => ?_)
  refine And.intro (fun h => absurd h (by decide)) (fun _ => ?_)
  refine And.intro (fun h => absurd h (by decide)) (fun _ => ?_)
  refine zv_c1 ht rfl rfl (zv_c1 ht rfl rfl (zv_c1 ht rfl rfl (zv_c1 ht rfl rfl ?_)))
  have C2 : ∀ (pst1 : Outcome × zS → Prop), (pst1 (.returned none, sA (sA S 1616 n 0) 1617 n 286)) → zCall (d - 1) 137 [.ref 1592, .int (Int32.ofNat n), .int 0, .int 286] S pst1 := by
    intro pst1 k4
    have ht3 : ztab 137 = ztb137 := rfl
    show zEv (d - 1) 137 0 [.ref 1592, .int (Int32.ofNat n), .int 0, .int 286] [] S pst1
    refine zv_c1 ht3 rfl rfl ?_
    refine zv_gl (st' := [.ref 1616]) ht3 rfl hF rfl rfl rfl ?_
    refine zv_c1 ht3 rfl rfl (zv_c1 ht3 rfl rfl ?_)
    refine zv_is (j := n) (x := 0) ht3 rfl rfl rfl rfl (zi_natE (a := n) rfl (by omega)) ⟨rfl, zi_inE (a := n) (n := 3000) rfl (by omega) (by omega)⟩ ?_
    refine zv_c1 ht3 rfl rfl ?_
    refine zv_gl (st' := [.ref 1617]) ht3 rfl hF rfl rfl rfl ?_
    refine zv_c1 ht3 rfl rfl (zv_c1 ht3 rfl rfl ?_)
    refine zv_is (j := n) (x := 286) ht3 rfl rfl rfl rfl (zi_natE (a := n) rfl (by omega)) ⟨rfl, zi_inE (a := n) (n := 3000) rfl (by omega) (by omega)⟩ ?_
    exact zv_rt ht3 rfl rfl rfl rfl k4
  refine zv_cl ht rfl rfl rfl rfl (by omega) (Nat.le_of_ble_eq_true rfl) (C2 _ ?_)
  show zEv d 136 165 [.ref 1592, .int (Int32.ofNat n)] [] (sA (sA S 1616 n 0) 1617 n 286) post
  exact zv_rt ht rfl rfl rfl rfl h1

theorem pl18 {d : Nat} {S : zS} (hF : zFin true S) (hd : 1 ≤ d) (n : Nat)  (hn : n < 3000) (hk : gA S 1610 n = Int32.ofNat 18) {post : Outcome × zS → Prop} (h1 : post (.returned none, sA (sA S 1616 n 0) 1617 n 444)) : zCall d 136 [.ref 1592, .int (Int32.ofNat n)] S post := by
  have ht : ztab 136 = ztb136 := rfl
  show zEv d 136 0 [.ref 1592, .int (Int32.ofNat n)] [] S post
  refine zv_c1 ht rfl rfl ?_
  refine zv_gl (st' := [.ref 1610]) ht rfl hF rfl rfl rfl ?_
  refine zv_c1 ht rfl rfl ?_
  refine zv_iaE (j := n) (x := 18) ht rfl rfl rfl rfl (zi_natE (a := n) rfl (by omega)) ⟨(Or.inl rfl), zi_inE (a := n) (n := 3000) rfl (by omega) (by omega)⟩ hk ?_
  refine zv_sw ht rfl rfl rfl rfl rfl ?_
  refine And.intro (fun h => absurd h (by decide)) (fun _ => ?_)
  refine And.intro (fun h => absurd h (by decide)) (fun _ => ?_)
  refine And.intro (fun h => absurd h (by decide)) (fun _ => ?_)
  refine And.intro (fun h => absurd h (by decide)) (fun _ => ?_)
  refine And.intro (fun h => absurd h (by decide)) (fun _ => ?_)
  refine And.intro (fun h => absurd h (by decide)) (fun _ => ?_)
  refine And.intro (fun _ => ?_) (fun h => absurd (by decide) h)
  refine zv_c1 ht rfl rfl (zv_c1 ht rfl rfl (zv_c1 ht rfl rfl (zv_c1 ht rfl rfl ?_)))
  have C2 : ∀ (pst1 : Outcome × zS → Prop), (pst1 (.returned none, sA (sA S 1616 n 0) 1617 n 444)) → zCall (d - 1) 137 [.ref 1592, .int (Int32.ofNat n), .int 0, .int 444] S pst1 := by
    intro pst1 k4
    have ht3 : ztab 137 = ztb137 := rfl
    show zEv (d - 1) 137 0 [.ref 1592, .int (Int32.ofNat n), .int 0, .int 444] [] S pst1
    refine zv_c1 ht3 rfl rfl ?_
    refine zv_gl (st' := [.ref 1616]) ht3 rfl hF rfl rfl rfl ?_
    refine zv_c1 ht3 rfl rfl (zv_c1 ht3 rfl rfl ?_)
    refine zv_is (j := n) (x := 0) ht3 rfl rfl rfl rfl (zi_natE (a := n) rfl (by omega)) ⟨rfl, zi_inE (a := n) (n := 3000) rfl (by omega) (by omega)⟩ ?_
    refine zv_c1 ht3 rfl rfl ?_
    refine zv_gl (st' := [.ref 1617]) ht3 rfl hF rfl rfl rfl ?_
    refine zv_c1 ht3 rfl rfl (zv_c1 ht3 rfl rfl ?_)
    refine zv_is (j := n) (x := 444) ht3 rfl rfl rfl rfl (zi_natE (a := n) rfl (by omega)) ⟨rfl, zi_inE (a := n) (n := 3000) rfl (by omega) (by omega)⟩ ?_
    exact zv_rt ht3 rfl rfl rfl rfl k4
  refine zv_cl ht rfl rfl rfl rfl (by omega) (Nat.le_of_ble_eq_true rfl) (C2 _ ?_)
  show zEv d 136 155 [.ref 1592, .int (Int32.ofNat n)] [] (sA (sA S 1616 n 0) 1617 n 444) post
  exact zv_rt ht rfl rfl rfl rfl h1

/-- base and flags of what has nothing in it -/
def tyL (k : Nat) : Int32 × Int32 := match k with
  | 0 => (0, 441)
  | 1 => (0, 337)
  | 2 => (2, 446)
  | 3 => (2, 444)
  | 4 => (0, 321)
  | 5 => (0, 321)
  | 18 => (0, 444)
  | _ => (0, 286)
noncomputable def tyP (k : Nat) : Int32 → Int32 → Int32 → Int32 → Option (Int32 × Int32) := match k with
  | 11 => tyP11
  | 12 => tyP12
  | 13 => tyP13
  | 14 => tyP14
  | 15 => tyP15
  | _ => tyP16
noncomputable def tyW (k : Nat) : Int32 → Int32 → Option (Int32 × Int32) := match k with
  | 19 => tyW19
  | 20 => tyW20
  | 21 => tyW21
  | 22 => tyW22
  | 23 => tyW23
  | 24 => tyW24
  | _ => tyW25

