/-! ===== the tables' rows are what the class files say ===== -/
def zTg (pc : Nat) (off : Int) (a : Nat) : Bool := decide ((pc : Int) + off = (a : Int))
def zswT (pc : Nat) (df lo hi : Int) (offs : Array Int) (l : List (Int32 × Nat)) (a : Nat) : Bool :=
  zTg pc df a && decide (hi - lo + 1 = (offs.toList.length : Int)) && (List.range offs.toList.length).all (fun j => decide ((pc : Int) + offs.toList.getD j 0 = ((zpick l (Int32.ofInt (lo + j)) a : Nat) : Int)) && decide ((Int32.ofInt (lo + j)).toInt = lo + j)) && l.all (fun q => decide (lo ≤ q.1.toInt) && decide (q.1.toInt ≤ hi))
def zswL (pc : Nat) (df : Int) (ps : Array (Int × Int)) (l : List (Int32 × Nat)) (a : Nat) : Bool :=
  zTg pc df a && decide (ps.toList.map (fun q => (Int32.ofInt q.1, ((pc : Int) + q.2).toNat)) = l) && ps.toList.all (fun q => decide ((Int32.ofInt q.1).toInt = q.1) && decide (0 ≤ (pc : Int) + q.2)) && (ps.toList.zip (ps.toList.drop 1)).all (fun (a, next) => a.1 < next.1)
/-- the class of a class of one object -/
def zc1 (id : Nat) : Nat := (zsty id).1
def zat (t : ArrayType) : Nat := match t with
  | .int => 100
  | .byte => 101
  | .boolean => 102
  | .long => 103
  | .char => 104
  | _ => 0
/-- the element class of an array of objects -/
def zec (t : Nat) : Nat := if t = 111 then 3 else if t = 112 then 21 else if t = 113 then 10 else if t = 114 then 9 else 99
def zckF (o F i : Nat) (vt : List (Nat × Nat)) : Bool := ((zFL o).contains (i, F, 0) || (zFL o).contains (i, F, 1)) && decide (o < 32) && decide (F < 207) && (match vt with
  | [] => true
  | (id, _) :: _ => decide (id < zD0) && zhas (zc1 id) F || zfk F == 5)
def zckC (o i op : Nat) (vt : List (Nat × Nat)) : Bool := decide (o < 32) && vt.all (fun q => decide (9000 ≤ q.2) || (decide (q.2 < zNM) && (zSL o).contains (i, op, (if 1000 ≤ q.1 then zc1 (q.1 - 1000) else q.1), q.2)))
def zck (o mL : Nat) (e : zE) : Bool := match e.2.1 with
  | .aconst_null => e.2.2.1 == 1
  | .iconst n => e.2.2.1 == 1 && decide (e.2.2.2.1 = .int (Int32.ofInt n))
  | .bipush n => e.2.2.1 == 2 && decide (e.2.2.2.1 = .int (Int8.ofInt n).toInt32)
  | .sipush n => e.2.2.1 == 3 && decide (e.2.2.2.1 = .int (Int16.ofInt n).toInt32)
  | .lconst n => e.2.2.1 == 1 && decide (e.2.2.2.1 = .long (Int64.ofNat (n : Nat)))
  | .ldc i => e.2.2.1 == 2 && decide (o < 32) && decide ((i, e.2.2.2.1) ∈ zKL o) && (match e.2.2.2.1 with | .long _ => false | _ => true)
  | .ldc_w i => e.2.2.1 == 3 && decide (o < 32) && decide ((i, e.2.2.2.1) ∈ zKL o) && (match e.2.2.2.1 with | .long _ => false | _ => true)
  | .ldc2_w i => e.2.2.1 == 3 && decide (o < 32) && decide ((i, e.2.2.2.1) ∈ zKL o) && (match e.2.2.2.1 with | .long _ => true | _ => false)
  | .iload i => e.2.2.1 == 2 && e.2.2.2.2.1 == i
  | .iload_n k => e.2.2.1 == 1 && e.2.2.2.2.1 == (k : Nat)
  | .lload i => e.2.2.1 == 2 && e.2.2.2.2.1 == i
  | .lload_n k => e.2.2.1 == 1 && e.2.2.2.2.1 == (k : Nat)
  | .aload i => e.2.2.1 == 2 && e.2.2.2.2.1 == i
  | .aload_n k => e.2.2.1 == 1 && e.2.2.2.2.1 == (k : Nat)
  | .istore i => e.2.2.1 == 2 && e.2.2.2.2.1 == i && decide (i < mL)
  | .istore_n k => e.2.2.1 == 1 && e.2.2.2.2.1 == (k : Nat) && decide ((k : Nat) < mL)
  | .lstore i => e.2.2.1 == 2 && e.2.2.2.2.1 == i && decide (i + 1 < mL)
  | .lstore_n k => e.2.2.1 == 1 && e.2.2.2.2.1 == (k : Nat) && decide ((k : Nat) + 1 < mL)
  | .astore i => e.2.2.1 == 2 && e.2.2.2.2.1 == i && decide (i < mL)
  | .astore_n k => e.2.2.1 == 1 && e.2.2.2.2.1 == (k : Nat) && decide ((k : Nat) < mL)
  | .iinc i n => e.2.2.1 == 3 && e.2.2.2.2.1 == i && decide (i < mL) && decide (e.2.2.2.1 = .int (Int32.ofInt n))
  | .goto off => e.2.2.1 == 3 && zTg e.1 off e.2.2.2.2.1
  | .ifCond _ off => e.2.2.1 == 3 && zTg e.1 off e.2.2.2.2.1
  | .if_icmp _ off => e.2.2.1 == 3 && zTg e.1 off e.2.2.2.2.1
  | .if_acmp _ off => e.2.2.1 == 3 && zTg e.1 off e.2.2.2.2.1
  | .ifnull off => e.2.2.1 == 3 && zTg e.1 off e.2.2.2.2.1
  | .ifnonnull off => e.2.2.1 == 3 && zTg e.1 off e.2.2.2.2.1
  | .tableswitch df lo hi offs => zswT e.1 df lo hi offs e.2.2.2.2.2.1 e.2.2.2.2.1
  | .lookupswitch df ps => zswL e.1 df ps e.2.2.2.2.2.1 e.2.2.2.2.1
  | .getfield i => e.2.2.1 == 3 && zckF o e.2.2.2.2.1 i e.2.2.2.2.2.2
  | .putfield i => e.2.2.1 == 3 && zckF o e.2.2.2.2.1 i e.2.2.2.2.2.2
  | .new i => e.2.2.1 == 3 && decide (o < 32) && (zCL o).contains (i, e.2.2.2.2.1) && decide (e.2.2.2.2.1 < 24) && e.2.2.2.2.1 != 10 && e.2.2.2.2.1 != 12
  | .checkcast i => e.2.2.1 == 3 && decide (o < 32) && (zCL o).contains (i, e.2.2.2.2.1) && (decide (e.2.2.2.2.1 < 24) || e.2.2.2.2.1 == 29)
  | .instanceof i => e.2.2.1 == 3 && decide (o < 32) && (zCL o).contains (i, e.2.2.2.2.1) && decide (e.2.2.2.2.1 < 24)
  | .newarray t => e.2.2.1 == 2 && e.2.2.2.2.1 == zat t && decide (100 ≤ e.2.2.2.2.1 ∧ e.2.2.2.2.1 ≤ 103)
  | .anewarray i => e.2.2.1 == 3 && decide (o < 32) && (zCL o).contains (i, zec e.2.2.2.2.1) && decide (111 ≤ e.2.2.2.2.1 ∧ e.2.2.2.2.1 ≤ 114)
  | .multianewarray i _ => e.2.2.1 == 4 && o == 0 && i == 16
  | .invokestatic i => e.2.2.1 == 3 && zckC o i 0 e.2.2.2.2.2.2
  | .invokespecial i => e.2.2.1 == 3 && (match e.2.2.2.2.2.2 with | (0, _) :: _ => zckC o i 1 e.2.2.2.2.2.2 | _ => zckC o i 2 e.2.2.2.2.2.2)
  | .invokevirtual i => e.2.2.1 == 3 && zckC o i 3 e.2.2.2.2.2.2
  | .getstatic i => e.2.2.1 == 3 && decide (o < 32) && (zGL o).contains (i, e.2.2.2.2.1) && decide (e.2.2.2.1 = (zst e.2.2.2.2.1).2.2.2)
  | _ => e.2.2.1 == 1
def zsw (i : Instr) : Bool := match i with
  | .tableswitch _ _ _ _ => true
  | .lookupswitch _ _ => true
  | .multianewarray _ _ => true
  | _ => false
def zscan (o mL me : Nat) : Nat → List UInt8 → List zE → Bool
  | _, _, [] => true
  | pos, bs, e :: t => decide (pos ≤ e.1) && (match zdk (bs.drop (e.1 - pos)) with
    | some (i, n) => decide (i = e.2.1) && n == e.2.2.1
    | none => zsw e.2.1 && zspl.contains (me, e.1)) && zck o mL e && zscan o mL me e.1 (bs.drop (e.1 - pos)) t
def zchk (me : Nat) : Bool := zscan (zoc me) (zmaxL me) me 0 (zcd me).data.toList ((ztab me).flatMap (·.2))
theorem zscan_all {o mL me : Nat} {code : ByteArray} : ∀ (l : List zE) (pos : Nat) (bs : List UInt8), bs = code.data.toList.drop pos → zscan o mL me pos bs l = true → ∀ e ∈ l, zck o mL e = true ∧ (decode code e.1 = .ok (e.2.1, e.2.2.1) ∨ (me, e.1) ∈ zspl) := by
  intro l
  induction l with
  | nil => intro pos bs _ _ e he; cases he
  | cons e0 t ih =>
    intro pos bs hb h e he
    rw [zscan] at h
    simp only [Bool.and_eq_true, decide_eq_true_eq] at h
    obtain ⟨⟨⟨h1, h2⟩, h3⟩, h4⟩ := h
    have hb' : bs.drop (e0.1 - pos) = code.data.toList.drop e0.1 := by
      rw [hb, List.drop_drop]
      congr 1
      omega
    rcases List.mem_cons.mp he with rfl | he
    · refine ⟨h3, ?_⟩
      split at h2
      · rename_i i n hz
        simp only [Bool.and_eq_true, decide_eq_true_eq, beq_iff_eq] at h2
        left
        rw [← h2.1, ← h2.2]
        refine zdk_ok hz (fun j b hj => ?_)
        rw [hb', List.getElem?_drop] at hj
        exact hj
      · simp only [Bool.and_eq_true, List.contains_iff_mem] at h2
        exact Or.inr h2.2
    · exact ih _ _ hb' h4 e he
theorem zlk_mem {pc : Nat} {e : zE} : ∀ (tb : List (Nat × List zE)), zlk tb pc = some e → e ∈ tb.flatMap (·.2) ∧ e.1 = pc := by
  intro tb
  induction tb with
  | nil => intro h; cases h
  | cons q t ih =>
    obtain ⟨hi, l⟩ := q
    intro h
    unfold zlk at h
    split at h
    · have h1 := List.mem_of_find?_eq_some h
      have h2 := List.find?_some h
      exact ⟨List.mem_flatMap.mpr ⟨(hi, l), List.mem_cons_self, h1⟩, by simpa using h2⟩
    · obtain ⟨h1, h2⟩ := ih h
      refine ⟨?_, h2⟩
      rw [List.flatMap_cons]
      exact List.mem_append_right _ h1
/-- what stands in the tables is what the code has, and what its operands stand for -/
theorem zrow {me pc : Nat} {e : zE} (hk : zchk me = true) (h : zlk (ztab me) pc = some e) : e.1 = pc ∧ decode (zcd me) pc = .ok (e.2.1, e.2.2.1) ∧ zck (zoc me) (zmaxL me) e = true := by
  obtain ⟨h1, h2⟩ := zlk_mem _ h
  obtain ⟨h3, h4⟩ := zscan_all (code := zcd me) _ 0 _ (by simp) hk e h1
  refine ⟨h2, ?_, h3⟩
  rcases h4 with h4 | h4
  · rw [← h2]; exact h4
  · rw [h2] at h4
    exact zspl_ok _ h4 e h
