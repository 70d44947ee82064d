set_option maxRecDepth 100000
/-- final fields -/
def zff (f : Nat) : Bool := if f < 103 then (if f < 51 then (if f < 25 then (if f < 12 then (if f < 6 then (if f < 3 then (if f < 1 then (true) else (if f < 2 then (true) else (true))) else (if f < 4 then (true) else (if f < 5 then (true) else (false)))) else (if f < 9 then (if f < 7 then (false) else (if f < 8 then (true) else (false))) else (if f < 10 then (false) else (if f < 11 then (false) else (true))))) else (if f < 18 then (if f < 15 then (if f < 13 then (true) else (if f < 14 then (false) else (false))) else (if f < 16 then (false) else (if f < 17 then (false) else (true)))) else (if f < 21 then (if f < 19 then (true) else (if f < 20 then (false) else (true))) else (if f < 23 then (if f < 22 then (false) else (false)) else (if f < 24 then (false) else (true)))))) else (if f < 38 then (if f < 31 then (if f < 28 then (if f < 26 then (true) else (if f < 27 then (true) else (true))) else (if f < 29 then (true) else (if f < 30 then (true) else (true)))) else (if f < 34 then (if f < 32 then (true) else (if f < 33 then (true) else (true))) else (if f < 36 then (if f < 35 then (true) else (true)) else (if f < 37 then (false) else (false))))) else (if f < 44 then (if f < 41 then (if f < 39 then (false) else (if f < 40 then (true) else (false))) else (if f < 42 then (true) else (if f < 43 then (false) else (false)))) else (if f < 47 then (if f < 45 then (true) else (if f < 46 then (true) else (true))) else (if f < 49 then (if f < 48 then (false) else (false)) else (if f < 50 then (false) else (false))))))) else (if f < 77 then (if f < 64 then (if f < 57 then (if f < 54 then (if f < 52 then (false) else (if f < 53 then (false) else (true))) else (if f < 55 then (true) else (if f < 56 then (false) else (true)))) else (if f < 60 then (if f < 58 then (false) else (if f < 59 then (true) else (true))) else (if f < 62 then (if f < 61 then (true) else (true)) else (if f < 63 then (true) else (true))))) else (if f < 70 then (if f < 67 then (if f < 65 then (true) else (if f < 66 then (true) else (true))) else (if f < 68 then (true) else (if f < 69 then (true) else (true)))) else (if f < 73 then (if f < 71 then (true) else (if f < 72 then (true) else (true))) else (if f < 75 then (if f < 74 then (false) else (false)) else (if f < 76 then (true) else (true)))))) else (if f < 90 then (if f < 83 then (if f < 80 then (if f < 78 then (true) else (if f < 79 then (true) else (true))) else (if f < 81 then (true) else (if f < 82 then (true) else (true)))) else (if f < 86 then (if f < 84 then (true) else (if f < 85 then (false) else (false))) else (if f < 88 then (if f < 87 then (false) else (false)) else (if f < 89 then (false) else (false))))) else (if f < 96 then (if f < 93 then (if f < 91 then (false) else (if f < 92 then (false) else (false))) else (if f < 94 then (false) else (if f < 95 then (false) else (false)))) else (if f < 99 then (if f < 97 then (true) else (if f < 98 then (false) else (false))) else (if f < 101 then (if f < 100 then (true) else (false)) else (if f < 102 then (true) else (false)))))))) else (if f < 155 then (if f < 129 then (if f < 116 then (if f < 109 then (if f < 106 then (if f < 104 then (false) else (if f < 105 then (false) else (true))) else (if f < 107 then (true) else (if f < 108 then (true) else (true)))) else (if f < 112 then (if f < 110 then (true) else (if f < 111 then (true) else (true))) else (if f < 114 then (if f < 113 then (false) else (true)) else (if f < 115 then (false) else (true))))) else (if f < 122 then (if f < 119 then (if f < 117 then (true) else (if f < 118 then (true) else (true))) else (if f < 120 then (false) else (if f < 121 then (true) else (true)))) else (if f < 125 then (if f < 123 then (true) else (if f < 124 then (true) else (false))) else (if f < 127 then (if f < 126 then (false) else (false)) else (if f < 128 then (false) else (false)))))) else (if f < 142 then (if f < 135 then (if f < 132 then (if f < 130 then (false) else (if f < 131 then (false) else (true))) else (if f < 133 then (false) else (if f < 134 then (false) else (false)))) else (if f < 138 then (if f < 136 then (true) else (if f < 137 then (true) else (true))) else (if f < 140 then (if f < 139 then (true) else (true)) else (if f < 141 then (true) else (true))))) else (if f < 148 then (if f < 145 then (if f < 143 then (true) else (if f < 144 then (true) else (true))) else (if f < 146 then (false) else (if f < 147 then (false) else (false)))) else (if f < 151 then (if f < 149 then (false) else (if f < 150 then (false) else (false))) else (if f < 153 then (if f < 152 then (false) else (false)) else (if f < 154 then (false) else (false))))))) else (if f < 181 then (if f < 168 then (if f < 161 then (if f < 158 then (if f < 156 then (false) else (if f < 157 then (false) else (false))) else (if f < 159 then (false) else (if f < 160 then (true) else (true)))) else (if f < 164 then (if f < 162 then (true) else (if f < 163 then (true) else (true))) else (if f < 166 then (if f < 165 then (true) else (true)) else (if f < 167 then (true) else (true))))) else (if f < 174 then (if f < 171 then (if f < 169 then (true) else (if f < 170 then (true) else (true))) else (if f < 172 then (true) else (if f < 173 then (true) else (true)))) else (if f < 177 then (if f < 175 then (true) else (if f < 176 then (true) else (true))) else (if f < 179 then (if f < 178 then (true) else (true)) else (if f < 180 then (true) else (true)))))) else (if f < 194 then (if f < 187 then (if f < 184 then (if f < 182 then (true) else (if f < 183 then (true) else (true))) else (if f < 185 then (true) else (if f < 186 then (true) else (true)))) else (if f < 190 then (if f < 188 then (true) else (if f < 189 then (true) else (true))) else (if f < 192 then (if f < 191 then (true) else (false)) else (if f < 193 then (false) else (false))))) else (if f < 200 then (if f < 197 then (if f < 195 then (false) else (if f < 196 then (false) else (false))) else (if f < 198 then (false) else (if f < 199 then (false) else (true)))) else (if f < 203 then (if f < 201 then (true) else (if f < 202 then (false) else (false))) else (if f < 205 then (if f < 204 then (false) else (false)) else (if f < 206 then (false) else (false))))))))
def zpn (r : Nat) : MethodName := if r = 9000 then ⟨"java/lang/Object", "<init>", "()V"⟩ else if r = 9001 then ⟨"java/lang/Exception", "<init>", "()V"⟩ else if r = 9003 then ⟨"java/lang/System", "arraycopy", "(Ljava/lang/Object;ILjava/lang/Object;II)V"⟩ else if r = 9004 then ⟨"java/lang/Math", "max", "(II)I"⟩ else if r = 9005 then ⟨"java/lang/Math", "abs", "(J)J"⟩ else if r = 9006 then ⟨"java/lang/Math", "min", "(II)I"⟩ else if r = 9007 then ⟨"[B", "clone", "()Ljava/lang/Object;"⟩ else ⟨"", "", ""⟩
def zPF (o : Nat) (q : Nat × Nat) : Prop := Cond.methodLink (zcn o) q.1 (zpn q.2) ∈ lw_all
def zPL0 : List (Nat × Nat) := [(1, 9000)]
theorem zPL0_ok : ∀ q ∈ zPL0, zPF 0 q := List.forall_mem_cons.mpr ⟨q215, fun _ h => absurd h List.not_mem_nil⟩
def zPL1 : List (Nat × Nat) := [(3, 9000)]
theorem zPL1_ok : ∀ q ∈ zPL1, zPF 1 q := List.forall_mem_cons.mpr ⟨q223, fun _ h => absurd h List.not_mem_nil⟩
def zPL2 : List (Nat × Nat) := [(3, 9000)]
theorem zPL2_ok : ∀ q ∈ zPL2, zPF 2 q := List.forall_mem_cons.mpr ⟨q279, fun _ h => absurd h List.not_mem_nil⟩
def zPL3 : List (Nat × Nat) := [(3, 9000), (19, 9005)]
theorem zPL3_ok : ∀ q ∈ zPL3, zPF 3 q := List.forall_mem_cons.mpr ⟨q311, List.forall_mem_cons.mpr ⟨q2388, fun _ h => absurd h List.not_mem_nil⟩⟩
def zPL4 : List (Nat × Nat) := [(3, 9000)]
theorem zPL4_ok : ∀ q ∈ zPL4, zPF 4 q := List.forall_mem_cons.mpr ⟨q328, fun _ h => absurd h List.not_mem_nil⟩
def zPL5 : List (Nat × Nat) := [(9, 9000), (110, 9004)]
theorem zPL5_ok : ∀ q ∈ zPL5, zPF 5 q := List.forall_mem_cons.mpr ⟨q344, List.forall_mem_cons.mpr ⟨q2525, fun _ h => absurd h List.not_mem_nil⟩⟩
def zPL6 : List (Nat × Nat) := [(106, 9000)]
theorem zPL6_ok : ∀ q ∈ zPL6, zPF 6 q := List.forall_mem_cons.mpr ⟨q2556, fun _ h => absurd h List.not_mem_nil⟩
def zPL7 : List (Nat × Nat) := [(9, 9000)]
theorem zPL7_ok : ∀ q ∈ zPL7, zPF 7 q := List.forall_mem_cons.mpr ⟨q592, fun _ h => absurd h List.not_mem_nil⟩
def zPL8 : List (Nat × Nat) := [(1, 9001)]
theorem zPL8_ok : ∀ q ∈ zPL8, zPF 8 q := List.forall_mem_cons.mpr ⟨q660, fun _ h => absurd h List.not_mem_nil⟩
def zPL9 : List (Nat × Nat) := [(9, 9000)]
theorem zPL9_ok : ∀ q ∈ zPL9, zPF 9 q := List.forall_mem_cons.mpr ⟨q1297, fun _ h => absurd h List.not_mem_nil⟩
def zPL10 : List (Nat × Nat) := [(9, 9000)]
theorem zPL10_ok : ∀ q ∈ zPL10, zPF 10 q := List.forall_mem_cons.mpr ⟨q961, fun _ h => absurd h List.not_mem_nil⟩
def zPL11 : List (Nat × Nat) := []
theorem zPL11_ok : ∀ q ∈ zPL11, zPF 11 q := fun _ h => absurd h List.not_mem_nil
def zPL12 : List (Nat × Nat) := []
theorem zPL12_ok : ∀ q ∈ zPL12, zPF 12 q := fun _ h => absurd h List.not_mem_nil
def zPL13 : List (Nat × Nat) := []
theorem zPL13_ok : ∀ q ∈ zPL13, zPF 13 q := fun _ h => absurd h List.not_mem_nil
def zPL14 : List (Nat × Nat) := []
theorem zPL14_ok : ∀ q ∈ zPL14, zPF 14 q := fun _ h => absurd h List.not_mem_nil
def zPL15 : List (Nat × Nat) := []
theorem zPL15_ok : ∀ q ∈ zPL15, zPF 15 q := fun _ h => absurd h List.not_mem_nil
def zPL16 : List (Nat × Nat) := []
theorem zPL16_ok : ∀ q ∈ zPL16, zPF 16 q := fun _ h => absurd h List.not_mem_nil
def zPL17 : List (Nat × Nat) := []
theorem zPL17_ok : ∀ q ∈ zPL17, zPF 17 q := fun _ h => absurd h List.not_mem_nil
def zPL18 : List (Nat × Nat) := [(131, 9004)]
theorem zPL18_ok : ∀ q ∈ zPL18, zPF 18 q := List.forall_mem_cons.mpr ⟨q1789, fun _ h => absurd h List.not_mem_nil⟩
def zPL19 : List (Nat × Nat) := [(128, 9004)]
theorem zPL19_ok : ∀ q ∈ zPL19, zPF 19 q := List.forall_mem_cons.mpr ⟨q1791, fun _ h => absurd h List.not_mem_nil⟩
def zPL20 : List (Nat × Nat) := [(148, 9004)]
theorem zPL20_ok : ∀ q ∈ zPL20, zPF 20 q := List.forall_mem_cons.mpr ⟨q1790, fun _ h => absurd h List.not_mem_nil⟩
def zPL21 : List (Nat × Nat) := [(1, 9000)]
theorem zPL21_ok : ∀ q ∈ zPL21, zPF 21 q := List.forall_mem_cons.mpr ⟨q2217, fun _ h => absurd h List.not_mem_nil⟩
def zPL22 : List (Nat × Nat) := [(1, 9000), (212, 9003)]
theorem zPL22_ok : ∀ q ∈ zPL22, zPF 22 q := List.forall_mem_cons.mpr ⟨q801, List.forall_mem_cons.mpr ⟨q1927, fun _ h => absurd h List.not_mem_nil⟩⟩
def zPL23 : List (Nat × Nat) := []
theorem zPL23_ok : ∀ q ∈ zPL23, zPF 23 q := fun _ h => absurd h List.not_mem_nil
def zPL24 : List (Nat × Nat) := []
theorem zPL24_ok : ∀ q ∈ zPL24, zPF 24 q := fun _ h => absurd h List.not_mem_nil
def zPL25 : List (Nat × Nat) := [(38, 9006), (92, 9004)]
theorem zPL25_ok : ∀ q ∈ zPL25, zPF 25 q := List.forall_mem_cons.mpr ⟨q1655, List.forall_mem_cons.mpr ⟨q1654, fun _ h => absurd h List.not_mem_nil⟩⟩
def zPL26 : List (Nat × Nat) := []
theorem zPL26_ok : ∀ q ∈ zPL26, zPF 26 q := fun _ h => absurd h List.not_mem_nil
def zPL27 : List (Nat × Nat) := [(3, 9000)]
theorem zPL27_ok : ∀ q ∈ zPL27, zPF 27 q := List.forall_mem_cons.mpr ⟨q692, fun _ h => absurd h List.not_mem_nil⟩
def zPL28 : List (Nat × Nat) := [(194, 9004)]
theorem zPL28_ok : ∀ q ∈ zPL28, zPF 28 q := List.forall_mem_cons.mpr ⟨q732, fun _ h => absurd h List.not_mem_nil⟩
def zPL29 : List (Nat × Nat) := []
theorem zPL29_ok : ∀ q ∈ zPL29, zPF 29 q := fun _ h => absurd h List.not_mem_nil
def zPL30 : List (Nat × Nat) := [(150, 9003), (304, 9006), (310, 9007)]
theorem zPL30_ok : ∀ q ∈ zPL30, zPF 30 q := List.forall_mem_cons.mpr ⟨q753, List.forall_mem_cons.mpr ⟨q750, List.forall_mem_cons.mpr ⟨q743, fun _ h => absurd h List.not_mem_nil⟩⟩⟩
def zPL31 : List (Nat × Nat) := []
theorem zPL31_ok : ∀ q ∈ zPL31, zPF 31 q := fun _ h => absurd h List.not_mem_nil
def zPL (o : Nat) : List (Nat × Nat) := if o < 16 then (if o < 8 then (if o < 4 then (if o < 2 then (if o < 1 then (zPL0) else (zPL1)) else (if o < 3 then (zPL2) else (zPL3))) else (if o < 6 then (if o < 5 then (zPL4) else (zPL5)) else (if o < 7 then (zPL6) else (zPL7)))) else (if o < 12 then (if o < 10 then (if o < 9 then (zPL8) else (zPL9)) else (if o < 11 then (zPL10) else (zPL11))) else (if o < 14 then (if o < 13 then (zPL12) else (zPL13)) else (if o < 15 then (zPL14) else (zPL15))))) else (if o < 24 then (if o < 20 then (if o < 18 then (if o < 17 then (zPL16) else (zPL17)) else (if o < 19 then (zPL18) else (zPL19))) else (if o < 22 then (if o < 21 then (zPL20) else (zPL21)) else (if o < 23 then (zPL22) else (zPL23)))) else (if o < 28 then (if o < 26 then (if o < 25 then (zPL24) else (zPL25)) else (if o < 27 then (zPL26) else (zPL27))) else (if o < 30 then (if o < 29 then (zPL28) else (zPL29)) else (if o < 31 then (zPL30) else (zPL31)))))
theorem zPL_ok (o : Nat) (ho : o < 32) : ∀ q ∈ zPL o, zPF o q := by
  match o, ho with
  | 0, _ => exact zPL0_ok
  | 1, _ => exact zPL1_ok
  | 2, _ => exact zPL2_ok
  | 3, _ => exact zPL3_ok
  | 4, _ => exact zPL4_ok
  | 5, _ => exact zPL5_ok
  | 6, _ => exact zPL6_ok
  | 7, _ => exact zPL7_ok
  | 8, _ => exact zPL8_ok
  | 9, _ => exact zPL9_ok
  | 10, _ => exact zPL10_ok
  | 11, _ => exact zPL11_ok
  | 12, _ => exact zPL12_ok
  | 13, _ => exact zPL13_ok
  | 14, _ => exact zPL14_ok
  | 15, _ => exact zPL15_ok
  | 16, _ => exact zPL16_ok
  | 17, _ => exact zPL17_ok
  | 18, _ => exact zPL18_ok
  | 19, _ => exact zPL19_ok
  | 20, _ => exact zPL20_ok
  | 21, _ => exact zPL21_ok
  | 22, _ => exact zPL22_ok
  | 23, _ => exact zPL23_ok
  | 24, _ => exact zPL24_ok
  | 25, _ => exact zPL25_ok
  | 26, _ => exact zPL26_ok
  | 27, _ => exact zPL27_ok
  | 28, _ => exact zPL28_ok
  | 29, _ => exact zPL29_ok
  | 30, _ => exact zPL30_ok
  | 31, _ => exact zPL31_ok
  | n + 32, h => exact absurd h (by omega)
def zdrL : List (Nat × Nat) := [(11, 159), (13, 159), (13, 163), (14, 159), (14, 163), (15, 159), (15, 163), (16, 159), (16, 163), (17, 159), (17, 163), (18, 159), (19, 159), (20, 159)]
theorem zdrL_ok : ∀ q ∈ zdrL, Cond.laysFinal (zcn q.1) (zfd q.2).1 (zfd q.2).2.1 (zfd q.2).2.2 ∈ lw_all := List.forall_mem_cons.mpr ⟨q1292, List.forall_mem_cons.mpr ⟨q1070, List.forall_mem_cons.mpr ⟨q1038, List.forall_mem_cons.mpr ⟨q1359, List.forall_mem_cons.mpr ⟨q1343, List.forall_mem_cons.mpr ⟨q1409, List.forall_mem_cons.mpr ⟨q1393, List.forall_mem_cons.mpr ⟨q1460, List.forall_mem_cons.mpr ⟨q1444, List.forall_mem_cons.mpr ⟨q1500, List.forall_mem_cons.mpr ⟨q1484, List.forall_mem_cons.mpr ⟨q1542, List.forall_mem_cons.mpr ⟨q1581, List.forall_mem_cons.mpr ⟨q1632, fun _ h => absurd h List.not_mem_nil⟩⟩⟩⟩⟩⟩⟩⟩⟩⟩⟩⟩⟩⟩
theorem zdr_inB : ((List.range 207).all fun f => (List.range 24).all fun t => !(zdr f t) || zdrL.contains (t, f)) = true := by decide +kernel
theorem zdr_in (f : Nat) (hf : f < 207) (t : Nat) (ht : t < 24) (h : zdr f t = true) : (t, f) ∈ zdrL := by
  have k := zdr_inB
  simp only [List.all_eq_true, List.mem_range, Bool.or_eq_true, Bool.not_eq_true', List.contains_iff_mem] at k
  rcases k f hf t ht with k | k
  · rw [h] at k; cases k
  · exact k
theorem zdr_t0 : ∀ t, t < 24 → (zdr 159 t = true ∨ zdr 163 t = true) → zfk (zt0 t) = 4 ∧ (zfl t).all (fun f => decide ((zfd f).2.1 ≠ "this$0") || f == zt0 t) = true := by decide +kernel
def zcons (c : Nat) : Bool := match zcls[c]? with
  | some r => (zfl c).isEmpty || (r.2.2 == (zfl c).length && decide (r.1 = zcn c) && (List.range r.2.2).all (fun j => decide (((r.2.1 j).1, (r.2.1 j).2.1, (r.2.1 j).2.2.1) = zfd ((zfl c).getD j 0)) && (r.2.1 j).2.2.2 == zff ((zfl c).getD j 0)))
  | none => false
theorem zcons_ok : ∀ c, c < 24 → zcons c = true := by decide +kernel
def zndB (c : Nat) : Bool := (List.range (zfl c).length).all fun i => (List.range (zfl c).length).all fun j => i == j || (zfl c).getD i 0 != (zfl c).getD j 0
theorem znd_ok : ∀ c, c < 24 → zndB c = true := by decide +kernel
def zkd (f : Nat) : Bool := match parseFieldDescriptor (zfd f).2.2 with
  | some .int => zfk f == 0 || (zfk f == 6 || zfk f == 8)
  | some .boolean => zfk f == 1 || zfk f == 7
  | some .byte => zfk f == 2
  | some .char => zfk f == 3
  | some (.object _) => zfk f == 4 || zfk f == 5
  | some (.array _) => zfk f == 4
  | _ => false
theorem zkd_ok : ∀ f, f < 207 → zkd f = true := by decide +kernel
def zchkE (o : Nat) (nm : String) (e : zE) : Bool := match e.2.1 with
  | .putfield i => (!(zff e.2.2.2.2.1) || (decide (nm = "<init>") && decide ((zfd e.2.2.2.2.1).1 = zcn o) && (zFL o).contains (i, e.2.2.2.2.1, 0))) && (match e.2.2.2.2.2.2 with
    | [] => true
    | (id, _) :: _ => decide (id < zD0) && zhas (zc1 id) e.2.2.2.2.1)
  | .getfield _ => match e.2.2.2.2.2.2 with
    | [] => true
    | (id, _) :: _ => decide (id < zD0) && zhas (zc1 id) e.2.2.2.2.1
  | .multianewarray _ d => d == 2
  | .invokespecial i => match e.2.2.2.2.2.2 with
    | [] => true
    | (_, r) :: _ => decide (r < 9000) || (zPL o).contains (i, r)
  | .invokestatic i => match e.2.2.2.2.2.2 with
    | [] => true
    | (_, r) :: _ => decide (r < 9000) || (zPL o).contains (i, r)
  | .invokevirtual i => match e.2.2.2.2.2.2 with
    | [] => true
    | (_, r) :: _ => decide (r < 9000) || (zPL o).contains (i, r)
  | _ => true
def zchkP (me : Nat) : Bool := ((ztab me).flatMap (·.2)).all (zchkE (zoc me) (zy me).name)
theorem zchkP0 : ∀ t, t < 64 → ¬ t < 0 → zchkP t = true := by decide +kernel
theorem zchkP64 : ∀ t, t < 128 → ¬ t < 64 → zchkP t = true := by decide +kernel
theorem zchkP128 : ∀ t, t < 192 → ¬ t < 128 → zchkP t = true := by decide +kernel
theorem zchkP192 : ∀ t, t < 256 → ¬ t < 192 → zchkP t = true := by decide +kernel
theorem zchkP256 : ∀ t, t < 320 → ¬ t < 256 → zchkP t = true := by decide +kernel
theorem zchkP320 : ∀ t, t < 384 → ¬ t < 320 → zchkP t = true := by decide +kernel
theorem zchkP384 : ∀ t, t < 445 → ¬ t < 384 → zchkP t = true := by decide +kernel
theorem zchkP_ok : ∀ t, t < 445 → zchkP t = true := by
  intro t ht
  by_cases h0 : t < 64
  · exact zchkP0 t h0 (by omega)
  by_cases h64 : t < 128
  · exact zchkP64 t h64 (by omega)
  by_cases h128 : t < 192
  · exact zchkP128 t h128 (by omega)
  by_cases h192 : t < 256
  · exact zchkP192 t h192 (by omega)
  by_cases h256 : t < 320
  · exact zchkP256 t h256 (by omega)
  by_cases h320 : t < 384
  · exact zchkP320 t h320 (by omega)
  by_cases h384 : t < 445
  · exact zchkP384 t h384 (by omega)
  omega
def zNewL : List Nat := [0, 1, 2, 3, 4, 5, 6, 7, 8, 9, 11, 13, 14, 15, 16, 17, 18, 19, 20, 21, 22, 23]
theorem zNew_ok : ∀ q ∈ zNewL, Cond.instantiable (zcn q) (zslots q) ∈ lw_all ∧ Cond.initialized (zcn q) ∈ lw_all := List.forall_mem_cons.mpr ⟨⟨q211, q173⟩, List.forall_mem_cons.mpr ⟨⟨q219, q174⟩, List.forall_mem_cons.mpr ⟨⟨q275, q175⟩, List.forall_mem_cons.mpr ⟨⟨q307, q176⟩, List.forall_mem_cons.mpr ⟨⟨q324, q177⟩, List.forall_mem_cons.mpr ⟨⟨q340, q178⟩, List.forall_mem_cons.mpr ⟨⟨q2543, q183⟩, List.forall_mem_cons.mpr ⟨⟨q588, q184⟩, List.forall_mem_cons.mpr ⟨⟨q621, q187⟩, List.forall_mem_cons.mpr ⟨⟨q931, q194⟩, List.forall_mem_cons.mpr ⟨⟨q933, q196⟩, List.forall_mem_cons.mpr ⟨⟨q951, q198⟩, List.forall_mem_cons.mpr ⟨⟨q1329, q199⟩, List.forall_mem_cons.mpr ⟨⟨q1379, q200⟩, List.forall_mem_cons.mpr ⟨⟨q1432, q201⟩, List.forall_mem_cons.mpr ⟨⟨q1467, q202⟩, List.forall_mem_cons.mpr ⟨⟨q1510, q203⟩, List.forall_mem_cons.mpr ⟨⟨q1549, q204⟩, List.forall_mem_cons.mpr ⟨⟨q1190, q205⟩, List.forall_mem_cons.mpr ⟨⟨q2213, q209⟩, List.forall_mem_cons.mpr ⟨⟨q794, q179⟩, List.forall_mem_cons.mpr ⟨⟨q685, q189⟩, fun _ h => absurd h List.not_mem_nil⟩⟩⟩⟩⟩⟩⟩⟩⟩⟩⟩⟩⟩⟩⟩⟩⟩⟩⟩⟩⟩⟩
theorem zfin_has : ∀ q ∈ zfinL, zhas (zc1 q.2.1) q.1 = true ∧ q.2.1 < zD0 := by decide +kernel
theorem zNewL_in : ∀ c, c < 24 → c ≠ 10 → c ≠ 12 → c ∈ zNewL := by decide
