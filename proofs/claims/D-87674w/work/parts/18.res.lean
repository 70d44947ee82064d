set_option maxRecDepth 100000
/-- fields: entry, field, nest mate's -/
def zFF (o : Nat) (q : Nat × Nat × Nat) : Prop := if q.2.2 = 0 then Cond.fieldLink (zcn o) q.1 (zfd q.2.1).1 (zfd q.2.1).2.1 (zfd q.2.1).2.2 ∈ lw_all else Cond.fieldLinkNest (zcn o) q.1 (zfd q.2.1).1 (zfd q.2.1).2.1 (zfd q.2.1).2.2 "SpendHouse" ∈ lw_tbl
def zCF (o : Nat) (q : Nat × Nat) : Prop := Cond.classLink (zcn o) q.1 (zcn q.2) ∈ lw_all
/-- constants: entry, value; of text: entry, number of the text -/
def zKF (o : Nat) (q : Nat × Value) : Prop := match q.2 with
  | .int v => Cond.constant (zcn o) q.1 v ∈ lw_all
  | .long v => Cond.constantLong (zcn o) q.1 v ∈ lw_all
  | _ => True
/-- static fields that are read: class, name, descriptor, what it holds -/
def zst (k : Nat) : String × String × String × Value := if k = 0 then ("java/lang/String", "COMPACT_STRINGS", "Z", .int 1) else if k = 1 then ("java/lang/Integer", "DigitTens", "[B", .ref 4294968296) else if k = 2 then ("java/lang/Integer", "DigitOnes", "[B", .ref 4294968297) else ("jdk/internal/util/Preconditions", "SIOOBE_FORMATTER", "Ljava/util/function/BiFunction;", .retAddr 7)
def zGF (o : Nat) (q : Nat × Nat) : Prop := Cond.fieldLink (zcn o) q.1 (zst q.2).1 (zst q.2).2.1 (zst q.2).2.2.1 ∈ lw_all
def zFL0 : List (Nat × Nat × Nat) := [(10, 0, 0), (18, 1, 0), (21, 2, 0), (24, 3, 0), (28, 4, 0), (31, 7, 0), (38, 11, 0), (42, 12, 0), (48, 13, 0), (52, 16, 0), (60, 17, 0), (67, 18, 0), (76, 20, 0), (80, 21, 0), (83, 22, 0), (86, 24, 0), (98, 5, 0), (104, 6, 0), (133, 8, 0), (144, 15, 0), (167, 145, 1), (186, 136, 1), (189, 137, 1), (192, 9, 0), (196, 10, 0), (200, 36, 1), (203, 37, 1), (206, 38, 1), (229, 14, 0), (232, 19, 0), (248, 155, 1), (251, 152, 1), (254, 156, 1), (257, 147, 1), (263, 148, 1), (266, 149, 1), (269, 150, 1), (272, 151, 1), (275, 153, 1), (278, 154, 1), (285, 35, 1), (295, 191, 1), (298, 197, 1), (306, 198, 1), (309, 40, 1), (310, 192, 1), (325, 39, 1), (330, 42, 1), (340, 194, 1), (343, 195, 1), (350, 50, 1), (353, 52, 1), (356, 23, 0)]
theorem zFL0_ok : ∀ q ∈ zFL0, zFF 0 q := List.forall_mem_cons.mpr ⟨q472, List.forall_mem_cons.mpr ⟨q476, List.forall_mem_cons.mpr ⟨q480, List.forall_mem_cons.mpr ⟨q482, List.forall_mem_cons.mpr ⟨q486, List.forall_mem_cons.mpr ⟨q491, List.forall_mem_cons.mpr ⟨q496, List.forall_mem_cons.mpr ⟨q497, List.forall_mem_cons.mpr ⟨q498, List.forall_mem_cons.mpr ⟨q501, List.forall_mem_cons.mpr ⟨q502, List.forall_mem_cons.mpr ⟨q504, List.forall_mem_cons.mpr ⟨q507, List.forall_mem_cons.mpr ⟨q508, List.forall_mem_cons.mpr ⟨q509, List.forall_mem_cons.mpr ⟨q511, List.forall_mem_cons.mpr ⟨q488, List.forall_mem_cons.mpr ⟨q489, List.forall_mem_cons.mpr ⟨q493, List.forall_mem_cons.mpr ⟨q500, List.forall_mem_cons.mpr ⟨q972, List.forall_mem_cons.mpr ⟨q665, List.forall_mem_cons.mpr ⟨q667, List.forall_mem_cons.mpr ⟨q494, List.forall_mem_cons.mpr ⟨q495, List.forall_mem_cons.mpr ⟨q285, List.forall_mem_cons.mpr ⟨q288, List.forall_mem_cons.mpr ⟨q290, List.forall_mem_cons.mpr ⟨q499, List.forall_mem_cons.mpr ⟨q506, List.forall_mem_cons.mpr ⟨q1026, List.forall_mem_cons.mpr ⟨q1008, List.forall_mem_cons.mpr ⟨q1028, List.forall_mem_cons.mpr ⟨q979, List.forall_mem_cons.mpr ⟨q986, List.forall_mem_cons.mpr ⟨q991, List.forall_mem_cons.mpr ⟨q996, List.forall_mem_cons.mpr ⟨q1002, List.forall_mem_cons.mpr ⟨q1013, List.forall_mem_cons.mpr ⟨q1020, List.forall_mem_cons.mpr ⟨q282, List.forall_mem_cons.mpr ⟨q2219, List.forall_mem_cons.mpr ⟨q2232, List.forall_mem_cons.mpr ⟨q2234, List.forall_mem_cons.mpr ⟨q317, List.forall_mem_cons.mpr ⟨q2221, List.forall_mem_cons.mpr ⟨q314, List.forall_mem_cons.mpr ⟨q333, List.forall_mem_cons.mpr ⟨q2225, List.forall_mem_cons.mpr ⟨q2228, List.forall_mem_cons.mpr ⟨q356, List.forall_mem_cons.mpr ⟨q359, List.forall_mem_cons.mpr ⟨q510, fun _ h => absurd h List.not_mem_nil⟩⟩⟩⟩⟩⟩⟩⟩⟩⟩⟩⟩⟩⟩⟩⟩⟩⟩⟩⟩⟩⟩⟩⟩⟩⟩⟩⟩⟩⟩⟩⟩⟩⟩⟩⟩⟩⟩⟩⟩⟩⟩⟩⟩⟩⟩⟩⟩⟩⟩⟩⟩⟩
def zCL0 : List (Nat × Nat) := [(7, 1), (35, 2), (64, 4), (71, 5), (147, 7), (170, 8), (214, 23), (292, 3)]
theorem zCL0_ok : ∀ q ∈ zCL0, zCF 0 q := List.forall_mem_cons.mpr ⟨q218, List.forall_mem_cons.mpr ⟨q274, List.forall_mem_cons.mpr ⟨q323, List.forall_mem_cons.mpr ⟨q339, List.forall_mem_cons.mpr ⟨q587, List.forall_mem_cons.mpr ⟨q586, List.forall_mem_cons.mpr ⟨q1890, List.forall_mem_cons.mpr ⟨q305, fun _ h => absurd h List.not_mem_nil⟩⟩⟩⟩⟩⟩⟩⟩
def zKL0 : List (Nat × Value) := [(46, .ref 4294967296), (93, .int 500000000), (103, .int (-2147483648)), (107, .int 65535), (108, .ref 4294967318), (110, .ref 4294967320), (112, .ref 4294967322), (114, .ref 4294967324), (116, .ref 4294967342), (118, .ref 4294967344), (120, .ref 4294967346), (122, .ref 4294967348), (124, .ref 4294967350), (126, .ref 4294967352)]
theorem zKL0_ok : ∀ q ∈ zKL0, zKF 0 q := List.forall_mem_cons.mpr ⟨trivial, List.forall_mem_cons.mpr ⟨q1168, List.forall_mem_cons.mpr ⟨q2128, List.forall_mem_cons.mpr ⟨q2122, List.forall_mem_cons.mpr ⟨trivial, List.forall_mem_cons.mpr ⟨trivial, List.forall_mem_cons.mpr ⟨trivial, List.forall_mem_cons.mpr ⟨trivial, List.forall_mem_cons.mpr ⟨trivial, List.forall_mem_cons.mpr ⟨trivial, List.forall_mem_cons.mpr ⟨trivial, List.forall_mem_cons.mpr ⟨trivial, List.forall_mem_cons.mpr ⟨trivial, List.forall_mem_cons.mpr ⟨trivial, fun _ h => absurd h List.not_mem_nil⟩⟩⟩⟩⟩⟩⟩⟩⟩⟩⟩⟩⟩⟩
def zGL0 : List (Nat × Nat) := []
theorem zGL0_ok : ∀ q ∈ zGL0, zGF 0 q := fun _ h => absurd h List.not_mem_nil
def zFL1 : List (Nat × Nat × Nat) := [(9, 25, 0), (15, 26, 0), (18, 27, 0), (21, 28, 0), (24, 29, 0), (27, 30, 0), (30, 31, 0), (34, 32, 0), (37, 33, 0), (41, 34, 0)]
theorem zFL1_ok : ∀ q ∈ zFL1, zFF 1 q := List.forall_mem_cons.mpr ⟨q238, List.forall_mem_cons.mpr ⟨q239, List.forall_mem_cons.mpr ⟨q240, List.forall_mem_cons.mpr ⟨q241, List.forall_mem_cons.mpr ⟨q242, List.forall_mem_cons.mpr ⟨q243, List.forall_mem_cons.mpr ⟨q244, List.forall_mem_cons.mpr ⟨q245, List.forall_mem_cons.mpr ⟨q246, List.forall_mem_cons.mpr ⟨q247, fun _ h => absurd h List.not_mem_nil⟩⟩⟩⟩⟩⟩⟩⟩⟩⟩
def zCL1 : List (Nat × Nat) := []
theorem zCL1_ok : ∀ q ∈ zCL1, zCF 1 q := fun _ h => absurd h List.not_mem_nil
def zKL1 : List (Nat × Value) := [(48, .long 137438953472), (58, .long 65535), (60, .long 8), (70, .int 1518500249), (71, .int 2053994217), (72, .int 1859775393), (73, .int 1836072691), (74, .int (-1894007588)), (75, .int 1548603684), (76, .int (-1454113458)), (77, .int 1352829926), (84, .ref 4294967298), (86, .ref 4294967300), (100, .ref 4294967302), (102, .ref 4294967304), (114, .int 1732584193), (115, .int (-271733879)), (116, .int (-1732584194)), (117, .int 271733878), (118, .int (-1009589776))]
theorem zKL1_ok : ∀ q ∈ zKL1, zKF 1 q := List.forall_mem_cons.mpr ⟨q228, List.forall_mem_cons.mpr ⟨q237, List.forall_mem_cons.mpr ⟨q392, List.forall_mem_cons.mpr ⟨q459, List.forall_mem_cons.mpr ⟨q460, List.forall_mem_cons.mpr ⟨q461, List.forall_mem_cons.mpr ⟨q462, List.forall_mem_cons.mpr ⟨q463, List.forall_mem_cons.mpr ⟨q464, List.forall_mem_cons.mpr ⟨q465, List.forall_mem_cons.mpr ⟨q466, List.forall_mem_cons.mpr ⟨trivial, List.forall_mem_cons.mpr ⟨trivial, List.forall_mem_cons.mpr ⟨trivial, List.forall_mem_cons.mpr ⟨trivial, List.forall_mem_cons.mpr ⟨q1825, List.forall_mem_cons.mpr ⟨q1826, List.forall_mem_cons.mpr ⟨q1827, List.forall_mem_cons.mpr ⟨q1828, List.forall_mem_cons.mpr ⟨q1829, fun _ h => absurd h List.not_mem_nil⟩⟩⟩⟩⟩⟩⟩⟩⟩⟩⟩⟩⟩⟩⟩⟩⟩⟩⟩⟩
def zGL1 : List (Nat × Nat) := []
theorem zGL1_ok : ∀ q ∈ zGL1, zGF 1 q := fun _ h => absurd h List.not_mem_nil
def zFL2 : List (Nat × Nat × Nat) := [(9, 35, 0), (15, 36, 0), (23, 37, 0), (26, 38, 0)]
theorem zFL2_ok : ∀ q ∈ zFL2, zFF 2 q := List.forall_mem_cons.mpr ⟨q280, List.forall_mem_cons.mpr ⟨q283, List.forall_mem_cons.mpr ⟨q286, List.forall_mem_cons.mpr ⟨q289, fun _ h => absurd h List.not_mem_nil⟩⟩⟩⟩
def zCL2 : List (Nat × Nat) := []
theorem zCL2_ok : ∀ q ∈ zCL2, zCF 2 q := fun _ h => absurd h List.not_mem_nil
def zKL2 : List (Nat × Value) := []
theorem zKL2_ok : ∀ q ∈ zKL2, zKF 2 q := fun _ h => absurd h List.not_mem_nil
def zGL2 : List (Nat × Nat) := []
theorem zGL2_ok : ∀ q ∈ zGL2, zGF 2 q := fun _ h => absurd h List.not_mem_nil
def zFL3 : List (Nat × Nat × Nat) := [(9, 39, 0), (15, 40, 0)]
theorem zFL3_ok : ∀ q ∈ zFL3, zFF 3 q := List.forall_mem_cons.mpr ⟨q312, List.forall_mem_cons.mpr ⟨q315, fun _ h => absurd h List.not_mem_nil⟩⟩
def zCL3 : List (Nat × Nat) := []
theorem zCL3_ok : ∀ q ∈ zCL3, zCF 3 q := fun _ h => absurd h List.not_mem_nil
def zKL3 : List (Nat × Value) := []
theorem zKL3_ok : ∀ q ∈ zKL3, zKF 3 q := fun _ h => absurd h List.not_mem_nil
def zGL3 : List (Nat × Nat) := []
theorem zGL3_ok : ∀ q ∈ zGL3, zGF 3 q := fun _ h => absurd h List.not_mem_nil
def zFL4 : List (Nat × Nat × Nat) := [(11, 41, 0), (17, 42, 0), (22, 191, 1), (25, 192, 1), (28, 194, 1), (32, 195, 1), (35, 196, 1), (38, 197, 1), (42, 198, 1), (45, 193, 1)]
theorem zFL4_ok : ∀ q ∈ zFL4, zFF 4 q := List.forall_mem_cons.mpr ⟨q331, List.forall_mem_cons.mpr ⟨q332, List.forall_mem_cons.mpr ⟨q2218, List.forall_mem_cons.mpr ⟨q2220, List.forall_mem_cons.mpr ⟨q2223, List.forall_mem_cons.mpr ⟨q2226, List.forall_mem_cons.mpr ⟨q2229, List.forall_mem_cons.mpr ⟨q2231, List.forall_mem_cons.mpr ⟨q2233, List.forall_mem_cons.mpr ⟨q2222, fun _ h => absurd h List.not_mem_nil⟩⟩⟩⟩⟩⟩⟩⟩⟩⟩
def zCL4 : List (Nat × Nat) := [(9, 21)]
theorem zCL4_ok : ∀ q ∈ zCL4, zCF 4 q := List.forall_mem_cons.mpr ⟨q329, fun _ h => absurd h List.not_mem_nil⟩
def zKL4 : List (Nat × Value) := []
theorem zKL4_ok : ∀ q ∈ zKL4, zKF 4 q := fun _ h => absurd h List.not_mem_nil
def zGL4 : List (Nat × Nat) := []
theorem zGL4_ok : ∀ q ∈ zGL4, zGF 4 q := fun _ h => absurd h List.not_mem_nil
def zFL5 : List (Nat × Nat × Nat) := [(3, 53, 0), (19, 43, 0), (23, 44, 0), (26, 45, 0), (33, 46, 0), (37, 47, 0), (41, 51, 0), (44, 40, 1), (55, 49, 0), (70, 48, 0), (73, 50, 0), (76, 19, 1), (78, 52, 0), (81, 17, 1), (88, 36, 1), (91, 35, 1), (119, 39, 1), (142, 0, 1), (169, 1, 1), (177, 3, 1)]
theorem zFL5_ok : ∀ q ∈ zFL5, zFF 5 q := List.forall_mem_cons.mpr ⟨q360, List.forall_mem_cons.mpr ⟨q348, List.forall_mem_cons.mpr ⟨q349, List.forall_mem_cons.mpr ⟨q350, List.forall_mem_cons.mpr ⟨q351, List.forall_mem_cons.mpr ⟨q352, List.forall_mem_cons.mpr ⟨q357, List.forall_mem_cons.mpr ⟨q316, List.forall_mem_cons.mpr ⟨q354, List.forall_mem_cons.mpr ⟨q353, List.forall_mem_cons.mpr ⟨q355, List.forall_mem_cons.mpr ⟨q505, List.forall_mem_cons.mpr ⟨q358, List.forall_mem_cons.mpr ⟨q503, List.forall_mem_cons.mpr ⟨q284, List.forall_mem_cons.mpr ⟨q281, List.forall_mem_cons.mpr ⟨q313, List.forall_mem_cons.mpr ⟨q475, List.forall_mem_cons.mpr ⟨q479, List.forall_mem_cons.mpr ⟨q485, fun _ h => absurd h List.not_mem_nil⟩⟩⟩⟩⟩⟩⟩⟩⟩⟩⟩⟩⟩⟩⟩⟩⟩⟩⟩⟩
def zCL5 : List (Nat × Nat) := [(30, 3)]
theorem zCL5_ok : ∀ q ∈ zCL5, zCF 5 q := List.forall_mem_cons.mpr ⟨q346, fun _ h => absurd h List.not_mem_nil⟩
def zKL5 : List (Nat × Value) := [(188, .long 2147483647)]
theorem zKL5_ok : ∀ q ∈ zKL5, zKF 5 q := List.forall_mem_cons.mpr ⟨q2522, fun _ h => absurd h List.not_mem_nil⟩
def zGL5 : List (Nat × Nat) := []
theorem zGL5_ok : ∀ q ∈ zGL5, zGF 5 q := fun _ h => absurd h List.not_mem_nil
def zFL6 : List (Nat × Nat × Nat) := [(1, 54, 0), (7, 55, 0), (19, 56, 0), (22, 57, 0), (32, 60, 0), (35, 62, 0), (41, 58, 0), (44, 59, 0), (51, 61, 0), (62, 69, 0), (69, 63, 0), (72, 64, 0), (75, 67, 0), (78, 68, 0), (81, 65, 0), (84, 66, 0), (191, 70, 0), (194, 71, 0), (198, 72, 0), (201, 75, 0), (204, 76, 0), (207, 77, 0), (210, 78, 0), (213, 79, 0), (216, 80, 0), (219, 81, 0), (222, 82, 0), (225, 83, 0), (228, 95, 0), (231, 96, 0), (234, 99, 0), (237, 101, 0), (240, 105, 0), (243, 106, 0), (246, 107, 0), (249, 108, 0), (252, 109, 0), (255, 110, 0), (258, 111, 0), (262, 113, 0), (265, 115, 0), (268, 116, 0), (271, 117, 0), (274, 118, 0), (277, 120, 0), (280, 121, 0), (283, 122, 0), (287, 123, 0), (290, 127, 0), (293, 128, 0), (296, 131, 0), (306, 73, 0), (309, 74, 0), (326, 85, 0), (378, 91, 0), (381, 92, 0), (384, 89, 0), (387, 90, 0), (461, 93, 0), (520, 97, 0), (526, 84, 0), (529, 94, 0), (532, 86, 0), (535, 87, 0), (539, 88, 0), (542, 119, 0), (590, 98, 0), (602, 100, 0), (608, 102, 0), (611, 103, 0), (614, 104, 0), (666, 112, 0), (669, 114, 0), (718, 126, 0), (721, 124, 0), (729, 132, 0), (732, 129, 0), (735, 125, 0), (744, 130, 0)]
theorem zFL6_ok : ∀ q ∈ zFL6, zFF 6 q := List.forall_mem_cons.mpr ⟨q2658, List.forall_mem_cons.mpr ⟨q2659, List.forall_mem_cons.mpr ⟨q2660, List.forall_mem_cons.mpr ⟨q2661, List.forall_mem_cons.mpr ⟨q2664, List.forall_mem_cons.mpr ⟨q2666, List.forall_mem_cons.mpr ⟨q2662, List.forall_mem_cons.mpr ⟨q2663, List.forall_mem_cons.mpr ⟨q2665, List.forall_mem_cons.mpr ⟨q2673, List.forall_mem_cons.mpr ⟨q2667, List.forall_mem_cons.mpr ⟨q2668, List.forall_mem_cons.mpr ⟨q2671, List.forall_mem_cons.mpr ⟨q2672, List.forall_mem_cons.mpr ⟨q2669, List.forall_mem_cons.mpr ⟨q2670, List.forall_mem_cons.mpr ⟨q2674, List.forall_mem_cons.mpr ⟨q2675, List.forall_mem_cons.mpr ⟨q2676, List.forall_mem_cons.mpr ⟨q2679, List.forall_mem_cons.mpr ⟨q2680, List.forall_mem_cons.mpr ⟨q2681, List.forall_mem_cons.mpr ⟨q2682, List.forall_mem_cons.mpr ⟨q2683, List.forall_mem_cons.mpr ⟨q2684, List.forall_mem_cons.mpr ⟨q2685, List.forall_mem_cons.mpr ⟨q2686, List.forall_mem_cons.mpr ⟨q2687, List.forall_mem_cons.mpr ⟨q2699, List.forall_mem_cons.mpr ⟨q2700, List.forall_mem_cons.mpr ⟨q2703, List.forall_mem_cons.mpr ⟨q2705, List.forall_mem_cons.mpr ⟨q2709, List.forall_mem_cons.mpr ⟨q2710, List.forall_mem_cons.mpr ⟨q2711, List.forall_mem_cons.mpr ⟨q2712, List.forall_mem_cons.mpr ⟨q2713, List.forall_mem_cons.mpr ⟨q2714, List.forall_mem_cons.mpr ⟨q2715, List.forall_mem_cons.mpr ⟨q2717, List.forall_mem_cons.mpr ⟨q2719, List.forall_mem_cons.mpr ⟨q2720, List.forall_mem_cons.mpr ⟨q2721, List.forall_mem_cons.mpr ⟨q2722, List.forall_mem_cons.mpr ⟨q2724, List.forall_mem_cons.mpr ⟨q2725, List.forall_mem_cons.mpr ⟨q2726, List.forall_mem_cons.mpr ⟨q2727, List.forall_mem_cons.mpr ⟨q2731, List.forall_mem_cons.mpr ⟨q2732, List.forall_mem_cons.mpr ⟨q2735, List.forall_mem_cons.mpr ⟨q2677, List.forall_mem_cons.mpr ⟨q2678, List.forall_mem_cons.mpr ⟨q2689, List.forall_mem_cons.mpr ⟨q2695, List.forall_mem_cons.mpr ⟨q2696, List.forall_mem_cons.mpr ⟨q2693, List.forall_mem_cons.mpr ⟨q2694, List.forall_mem_cons.mpr ⟨q2697, List.forall_mem_cons.mpr ⟨q2701, List.forall_mem_cons.mpr ⟨q2688, List.forall_mem_cons.mpr ⟨q2698, List.forall_mem_cons.mpr ⟨q2690, List.forall_mem_cons.mpr ⟨q2691, List.forall_mem_cons.mpr ⟨q2692, List.forall_mem_cons.mpr ⟨q2723, List.forall_mem_cons.mpr ⟨q2702, List.forall_mem_cons.mpr ⟨q2704, List.forall_mem_cons.mpr ⟨q2706, List.forall_mem_cons.mpr ⟨q2707, List.forall_mem_cons.mpr ⟨q2708, List.forall_mem_cons.mpr ⟨q2716, List.forall_mem_cons.mpr ⟨q2718, List.forall_mem_cons.mpr ⟨q2730, List.forall_mem_cons.mpr ⟨q2728, List.forall_mem_cons.mpr ⟨q2736, List.forall_mem_cons.mpr ⟨q2733, List.forall_mem_cons.mpr ⟨q2729, List.forall_mem_cons.mpr ⟨q2734, fun _ h => absurd h List.not_mem_nil⟩⟩⟩⟩⟩⟩⟩⟩⟩⟩⟩⟩⟩⟩⟩⟩⟩⟩⟩⟩⟩⟩⟩⟩⟩⟩⟩⟩⟩⟩⟩⟩⟩⟩⟩⟩⟩⟩⟩⟩⟩⟩⟩⟩⟩⟩⟩⟩⟩⟩⟩⟩⟩⟩⟩⟩⟩⟩⟩⟩⟩⟩⟩⟩⟩⟩⟩⟩⟩⟩⟩⟩⟩⟩⟩⟩⟩⟩⟩
def zCL6 : List (Nat × Nat) := []
theorem zCL6_ok : ∀ q ∈ zCL6, zCF 6 q := fun _ h => absurd h List.not_mem_nil
def zKL6 : List (Nat × Value) := [(54, .int 1732584193), (55, .int (-271733879)), (56, .int (-1732584194)), (57, .int 271733878), (58, .int (-1009589776)), (111, .int 1116352408), (112, .int 1899447441), (113, .int (-1245643825)), (114, .int (-373957723)), (115, .int 961987163), (116, .int 1508970993), (117, .int (-1841331548)), (118, .int (-1424204075)), (119, .int (-670586216)), (120, .int 310598401), (121, .int 607225278), (122, .int 1426881987), (123, .int 1925078388), (124, .int (-2132889090)), (125, .int (-1680079193)), (126, .int (-1046744716)), (127, .int (-459576895)), (128, .int (-272742522)), (129, .int 264347078), (130, .int 604807628), (131, .int 770255983), (132, .int 1249150122), (133, .int 1555081692), (134, .int 1996064986), (135, .int (-1740746414)), (136, .int (-1473132947)), (137, .int (-1341970488)), (138, .int (-1084653625)), (139, .int (-958395405)), (140, .int (-710438585)), (141, .int 113926993), (142, .int 338241895), (143, .int 666307205), (144, .int 773529912), (145, .int 1294757372), (146, .int 1396182291), (147, .int 1695183700), (148, .int 1986661051), (149, .int (-2117940946)), (150, .int (-1838011259)), (151, .int (-1564481375)), (152, .int (-1474664885)), (153, .int (-1035236496)), (154, .int (-949202525)), (155, .int (-778901479)), (156, .int (-694614492)), (157, .int (-200395387)), (158, .int 275423344), (159, .int 430227734), (160, .int 506948616), (161, .int 659060556), (162, .int 883997877), (163, .int 958139571), (164, .int 1322822218), (165, .int 1537002063), (166, .int 1747873779), (167, .int 1955562222), (168, .int 2024104815), (169, .int (-2067236844)), (170, .int (-1933114872)), (171, .int (-1866530822)), (172, .int (-1538233109)), (173, .int (-1090935817)), (174, .int (-965641998)), (175, .int 1779033703), (176, .int (-1150833019)), (177, .int 1013904242), (178, .int (-1521486534)), (179, .int 1359893119), (180, .int (-1694144372)), (181, .int 528734635), (182, .int 1541459225), (183, .int 1518500249), (184, .int 1859775393), (185, .int (-1894007588)), (186, .int (-1454113458)), (187, .int 1352829926), (188, .int 1548603684), (189, .int 1836072691), (190, .int 2053994217), (261, .int 400000), (286, .int 200000), (312, .long 4294967295), (314, .long 500000000), (324, .long 65535), (413, .ref 4294967326), (419, .ref 4294967328), (421, .ref 4294967332), (423, .ref 4294967334), (425, .ref 4294967308), (427, .ref 4294967310), (429, .ref 4294967318), (431, .ref 4294967320), (433, .ref 4294967322), (435, .ref 4294967324), (437, .ref 4294967338), (439, .ref 4294967342), (441, .ref 4294967344), (443, .ref 4294967346), (445, .ref 4294967348), (447, .ref 4294967350), (449, .ref 4294967352), (451, .ref 4294967316), (453, .ref 4294967336), (455, .ref 4294967306), (457, .ref 4294967330), (459, .ref 4294967340), (464, .long 10), (466, .long 48), (468, .long 2147483647), (555, .ref 4294967312), (557, .ref 4294967314), (626, .ref 4294967370), (727, .long 255)]
theorem zKL6_ok : ∀ q ∈ zKL6, zKF 6 q := List.forall_mem_cons.mpr ⟨q2912, List.forall_mem_cons.mpr ⟨q2913, List.forall_mem_cons.mpr ⟨q2914, List.forall_mem_cons.mpr ⟨q2915, List.forall_mem_cons.mpr ⟨q2916, List.forall_mem_cons.mpr ⟨q2557, List.forall_mem_cons.mpr ⟨q2558, List.forall_mem_cons.mpr ⟨q2559, List.forall_mem_cons.mpr ⟨q2560, List.forall_mem_cons.mpr ⟨q2561, List.forall_mem_cons.mpr ⟨q2562, List.forall_mem_cons.mpr ⟨q2563, List.forall_mem_cons.mpr ⟨q2564, List.forall_mem_cons.mpr ⟨q2565, List.forall_mem_cons.mpr ⟨q2566, List.forall_mem_cons.mpr ⟨q2567, List.forall_mem_cons.mpr ⟨q2568, List.forall_mem_cons.mpr ⟨q2569, List.forall_mem_cons.mpr ⟨q2570, List.forall_mem_cons.mpr ⟨q2571, List.forall_mem_cons.mpr ⟨q2572, List.forall_mem_cons.mpr ⟨q2573, List.forall_mem_cons.mpr ⟨q2574, List.forall_mem_cons.mpr ⟨q2575, List.forall_mem_cons.mpr ⟨q2576, List.forall_mem_cons.mpr ⟨q2577, List.forall_mem_cons.mpr ⟨q2578, List.forall_mem_cons.mpr ⟨q2579, List.forall_mem_cons.mpr ⟨q2580, List.forall_mem_cons.mpr ⟨q2581, List.forall_mem_cons.mpr ⟨q2582, List.forall_mem_cons.mpr ⟨q2583, List.forall_mem_cons.mpr ⟨q2584, List.forall_mem_cons.mpr ⟨q2585, List.forall_mem_cons.mpr ⟨q2586, List.forall_mem_cons.mpr ⟨q2587, List.forall_mem_cons.mpr ⟨q2588, List.forall_mem_cons.mpr ⟨q2589, List.forall_mem_cons.mpr ⟨q2590, List.forall_mem_cons.mpr ⟨q2591, List.forall_mem_cons.mpr ⟨q2592, List.forall_mem_cons.mpr ⟨q2593, List.forall_mem_cons.mpr ⟨q2594, List.forall_mem_cons.mpr ⟨q2595, List.forall_mem_cons.mpr ⟨q2596, List.forall_mem_cons.mpr ⟨q2597, List.forall_mem_cons.mpr ⟨q2598, List.forall_mem_cons.mpr ⟨q2599, List.forall_mem_cons.mpr ⟨q2600, List.forall_mem_cons.mpr ⟨q2601, List.forall_mem_cons.mpr ⟨q2602, List.forall_mem_cons.mpr ⟨q2603, List.forall_mem_cons.mpr ⟨q2604, List.forall_mem_cons.mpr ⟨q2605, List.forall_mem_cons.mpr ⟨q2606, List.forall_mem_cons.mpr ⟨q2607, List.forall_mem_cons.mpr ⟨q2608, List.forall_mem_cons.mpr ⟨q2609, List.forall_mem_cons.mpr ⟨q2610, List.forall_mem_cons.mpr ⟨q2611, List.forall_mem_cons.mpr ⟨q2612, List.forall_mem_cons.mpr ⟨q2613, List.forall_mem_cons.mpr ⟨q2614, List.forall_mem_cons.mpr ⟨q2615, List.forall_mem_cons.mpr ⟨q2616, List.forall_mem_cons.mpr ⟨q2617, List.forall_mem_cons.mpr ⟨q2618, List.forall_mem_cons.mpr ⟨q2619, List.forall_mem_cons.mpr ⟨q2620, List.forall_mem_cons.mpr ⟨q2621, List.forall_mem_cons.mpr ⟨q2622, List.forall_mem_cons.mpr ⟨q2623, List.forall_mem_cons.mpr ⟨q2624, List.forall_mem_cons.mpr ⟨q2625, List.forall_mem_cons.mpr ⟨q2626, List.forall_mem_cons.mpr ⟨q2627, List.forall_mem_cons.mpr ⟨q2628, List.forall_mem_cons.mpr ⟨q2629, List.forall_mem_cons.mpr ⟨q2630, List.forall_mem_cons.mpr ⟨q2631, List.forall_mem_cons.mpr ⟨q2632, List.forall_mem_cons.mpr ⟨q2633, List.forall_mem_cons.mpr ⟨q2634, List.forall_mem_cons.mpr ⟨q2635, List.forall_mem_cons.mpr ⟨q2636, List.forall_mem_cons.mpr ⟨q2637, List.forall_mem_cons.mpr ⟨q2638, List.forall_mem_cons.mpr ⟨q3259, List.forall_mem_cons.mpr ⟨q3072, List.forall_mem_cons.mpr ⟨q3260, List.forall_mem_cons.mpr ⟨trivial, List.forall_mem_cons.mpr ⟨trivial, List.forall_mem_cons.mpr ⟨trivial, List.forall_mem_cons.mpr ⟨trivial, List.forall_mem_cons.mpr ⟨trivial, List.forall_mem_cons.mpr ⟨trivial, List.forall_mem_cons.mpr ⟨trivial, List.forall_mem_cons.mpr ⟨trivial, List.forall_mem_cons.mpr ⟨trivial, List.forall_mem_cons.mpr ⟨trivial, List.forall_mem_cons.mpr ⟨trivial, List.forall_mem_cons.mpr ⟨trivial, List.forall_mem_cons.mpr ⟨trivial, List.forall_mem_cons.mpr ⟨trivial, List.forall_mem_cons.mpr ⟨trivial, List.forall_mem_cons.mpr ⟨trivial, List.forall_mem_cons.mpr ⟨trivial, List.forall_mem_cons.mpr ⟨trivial, List.forall_mem_cons.mpr ⟨trivial, List.forall_mem_cons.mpr ⟨trivial, List.forall_mem_cons.mpr ⟨trivial, List.forall_mem_cons.mpr ⟨trivial, List.forall_mem_cons.mpr ⟨q3104, List.forall_mem_cons.mpr ⟨q3105, List.forall_mem_cons.mpr ⟨q3106, List.forall_mem_cons.mpr ⟨trivial, List.forall_mem_cons.mpr ⟨trivial, List.forall_mem_cons.mpr ⟨trivial, List.forall_mem_cons.mpr ⟨q3408, fun _ h => absurd h List.not_mem_nil⟩⟩⟩⟩⟩⟩⟩⟩⟩⟩⟩⟩⟩⟩⟩⟩⟩⟩⟩⟩⟩⟩⟩⟩⟩⟩⟩⟩⟩⟩⟩⟩⟩⟩⟩⟩⟩⟩⟩⟩⟩⟩⟩⟩⟩⟩⟩⟩⟩⟩⟩⟩⟩⟩⟩⟩⟩⟩⟩⟩⟩⟩⟩⟩⟩⟩⟩⟩⟩⟩⟩⟩⟩⟩⟩⟩⟩⟩⟩⟩⟩⟩⟩⟩⟩⟩⟩⟩⟩⟩⟩⟩⟩⟩⟩⟩⟩⟩⟩⟩⟩⟩⟩⟩⟩⟩⟩⟩⟩⟩⟩⟩⟩⟩⟩⟩⟩⟩⟩
def zGL6 : List (Nat × Nat) := []
theorem zGL6_ok : ∀ q ∈ zGL6, zGF 6 q := fun _ h => absurd h List.not_mem_nil
def zFL7 : List (Nat × Nat × Nat) := [(3, 135, 0), (15, 133, 0), (19, 8, 1), (22, 7, 1), (58, 134, 0)]
theorem zFL7_ok : ∀ q ∈ zFL7, zFF 7 q := List.forall_mem_cons.mpr ⟨q595, List.forall_mem_cons.mpr ⟨q593, List.forall_mem_cons.mpr ⟨q492, List.forall_mem_cons.mpr ⟨q490, List.forall_mem_cons.mpr ⟨q594, fun _ h => absurd h List.not_mem_nil⟩⟩⟩⟩⟩
def zCL7 : List (Nat × Nat) := [(26, 8), (47, 23), (68, 10), (123, 16), (136, 11), (180, 20), (197, 13), (205, 14), (211, 15), (216, 17), (221, 18), (226, 19), (235, 9)]
theorem zCL7_ok : ∀ q ∈ zCL7, zCF 7 q := List.forall_mem_cons.mpr ⟨q620, List.forall_mem_cons.mpr ⟨q684, List.forall_mem_cons.mpr ⟨q1506, List.forall_mem_cons.mpr ⟨q1431, List.forall_mem_cons.mpr ⟨q932, List.forall_mem_cons.mpr ⟨q1600, List.forall_mem_cons.mpr ⟨q950, List.forall_mem_cons.mpr ⟨q1328, List.forall_mem_cons.mpr ⟨q1378, List.forall_mem_cons.mpr ⟨q1466, List.forall_mem_cons.mpr ⟨q1509, List.forall_mem_cons.mpr ⟨q1548, List.forall_mem_cons.mpr ⟨q930, fun _ h => absurd h List.not_mem_nil⟩⟩⟩⟩⟩⟩⟩⟩⟩⟩⟩⟩⟩
def zKL7 : List (Nat × Value) := [(61, .long 10), (63, .long 48), (65, .long 2147483647), (91, .ref 4294967326), (97, .ref 4294967328), (99, .ref 4294967306), (101, .ref 4294967330), (103, .ref 4294967332), (105, .ref 4294967334), (107, .ref 4294967308), (109, .ref 4294967310), (111, .ref 4294967336), (113, .ref 4294967316), (115, .ref 4294967338), (117, .ref 4294967340), (189, .ref 4294967354), (231, .ref 4294967312), (233, .ref 4294967314)]
theorem zKL7_ok : ∀ q ∈ zKL7, zKF 7 q := List.forall_mem_cons.mpr ⟨q1325, List.forall_mem_cons.mpr ⟨q1326, List.forall_mem_cons.mpr ⟨q1327, List.forall_mem_cons.mpr ⟨trivial, List.forall_mem_cons.mpr ⟨trivial, List.forall_mem_cons.mpr ⟨trivial, List.forall_mem_cons.mpr ⟨trivial, List.forall_mem_cons.mpr ⟨trivial, List.forall_mem_cons.mpr ⟨trivial, List.forall_mem_cons.mpr ⟨trivial, List.forall_mem_cons.mpr ⟨trivial, List.forall_mem_cons.mpr ⟨trivial, List.forall_mem_cons.mpr ⟨trivial, List.forall_mem_cons.mpr ⟨trivial, List.forall_mem_cons.mpr ⟨trivial, List.forall_mem_cons.mpr ⟨trivial, List.forall_mem_cons.mpr ⟨trivial, List.forall_mem_cons.mpr ⟨trivial, fun _ h => absurd h List.not_mem_nil⟩⟩⟩⟩⟩⟩⟩⟩⟩⟩⟩⟩⟩⟩⟩⟩⟩⟩
def zGL7 : List (Nat × Nat) := []
theorem zGL7_ok : ∀ q ∈ zGL7, zGF 7 q := fun _ h => absurd h List.not_mem_nil
def zFL8 : List (Nat × Nat × Nat) := [(7, 136, 0), (13, 137, 0)]
theorem zFL8_ok : ∀ q ∈ zFL8, zFF 8 q := List.forall_mem_cons.mpr ⟨q664, List.forall_mem_cons.mpr ⟨q666, fun _ h => absurd h List.not_mem_nil⟩⟩
def zCL8 : List (Nat × Nat) := []
theorem zCL8_ok : ∀ q ∈ zCL8, zCF 8 q := fun _ h => absurd h List.not_mem_nil
def zKL8 : List (Nat × Value) := []
theorem zKL8_ok : ∀ q ∈ zKL8, zKF 8 q := fun _ h => absurd h List.not_mem_nil
def zGL8 : List (Nat × Nat) := []
theorem zGL8_ok : ∀ q ∈ zGL8, zGF 8 q := fun _ h => absurd h List.not_mem_nil
def zFL9 : List (Nat × Nat × Nat) := [(3, 143, 0), (15, 138, 0), (19, 139, 0), (22, 140, 0), (25, 141, 0), (29, 142, 0), (42, 161, 1), (47, 164, 1), (79, 154, 1), (98, 148, 1), (106, 149, 1), (109, 151, 1)]
theorem zFL9_ok : ∀ q ∈ zFL9, zFF 9 q := List.forall_mem_cons.mpr ⟨q1303, List.forall_mem_cons.mpr ⟨q1298, List.forall_mem_cons.mpr ⟨q1299, List.forall_mem_cons.mpr ⟨q1300, List.forall_mem_cons.mpr ⟨q1301, List.forall_mem_cons.mpr ⟨q1302, List.forall_mem_cons.mpr ⟨q1269, List.forall_mem_cons.mpr ⟨q963, List.forall_mem_cons.mpr ⟨q1019, List.forall_mem_cons.mpr ⟨q985, List.forall_mem_cons.mpr ⟨q990, List.forall_mem_cons.mpr ⟨q1001, fun _ h => absurd h List.not_mem_nil⟩⟩⟩⟩⟩⟩⟩⟩⟩⟩⟩⟩
def zCL9 : List (Nat × Nat) := [(34, 10), (40, 11), (45, 13), (64, 20), (90, 17), (101, 18), (112, 16)]
theorem zCL9_ok : ∀ q ∈ zCL9, zCF 9 q := List.forall_mem_cons.mpr ⟨q1735, List.forall_mem_cons.mpr ⟨q1708, List.forall_mem_cons.mpr ⟨q1732, List.forall_mem_cons.mpr ⟨q1707, List.forall_mem_cons.mpr ⟨q1733, List.forall_mem_cons.mpr ⟨q1742, List.forall_mem_cons.mpr ⟨q1740, fun _ h => absurd h List.not_mem_nil⟩⟩⟩⟩⟩⟩⟩
def zKL9 : List (Nat × Value) := []
theorem zKL9_ok : ∀ q ∈ zKL9, zKF 9 q := fun _ h => absurd h List.not_mem_nil
def zGL9 : List (Nat × Nat) := []
theorem zGL9_ok : ∀ q ∈ zGL9, zGF 9 q := fun _ h => absurd h List.not_mem_nil
def zFL10 : List (Nat × Nat × Nat) := [(3, 159, 0), (15, 144, 0), (24, 145, 0), (27, 147, 0), (31, 148, 0), (34, 149, 0), (37, 150, 0), (40, 151, 0), (43, 152, 0), (46, 153, 0), (49, 154, 0), (52, 155, 0), (55, 146, 0), (58, 156, 0), (65, 157, 0), (73, 158, 0)]
theorem zFL10_ok : ∀ q ∈ zFL10, zFF 10 q := List.forall_mem_cons.mpr ⟨q1031, List.forall_mem_cons.mpr ⟨q967, List.forall_mem_cons.mpr ⟨q971, List.forall_mem_cons.mpr ⟨q977, List.forall_mem_cons.mpr ⟨q983, List.forall_mem_cons.mpr ⟨q988, List.forall_mem_cons.mpr ⟨q994, List.forall_mem_cons.mpr ⟨q998, List.forall_mem_cons.mpr ⟨q1007, List.forall_mem_cons.mpr ⟨q1012, List.forall_mem_cons.mpr ⟨q1018, List.forall_mem_cons.mpr ⟨q1025, List.forall_mem_cons.mpr ⟨q973, List.forall_mem_cons.mpr ⟨q1027, List.forall_mem_cons.mpr ⟨q1029, List.forall_mem_cons.mpr ⟨q1030, fun _ h => absurd h List.not_mem_nil⟩⟩⟩⟩⟩⟩⟩⟩⟩⟩⟩⟩⟩⟩⟩⟩
def zCL10 : List (Nat × Nat) := [(19, 8)]
theorem zCL10_ok : ∀ q ∈ zCL10, zCF 10 q := List.forall_mem_cons.mpr ⟨q1115, fun _ h => absurd h List.not_mem_nil⟩
def zKL10 : List (Nat × Value) := []
theorem zKL10_ok : ∀ q ∈ zKL10, zKF 10 q := fun _ h => absurd h List.not_mem_nil
def zGL10 : List (Nat × Nat) := []
theorem zGL10_ok : ∀ q ∈ zGL10, zGF 10 q := fun _ h => absurd h List.not_mem_nil
def zFL11 : List (Nat × Nat × Nat) := [(3, 162, 0), (15, 160, 0), (19, 161, 0), (23, 145, 1), (27, 148, 1), (31, 147, 1), (34, 149, 1), (45, 150, 1), (48, 151, 1), (55, 152, 1), (58, 155, 1), (65, 153, 1), (68, 154, 1), (125, 194, 1), (130, 196, 1), (133, 195, 1)]
theorem zFL11_ok : ∀ q ∈ zFL11, zFF 11 q := List.forall_mem_cons.mpr ⟨q1270, List.forall_mem_cons.mpr ⟨q1267, List.forall_mem_cons.mpr ⟨q1268, List.forall_mem_cons.mpr ⟨q970, List.forall_mem_cons.mpr ⟨q981, List.forall_mem_cons.mpr ⟨q976, List.forall_mem_cons.mpr ⟨q987, List.forall_mem_cons.mpr ⟨q995, List.forall_mem_cons.mpr ⟨q999, List.forall_mem_cons.mpr ⟨q1006, List.forall_mem_cons.mpr ⟨q1024, List.forall_mem_cons.mpr ⟨q1011, List.forall_mem_cons.mpr ⟨q1016, List.forall_mem_cons.mpr ⟨q2224, List.forall_mem_cons.mpr ⟨q2230, List.forall_mem_cons.mpr ⟨q2227, fun _ h => absurd h List.not_mem_nil⟩⟩⟩⟩⟩⟩⟩⟩⟩⟩⟩⟩⟩⟩⟩⟩
def zCL11 : List (Nat × Nat) := []
theorem zCL11_ok : ∀ q ∈ zCL11, zCF 11 q := fun _ h => absurd h List.not_mem_nil
def zKL11 : List (Nat × Value) := []
theorem zKL11_ok : ∀ q ∈ zKL11, zKF 11 q := fun _ h => absurd h List.not_mem_nil
def zGL11 : List (Nat × Nat) := []
theorem zGL11_ok : ∀ q ∈ zGL11, zGF 11 q := fun _ h => absurd h List.not_mem_nil
def zFL12 : List (Nat × Nat × Nat) := [(1, 163, 0)]
theorem zFL12_ok : ∀ q ∈ zFL12, zFF 12 q := List.forall_mem_cons.mpr ⟨q966, fun _ h => absurd h List.not_mem_nil⟩
def zCL12 : List (Nat × Nat) := []
theorem zCL12_ok : ∀ q ∈ zCL12, zCF 12 q := fun _ h => absurd h List.not_mem_nil
def zKL12 : List (Nat × Value) := []
theorem zKL12_ok : ∀ q ∈ zKL12, zKF 12 q := fun _ h => absurd h List.not_mem_nil
def zGL12 : List (Nat × Nat) := []
theorem zGL12_ok : ∀ q ∈ zGL12, zGF 12 q := fun _ h => absurd h List.not_mem_nil
def zFL13 : List (Nat × Nat × Nat) := [(3, 166, 0), (15, 164, 0), (19, 165, 0), (31, 1, 1), (41, 0, 1), (68, 3, 1)]
theorem zFL13_ok : ∀ q ∈ zFL13, zFF 13 q := List.forall_mem_cons.mpr ⟨q965, List.forall_mem_cons.mpr ⟨q962, List.forall_mem_cons.mpr ⟨q964, List.forall_mem_cons.mpr ⟨q477, List.forall_mem_cons.mpr ⟨q474, List.forall_mem_cons.mpr ⟨q483, fun _ h => absurd h List.not_mem_nil⟩⟩⟩⟩⟩⟩
def zCL13 : List (Nat × Nat) := []
theorem zCL13_ok : ∀ q ∈ zCL13, zCF 13 q := fun _ h => absurd h List.not_mem_nil
def zKL13 : List (Nat × Value) := [(55, .ref 4294967358), (57, .ref 4294967360)]
theorem zKL13_ok : ∀ q ∈ zKL13, zKF 13 q := List.forall_mem_cons.mpr ⟨trivial, List.forall_mem_cons.mpr ⟨trivial, fun _ h => absurd h List.not_mem_nil⟩⟩
def zGL13 : List (Nat × Nat) := []
theorem zGL13_ok : ∀ q ∈ zGL13, zGF 13 q := fun _ h => absurd h List.not_mem_nil
def zFL14 : List (Nat × Nat × Nat) := [(3, 169, 0), (15, 167, 0), (19, 168, 0)]
theorem zFL14_ok : ∀ q ∈ zFL14, zFF 14 q := List.forall_mem_cons.mpr ⟨q1336, List.forall_mem_cons.mpr ⟨q1334, List.forall_mem_cons.mpr ⟨q1335, fun _ h => absurd h List.not_mem_nil⟩⟩⟩
def zCL14 : List (Nat × Nat) := []
theorem zCL14_ok : ∀ q ∈ zCL14, zCF 14 q := fun _ h => absurd h List.not_mem_nil
def zKL14 : List (Nat × Value) := [(47, .ref 4294967362), (49, .ref 4294967364)]
theorem zKL14_ok : ∀ q ∈ zKL14, zKF 14 q := List.forall_mem_cons.mpr ⟨trivial, List.forall_mem_cons.mpr ⟨trivial, fun _ h => absurd h List.not_mem_nil⟩⟩
def zGL14 : List (Nat × Nat) := []
theorem zGL14_ok : ∀ q ∈ zGL14, zGF 14 q := fun _ h => absurd h List.not_mem_nil
def zFL15 : List (Nat × Nat × Nat) := [(3, 172, 0), (15, 170, 0), (19, 171, 0), (30, 0, 1), (38, 2, 1), (77, 4, 1)]
theorem zFL15_ok : ∀ q ∈ zFL15, zFF 15 q := List.forall_mem_cons.mpr ⟨q1386, List.forall_mem_cons.mpr ⟨q1384, List.forall_mem_cons.mpr ⟨q1385, List.forall_mem_cons.mpr ⟨q473, List.forall_mem_cons.mpr ⟨q481, List.forall_mem_cons.mpr ⟨q487, fun _ h => absurd h List.not_mem_nil⟩⟩⟩⟩⟩⟩
def zCL15 : List (Nat × Nat) := []
theorem zCL15_ok : ∀ q ∈ zCL15, zCF 15 q := fun _ h => absurd h List.not_mem_nil
def zKL15 : List (Nat × Value) := []
theorem zKL15_ok : ∀ q ∈ zKL15, zKF 15 q := fun _ h => absurd h List.not_mem_nil
def zGL15 : List (Nat × Nat) := []
theorem zGL15_ok : ∀ q ∈ zGL15, zGF 15 q := fun _ h => absurd h List.not_mem_nil
def zFL16 : List (Nat × Nat × Nat) := [(3, 174, 0), (15, 173, 0)]
theorem zFL16_ok : ∀ q ∈ zFL16, zFF 16 q := List.forall_mem_cons.mpr ⟨q1439, List.forall_mem_cons.mpr ⟨q1438, fun _ h => absurd h List.not_mem_nil⟩⟩
def zCL16 : List (Nat × Nat) := []
theorem zCL16_ok : ∀ q ∈ zCL16, zCF 16 q := fun _ h => absurd h List.not_mem_nil
def zKL16 : List (Nat × Value) := []
theorem zKL16_ok : ∀ q ∈ zKL16, zKF 16 q := fun _ h => absurd h List.not_mem_nil
def zGL16 : List (Nat × Nat) := []
theorem zGL16_ok : ∀ q ∈ zGL16, zGF 16 q := fun _ h => absurd h List.not_mem_nil
def zFL17 : List (Nat × Nat × Nat) := [(3, 178, 0), (15, 175, 0), (19, 176, 0), (22, 177, 0), (40, 1, 1), (51, 37, 1), (68, 3, 1)]
theorem zFL17_ok : ∀ q ∈ zFL17, zFF 17 q := List.forall_mem_cons.mpr ⟨q1475, List.forall_mem_cons.mpr ⟨q1472, List.forall_mem_cons.mpr ⟨q1473, List.forall_mem_cons.mpr ⟨q1474, List.forall_mem_cons.mpr ⟨q478, List.forall_mem_cons.mpr ⟨q287, List.forall_mem_cons.mpr ⟨q484, fun _ h => absurd h List.not_mem_nil⟩⟩⟩⟩⟩⟩⟩
def zCL17 : List (Nat × Nat) := []
theorem zCL17_ok : ∀ q ∈ zCL17, zCF 17 q := fun _ h => absurd h List.not_mem_nil
def zKL17 : List (Nat × Value) := [(54, .ref 4294967366)]
theorem zKL17_ok : ∀ q ∈ zKL17, zKF 17 q := List.forall_mem_cons.mpr ⟨trivial, fun _ h => absurd h List.not_mem_nil⟩
def zGL17 : List (Nat × Nat) := []
theorem zGL17_ok : ∀ q ∈ zGL17, zGF 17 q := fun _ h => absurd h List.not_mem_nil
def zFL18 : List (Nat × Nat × Nat) := [(3, 182, 0), (15, 179, 0), (19, 180, 0), (22, 181, 0), (37, 147, 1), (41, 148, 1), (44, 152, 1), (47, 154, 1), (50, 155, 1)]
theorem zFL18_ok : ∀ q ∈ zFL18, zFF 18 q := List.forall_mem_cons.mpr ⟨q1518, List.forall_mem_cons.mpr ⟨q1515, List.forall_mem_cons.mpr ⟨q1516, List.forall_mem_cons.mpr ⟨q1517, List.forall_mem_cons.mpr ⟨q975, List.forall_mem_cons.mpr ⟨q980, List.forall_mem_cons.mpr ⟨q1003, List.forall_mem_cons.mpr ⟨q1014, List.forall_mem_cons.mpr ⟨q1021, fun _ h => absurd h List.not_mem_nil⟩⟩⟩⟩⟩⟩⟩⟩⟩
def zCL18 : List (Nat × Nat) := [(98, 21)]
theorem zCL18_ok : ∀ q ∈ zCL18, zCF 18 q := List.forall_mem_cons.mpr ⟨q2323, fun _ h => absurd h List.not_mem_nil⟩
def zKL18 : List (Nat × Value) := [(78, .ref 4294967368)]
theorem zKL18_ok : ∀ q ∈ zKL18, zKF 18 q := List.forall_mem_cons.mpr ⟨trivial, fun _ h => absurd h List.not_mem_nil⟩
def zGL18 : List (Nat × Nat) := []
theorem zGL18_ok : ∀ q ∈ zGL18, zGF 18 q := fun _ h => absurd h List.not_mem_nil
def zFL19 : List (Nat × Nat × Nat) := [(3, 186, 0), (15, 183, 0), (19, 184, 0), (22, 185, 0), (29, 145, 1), (41, 147, 1), (45, 148, 1), (48, 150, 1), (51, 151, 1), (58, 152, 1), (61, 153, 1), (64, 154, 1), (67, 155, 1)]
theorem zFL19_ok : ∀ q ∈ zFL19, zFF 19 q := List.forall_mem_cons.mpr ⟨q1557, List.forall_mem_cons.mpr ⟨q1554, List.forall_mem_cons.mpr ⟨q1555, List.forall_mem_cons.mpr ⟨q1556, List.forall_mem_cons.mpr ⟨q968, List.forall_mem_cons.mpr ⟨q974, List.forall_mem_cons.mpr ⟨q982, List.forall_mem_cons.mpr ⟨q993, List.forall_mem_cons.mpr ⟨q997, List.forall_mem_cons.mpr ⟨q1004, List.forall_mem_cons.mpr ⟨q1009, List.forall_mem_cons.mpr ⟨q1015, List.forall_mem_cons.mpr ⟨q1022, fun _ h => absurd h List.not_mem_nil⟩⟩⟩⟩⟩⟩⟩⟩⟩⟩⟩⟩⟩
def zCL19 : List (Nat × Nat) := []
theorem zCL19_ok : ∀ q ∈ zCL19, zCF 19 q := fun _ h => absurd h List.not_mem_nil
def zKL19 : List (Nat × Value) := [(88, .ref 4294967356)]
theorem zKL19_ok : ∀ q ∈ zKL19, zKF 19 q := List.forall_mem_cons.mpr ⟨trivial, fun _ h => absurd h List.not_mem_nil⟩
def zGL19 : List (Nat × Nat) := []
theorem zGL19_ok : ∀ q ∈ zGL19, zGF 19 q := fun _ h => absurd h List.not_mem_nil
def zFL20 : List (Nat × Nat × Nat) := [(3, 190, 0), (15, 187, 0), (19, 188, 0), (23, 189, 0), (26, 145, 1), (29, 150, 1), (48, 147, 1), (51, 148, 1), (54, 155, 1), (57, 152, 1), (60, 149, 1), (63, 151, 1), (70, 153, 1), (77, 154, 1)]
theorem zFL20_ok : ∀ q ∈ zFL20, zFF 20 q := List.forall_mem_cons.mpr ⟨q1608, List.forall_mem_cons.mpr ⟨q1605, List.forall_mem_cons.mpr ⟨q1606, List.forall_mem_cons.mpr ⟨q1607, List.forall_mem_cons.mpr ⟨q969, List.forall_mem_cons.mpr ⟨q992, List.forall_mem_cons.mpr ⟨q978, List.forall_mem_cons.mpr ⟨q984, List.forall_mem_cons.mpr ⟨q1023, List.forall_mem_cons.mpr ⟨q1005, List.forall_mem_cons.mpr ⟨q989, List.forall_mem_cons.mpr ⟨q1000, List.forall_mem_cons.mpr ⟨q1010, List.forall_mem_cons.mpr ⟨q1017, fun _ h => absurd h List.not_mem_nil⟩⟩⟩⟩⟩⟩⟩⟩⟩⟩⟩⟩⟩⟩
def zCL20 : List (Nat × Nat) := []
theorem zCL20_ok : ∀ q ∈ zCL20, zCF 20 q := fun _ h => absurd h List.not_mem_nil
def zKL20 : List (Nat × Value) := []
theorem zKL20_ok : ∀ q ∈ zKL20, zKF 20 q := fun _ h => absurd h List.not_mem_nil
def zGL20 : List (Nat × Nat) := []
theorem zGL20_ok : ∀ q ∈ zGL20, zGF 20 q := fun _ h => absurd h List.not_mem_nil
def zFL21 : List (Nat × Nat × Nat) := []
theorem zFL21_ok : ∀ q ∈ zFL21, zFF 21 q := fun _ h => absurd h List.not_mem_nil
def zCL21 : List (Nat × Nat) := []
theorem zCL21_ok : ∀ q ∈ zCL21, zCF 21 q := fun _ h => absurd h List.not_mem_nil
def zKL21 : List (Nat × Value) := []
theorem zKL21_ok : ∀ q ∈ zKL21, zKF 21 q := fun _ h => absurd h List.not_mem_nil
def zGL21 : List (Nat × Nat) := []
theorem zGL21_ok : ∀ q ∈ zGL21, zGF 21 q := fun _ h => absurd h List.not_mem_nil
def zFL22 : List (Nat × Nat × Nat) := [(9, 199, 0), (15, 200, 0), (19, 201, 0), (23, 202, 0), (1048, 205, 0)]
theorem zFL22_ok : ∀ q ∈ zFL22, zFF 22 q := List.forall_mem_cons.mpr ⟨q835, List.forall_mem_cons.mpr ⟨q836, List.forall_mem_cons.mpr ⟨q837, List.forall_mem_cons.mpr ⟨q838, List.forall_mem_cons.mpr ⟨q703, fun _ h => absurd h List.not_mem_nil⟩⟩⟩⟩⟩
def zCL22 : List (Nat × Nat) := [(10, 22)]
theorem zCL22_ok : ∀ q ∈ zCL22, zCF 22 q := List.forall_mem_cons.mpr ⟨q853, fun _ h => absurd h List.not_mem_nil⟩
def zKL22 : List (Nat × Value) := []
theorem zKL22_ok : ∀ q ∈ zKL22, zKF 22 q := fun _ h => absurd h List.not_mem_nil
def zGL22 : List (Nat × Nat) := [(38, 0), (1053, 3)]
theorem zGL22_ok : ∀ q ∈ zGL22, zGF 22 q := List.forall_mem_cons.mpr ⟨q421, List.forall_mem_cons.mpr ⟨q429, fun _ h => absurd h List.not_mem_nil⟩⟩
def zFL23 : List (Nat × Nat × Nat) := []
theorem zFL23_ok : ∀ q ∈ zFL23, zFF 23 q := fun _ h => absurd h List.not_mem_nil
def zCL23 : List (Nat × Nat) := [(18, 22)]
theorem zCL23_ok : ∀ q ∈ zCL23, zCF 23 q := List.forall_mem_cons.mpr ⟨q793, fun _ h => absurd h List.not_mem_nil⟩
def zKL23 : List (Nat × Value) := []
theorem zKL23_ok : ∀ q ∈ zKL23, zKF 23 q := fun _ h => absurd h List.not_mem_nil
def zGL23 : List (Nat × Nat) := []
theorem zGL23_ok : ∀ q ∈ zGL23, zGF 23 q := fun _ h => absurd h List.not_mem_nil
def zFL24 : List (Nat × Nat × Nat) := []
theorem zFL24_ok : ∀ q ∈ zFL24, zFF 24 q := fun _ h => absurd h List.not_mem_nil
def zCL24 : List (Nat × Nat) := [(7, 0), (10, 6)]
theorem zCL24_ok : ∀ q ∈ zCL24, zCF 24 q := List.forall_mem_cons.mpr ⟨q210, List.forall_mem_cons.mpr ⟨q2552, fun _ h => absurd h List.not_mem_nil⟩⟩
def zKL24 : List (Nat × Value) := []
theorem zKL24_ok : ∀ q ∈ zKL24, zKF 24 q := fun _ h => absurd h List.not_mem_nil
def zGL24 : List (Nat × Nat) := []
theorem zGL24_ok : ∀ q ∈ zGL24, zGF 24 q := fun _ h => absurd h List.not_mem_nil
def zFL25 : List (Nat × Nat × Nat) := []
theorem zFL25_ok : ∀ q ∈ zFL25, zFF 25 q := fun _ h => absurd h List.not_mem_nil
def zCL25 : List (Nat × Nat) := []
theorem zCL25_ok : ∀ q ∈ zCL25, zCF 25 q := fun _ h => absurd h List.not_mem_nil
def zKL25 : List (Nat × Value) := []
theorem zKL25_ok : ∀ q ∈ zKL25, zKF 25 q := fun _ h => absurd h List.not_mem_nil
def zGL25 : List (Nat × Nat) := []
theorem zGL25_ok : ∀ q ∈ zGL25, zGF 25 q := fun _ h => absurd h List.not_mem_nil
def zFL26 : List (Nat × Nat × Nat) := []
theorem zFL26_ok : ∀ q ∈ zFL26, zFF 26 q := fun _ h => absurd h List.not_mem_nil
def zCL26 : List (Nat × Nat) := []
theorem zCL26_ok : ∀ q ∈ zCL26, zCF 26 q := fun _ h => absurd h List.not_mem_nil
def zKL26 : List (Nat × Value) := []
theorem zKL26_ok : ∀ q ∈ zKL26, zKF 26 q := fun _ h => absurd h List.not_mem_nil
def zGL26 : List (Nat × Nat) := []
theorem zGL26_ok : ∀ q ∈ zGL26, zGF 26 q := fun _ h => absurd h List.not_mem_nil
def zFL27 : List (Nat × Nat × Nat) := [(15, 203, 0), (22, 204, 0), (79, 206, 0)]
theorem zFL27_ok : ∀ q ∈ zFL27, zFF 27 q := List.forall_mem_cons.mpr ⟨q701, List.forall_mem_cons.mpr ⟨q702, List.forall_mem_cons.mpr ⟨q704, fun _ h => absurd h List.not_mem_nil⟩⟩⟩
def zCL27 : List (Nat × Nat) := []
theorem zCL27_ok : ∀ q ∈ zCL27, zCF 27 q := fun _ h => absurd h List.not_mem_nil
def zKL27 : List (Nat × Value) := [(39, .int 2147483647)]
theorem zKL27_ok : ∀ q ∈ zKL27, zKF 27 q := List.forall_mem_cons.mpr ⟨q739, fun _ h => absurd h List.not_mem_nil⟩
def zGL27 : List (Nat × Nat) := [(18, 0)]
theorem zGL27_ok : ∀ q ∈ zGL27, zGF 27 q := List.forall_mem_cons.mpr ⟨q693, fun _ h => absurd h List.not_mem_nil⟩
def zFL28 : List (Nat × Nat × Nat) := []
theorem zFL28_ok : ∀ q ∈ zFL28, zFF 28 q := fun _ h => absurd h List.not_mem_nil
def zCL28 : List (Nat × Nat) := [(60, 29)]
theorem zCL28_ok : ∀ q ∈ zCL28, zCF 28 q := List.forall_mem_cons.mpr ⟨q891, fun _ h => absurd h List.not_mem_nil⟩
def zKL28 : List (Nat × Value) := [(200, .int 2147483639)]
theorem zKL28_ok : ∀ q ∈ zKL28, zKF 28 q := List.forall_mem_cons.mpr ⟨q735, fun _ h => absurd h List.not_mem_nil⟩
def zGL28 : List (Nat × Nat) := []
theorem zGL28_ok : ∀ q ∈ zGL28, zGF 28 q := fun _ h => absurd h List.not_mem_nil
def zFL29 : List (Nat × Nat × Nat) := []
theorem zFL29_ok : ∀ q ∈ zFL29, zFF 29 q := fun _ h => absurd h List.not_mem_nil
def zCL29 : List (Nat × Nat) := []
theorem zCL29_ok : ∀ q ∈ zCL29, zCF 29 q := fun _ h => absurd h List.not_mem_nil
def zKL29 : List (Nat × Value) := []
theorem zKL29_ok : ∀ q ∈ zKL29, zKF 29 q := fun _ h => absurd h List.not_mem_nil
def zGL29 : List (Nat × Nat) := []
theorem zGL29_ok : ∀ q ∈ zGL29, zGF 29 q := fun _ h => absurd h List.not_mem_nil
def zFL30 : List (Nat × Nat × Nat) := []
theorem zFL30_ok : ∀ q ∈ zFL30, zFF 30 q := fun _ h => absurd h List.not_mem_nil
def zCL30 : List (Nat × Nat) := [(311, 29)]
theorem zCL30_ok : ∀ q ∈ zCL30, zCF 30 q := List.forall_mem_cons.mpr ⟨q749, fun _ h => absurd h List.not_mem_nil⟩
def zKL30 : List (Nat × Value) := []
theorem zKL30_ok : ∀ q ∈ zKL30, zKF 30 q := fun _ h => absurd h List.not_mem_nil
def zGL30 : List (Nat × Nat) := []
theorem zGL30_ok : ∀ q ∈ zGL30, zGF 30 q := fun _ h => absurd h List.not_mem_nil
def zFL31 : List (Nat × Nat × Nat) := []
theorem zFL31_ok : ∀ q ∈ zFL31, zFF 31 q := fun _ h => absurd h List.not_mem_nil
def zCL31 : List (Nat × Nat) := []
theorem zCL31_ok : ∀ q ∈ zCL31, zCF 31 q := fun _ h => absurd h List.not_mem_nil
def zKL31 : List (Nat × Value) := []
theorem zKL31_ok : ∀ q ∈ zKL31, zKF 31 q := fun _ h => absurd h List.not_mem_nil
def zGL31 : List (Nat × Nat) := [(83, 2), (87, 1)]
theorem zGL31_ok : ∀ q ∈ zGL31, zGF 31 q := List.forall_mem_cons.mpr ⟨q1948, List.forall_mem_cons.mpr ⟨q1950, fun _ h => absurd h List.not_mem_nil⟩⟩
def zGL (o : Nat) : List (Nat × Nat) := if o < 16 then (if o < 8 then (if o < 4 then (if o < 2 then (if o < 1 then (zGL0) else (zGL1)) else (if o < 3 then (zGL2) else (zGL3))) else (if o < 6 then (if o < 5 then (zGL4) else (zGL5)) else (if o < 7 then (zGL6) else (zGL7)))) else (if o < 12 then (if o < 10 then (if o < 9 then (zGL8) else (zGL9)) else (if o < 11 then (zGL10) else (zGL11))) else (if o < 14 then (if o < 13 then (zGL12) else (zGL13)) else (if o < 15 then (zGL14) else (zGL15))))) else (if o < 24 then (if o < 20 then (if o < 18 then (if o < 17 then (zGL16) else (zGL17)) else (if o < 19 then (zGL18) else (zGL19))) else (if o < 22 then (if o < 21 then (zGL20) else (zGL21)) else (if o < 23 then (zGL22) else (zGL23)))) else (if o < 28 then (if o < 26 then (if o < 25 then (zGL24) else (zGL25)) else (if o < 27 then (zGL26) else (zGL27))) else (if o < 30 then (if o < 29 then (zGL28) else (zGL29)) else (if o < 31 then (zGL30) else (zGL31)))))
def zFL (o : Nat) : List (Nat × Nat × Nat) := if o < 16 then (if o < 8 then (if o < 4 then (if o < 2 then (if o < 1 then (zFL0) else (zFL1)) else (if o < 3 then (zFL2) else (zFL3))) else (if o < 6 then (if o < 5 then (zFL4) else (zFL5)) else (if o < 7 then (zFL6) else (zFL7)))) else (if o < 12 then (if o < 10 then (if o < 9 then (zFL8) else (zFL9)) else (if o < 11 then (zFL10) else (zFL11))) else (if o < 14 then (if o < 13 then (zFL12) else (zFL13)) else (if o < 15 then (zFL14) else (zFL15))))) else (if o < 24 then (if o < 20 then (if o < 18 then (if o < 17 then (zFL16) else (zFL17)) else (if o < 19 then (zFL18) else (zFL19))) else (if o < 22 then (if o < 21 then (zFL20) else (zFL21)) else (if o < 23 then (zFL22) else (zFL23)))) else (if o < 28 then (if o < 26 then (if o < 25 then (zFL24) else (zFL25)) else (if o < 27 then (zFL26) else (zFL27))) else (if o < 30 then (if o < 29 then (zFL28) else (zFL29)) else (if o < 31 then (zFL30) else (zFL31)))))
def zCL (o : Nat) : List (Nat × Nat) := if o < 16 then (if o < 8 then (if o < 4 then (if o < 2 then (if o < 1 then (zCL0) else (zCL1)) else (if o < 3 then (zCL2) else (zCL3))) else (if o < 6 then (if o < 5 then (zCL4) else (zCL5)) else (if o < 7 then (zCL6) else (zCL7)))) else (if o < 12 then (if o < 10 then (if o < 9 then (zCL8) else (zCL9)) else (if o < 11 then (zCL10) else (zCL11))) else (if o < 14 then (if o < 13 then (zCL12) else (zCL13)) else (if o < 15 then (zCL14) else (zCL15))))) else (if o < 24 then (if o < 20 then (if o < 18 then (if o < 17 then (zCL16) else (zCL17)) else (if o < 19 then (zCL18) else (zCL19))) else (if o < 22 then (if o < 21 then (zCL20) else (zCL21)) else (if o < 23 then (zCL22) else (zCL23)))) else (if o < 28 then (if o < 26 then (if o < 25 then (zCL24) else (zCL25)) else (if o < 27 then (zCL26) else (zCL27))) else (if o < 30 then (if o < 29 then (zCL28) else (zCL29)) else (if o < 31 then (zCL30) else (zCL31)))))
def zKL (o : Nat) : List (Nat × Value) := if o < 16 then (if o < 8 then (if o < 4 then (if o < 2 then (if o < 1 then (zKL0) else (zKL1)) else (if o < 3 then (zKL2) else (zKL3))) else (if o < 6 then (if o < 5 then (zKL4) else (zKL5)) else (if o < 7 then (zKL6) else (zKL7)))) else (if o < 12 then (if o < 10 then (if o < 9 then (zKL8) else (zKL9)) else (if o < 11 then (zKL10) else (zKL11))) else (if o < 14 then (if o < 13 then (zKL12) else (zKL13)) else (if o < 15 then (zKL14) else (zKL15))))) else (if o < 24 then (if o < 20 then (if o < 18 then (if o < 17 then (zKL16) else (zKL17)) else (if o < 19 then (zKL18) else (zKL19))) else (if o < 22 then (if o < 21 then (zKL20) else (zKL21)) else (if o < 23 then (zKL22) else (zKL23)))) else (if o < 28 then (if o < 26 then (if o < 25 then (zKL24) else (zKL25)) else (if o < 27 then (zKL26) else (zKL27))) else (if o < 30 then (if o < 29 then (zKL28) else (zKL29)) else (if o < 31 then (zKL30) else (zKL31)))))
def zSL (o : Nat) : List (Nat × Nat × Nat × Nat) := if o < 16 then (if o < 8 then (if o < 4 then (if o < 2 then (if o < 1 then (zSL0) else (zSL1)) else (if o < 3 then (zSL2) else (zSL3))) else (if o < 6 then (if o < 5 then (zSL4) else (zSL5)) else (if o < 7 then (zSL6) else (zSL7)))) else (if o < 12 then (if o < 10 then (if o < 9 then (zSL8) else (zSL9)) else (if o < 11 then (zSL10) else (zSL11))) else (if o < 14 then (if o < 13 then (zSL12) else (zSL13)) else (if o < 15 then (zSL14) else (zSL15))))) else (if o < 24 then (if o < 20 then (if o < 18 then (if o < 17 then (zSL16) else (zSL17)) else (if o < 19 then (zSL18) else (zSL19))) else (if o < 22 then (if o < 21 then (zSL20) else (zSL21)) else (if o < 23 then (zSL22) else (zSL23)))) else (if o < 28 then (if o < 26 then (if o < 25 then (zSL24) else (zSL25)) else (if o < 27 then (zSL26) else (zSL27))) else (if o < 30 then (if o < 29 then (zSL28) else (zSL29)) else (if o < 31 then (zSL30) else (zSL31)))))
theorem zFL_ok (o : Nat) (ho : o < 32) : ∀ q ∈ zFL o, zFF o q := by
  match o, ho with
  | 0, _ => exact zFL0_ok
  | 1, _ => exact zFL1_ok
  | 2, _ => exact zFL2_ok
  | 3, _ => exact zFL3_ok
  | 4, _ => exact zFL4_ok
  | 5, _ => exact zFL5_ok
  | 6, _ => exact zFL6_ok
  | 7, _ => exact zFL7_ok
  | 8, _ => exact zFL8_ok
  | 9, _ => exact zFL9_ok
  | 10, _ => exact zFL10_ok
  | 11, _ => exact zFL11_ok
  | 12, _ => exact zFL12_ok
  | 13, _ => exact zFL13_ok
  | 14, _ => exact zFL14_ok
  | 15, _ => exact zFL15_ok
  | 16, _ => exact zFL16_ok
  | 17, _ => exact zFL17_ok
  | 18, _ => exact zFL18_ok
  | 19, _ => exact zFL19_ok
  | 20, _ => exact zFL20_ok
  | 21, _ => exact zFL21_ok
  | 22, _ => exact zFL22_ok
  | 23, _ => exact zFL23_ok
  | 24, _ => exact zFL24_ok
  | 25, _ => exact zFL25_ok
  | 26, _ => exact zFL26_ok
  | 27, _ => exact zFL27_ok
  | 28, _ => exact zFL28_ok
  | 29, _ => exact zFL29_ok
  | 30, _ => exact zFL30_ok
  | 31, _ => exact zFL31_ok
  | n + 32, h => exact absurd h (by omega)
theorem zCL_ok (o : Nat) (ho : o < 32) : ∀ q ∈ zCL o, zCF o q := by
  match o, ho with
  | 0, _ => exact zCL0_ok
  | 1, _ => exact zCL1_ok
  | 2, _ => exact zCL2_ok
  | 3, _ => exact zCL3_ok
  | 4, _ => exact zCL4_ok
  | 5, _ => exact zCL5_ok
  | 6, _ => exact zCL6_ok
  | 7, _ => exact zCL7_ok
  | 8, _ => exact zCL8_ok
  | 9, _ => exact zCL9_ok
  | 10, _ => exact zCL10_ok
  | 11, _ => exact zCL11_ok
  | 12, _ => exact zCL12_ok
  | 13, _ => exact zCL13_ok
  | 14, _ => exact zCL14_ok
  | 15, _ => exact zCL15_ok
  | 16, _ => exact zCL16_ok
  | 17, _ => exact zCL17_ok
  | 18, _ => exact zCL18_ok
  | 19, _ => exact zCL19_ok
  | 20, _ => exact zCL20_ok
  | 21, _ => exact zCL21_ok
  | 22, _ => exact zCL22_ok
  | 23, _ => exact zCL23_ok
  | 24, _ => exact zCL24_ok
  | 25, _ => exact zCL25_ok
  | 26, _ => exact zCL26_ok
  | 27, _ => exact zCL27_ok
  | 28, _ => exact zCL28_ok
  | 29, _ => exact zCL29_ok
  | 30, _ => exact zCL30_ok
  | 31, _ => exact zCL31_ok
  | n + 32, h => exact absurd h (by omega)
theorem zKL_ok (o : Nat) (ho : o < 32) : ∀ q ∈ zKL o, zKF o q := by
  match o, ho with
  | 0, _ => exact zKL0_ok
  | 1, _ => exact zKL1_ok
  | 2, _ => exact zKL2_ok
  | 3, _ => exact zKL3_ok
  | 4, _ => exact zKL4_ok
  | 5, _ => exact zKL5_ok
  | 6, _ => exact zKL6_ok
  | 7, _ => exact zKL7_ok
  | 8, _ => exact zKL8_ok
  | 9, _ => exact zKL9_ok
  | 10, _ => exact zKL10_ok
  | 11, _ => exact zKL11_ok
  | 12, _ => exact zKL12_ok
  | 13, _ => exact zKL13_ok
  | 14, _ => exact zKL14_ok
  | 15, _ => exact zKL15_ok
  | 16, _ => exact zKL16_ok
  | 17, _ => exact zKL17_ok
  | 18, _ => exact zKL18_ok
  | 19, _ => exact zKL19_ok
  | 20, _ => exact zKL20_ok
  | 21, _ => exact zKL21_ok
  | 22, _ => exact zKL22_ok
  | 23, _ => exact zKL23_ok
  | 24, _ => exact zKL24_ok
  | 25, _ => exact zKL25_ok
  | 26, _ => exact zKL26_ok
  | 27, _ => exact zKL27_ok
  | 28, _ => exact zKL28_ok
  | 29, _ => exact zKL29_ok
  | 30, _ => exact zKL30_ok
  | 31, _ => exact zKL31_ok
  | n + 32, h => exact absurd h (by omega)
theorem zGL_ok (o : Nat) (ho : o < 32) : ∀ q ∈ zGL o, zGF o q := by
  match o, ho with
  | 0, _ => exact zGL0_ok
  | 1, _ => exact zGL1_ok
  | 2, _ => exact zGL2_ok
  | 3, _ => exact zGL3_ok
  | 4, _ => exact zGL4_ok
  | 5, _ => exact zGL5_ok
  | 6, _ => exact zGL6_ok
  | 7, _ => exact zGL7_ok
  | 8, _ => exact zGL8_ok
  | 9, _ => exact zGL9_ok
  | 10, _ => exact zGL10_ok
  | 11, _ => exact zGL11_ok
  | 12, _ => exact zGL12_ok
  | 13, _ => exact zGL13_ok
  | 14, _ => exact zGL14_ok
  | 15, _ => exact zGL15_ok
  | 16, _ => exact zGL16_ok
  | 17, _ => exact zGL17_ok
  | 18, _ => exact zGL18_ok
  | 19, _ => exact zGL19_ok
  | 20, _ => exact zGL20_ok
  | 21, _ => exact zGL21_ok
  | 22, _ => exact zGL22_ok
  | 23, _ => exact zGL23_ok
  | 24, _ => exact zGL24_ok
  | 25, _ => exact zGL25_ok
  | 26, _ => exact zGL26_ok
  | 27, _ => exact zGL27_ok
  | 28, _ => exact zGL28_ok
  | 29, _ => exact zGL29_ok
  | 30, _ => exact zGL30_ok
  | 31, _ => exact zGL31_ok
  | n + 32, h => exact absurd h (by omega)
theorem zSL_ok (o : Nat) (ho : o < 32) : ∀ q ∈ zSL o, zSF o q := by
  match o, ho with
  | 0, _ => exact zSL0_ok
  | 1, _ => exact zSL1_ok
  | 2, _ => exact zSL2_ok
  | 3, _ => exact zSL3_ok
  | 4, _ => exact zSL4_ok
  | 5, _ => exact zSL5_ok
  | 6, _ => exact zSL6_ok
  | 7, _ => exact zSL7_ok
  | 8, _ => exact zSL8_ok
  | 9, _ => exact zSL9_ok
  | 10, _ => exact zSL10_ok
  | 11, _ => exact zSL11_ok
  | 12, _ => exact zSL12_ok
  | 13, _ => exact zSL13_ok
  | 14, _ => exact zSL14_ok
  | 15, _ => exact zSL15_ok
  | 16, _ => exact zSL16_ok
  | 17, _ => exact zSL17_ok
  | 18, _ => exact zSL18_ok
  | 19, _ => exact zSL19_ok
  | 20, _ => exact zSL20_ok
  | 21, _ => exact zSL21_ok
  | 22, _ => exact zSL22_ok
  | 23, _ => exact zSL23_ok
  | 24, _ => exact zSL24_ok
  | 25, _ => exact zSL25_ok
  | 26, _ => exact zSL26_ok
  | 27, _ => exact zSL27_ok
  | 28, _ => exact zSL28_ok
  | 29, _ => exact zSL29_ok
  | 30, _ => exact zSL30_ok
  | 31, _ => exact zSL31_ok
  | n + 32, h => exact absurd h (by omega)
def zspl : List (Nat × Nat) := [(0, 20), (0, 32), (8, 1), (11, 1), (14, 1), (19, 10), (30, 63), (32, 1), (53, 1), (54, 11), (56, 1), (87, 1), (115, 1), (136, 6), (141, 22), (144, 60), (158, 1), (163, 1), (166, 61), (170, 18), (180, 6), (191, 13), (198, 42), (210, 8), (213, 1), (229, 34), (244, 145), (244, 299), (261, 16), (261, 321), (272, 4), (293, 16), (293, 239), (294, 4), (371, 179), (372, 4), (381, 4), (383, 4), (403, 2), (431, 2), (444, 33)]
theorem zsp0_20 : ∀ e, zlk (ztab 0) 20 = some e → decode (zcd 0) 20 = .ok (e.2.1, e.2.2.1) := by
  intro e h
  have h2 : zlk (ztab 0) 20 = some (zc 20 (.multianewarray 16 2) 4 110) := rfl
  cases h2.symm.trans h
  show decode prog_1_method_2_code 20 = .ok (.multianewarray 16 2, 4)
  decide +kernel
theorem zsp0_32 : ∀ e, zlk (ztab 0) 32 = some e → decode (zcd 0) 32 = .ok (e.2.1, e.2.2.1) := by
  intro e h
  have h2 : zlk (ztab 0) 32 = some (zc 32 (.multianewarray 16 2) 4 110) := rfl
  cases h2.symm.trans h
  show decode prog_1_method_2_code 32 = .ok (.multianewarray 16 2, 4)
  decide +kernel
theorem zsp8_1 : ∀ e, zlk (ztab 8) 1 = some e → decode (zcd 8) 1 = .ok (e.2.1, e.2.2.1) := by
  intro e h
  have h2 : zlk (ztab 8) 1 = some (ze 1 (.tableswitch 36 0 2 #[27, 30, 33]) 27 37 [(0, 28), (1, 31), (2, 34)]) := rfl
  cases h2.symm.trans h
  show decode prog_1_method_8_code 1 = .ok (.tableswitch 36 0 2 #[27, 30, 33], 27)
  decide +kernel
theorem zsp11_1 : ∀ e, zlk (ztab 11) 1 = some e → decode (zcd 11) 1 = .ok (e.2.1, e.2.2.1) := by
  intro e h
  have h2 : zlk (ztab 11) 1 = some (ze 1 (.tableswitch 50 0 4 #[35, 38, 41, 44, 47]) 35 51 [(0, 36), (1, 39), (2, 42), (3, 45), (4, 48)]) := rfl
  cases h2.symm.trans h
  show decode prog_1_method_10_code 1 = .ok (.tableswitch 50 0 4 #[35, 38, 41, 44, 47], 35)
  decide +kernel
theorem zsp14_1 : ∀ e, zlk (ztab 14) 1 = some e → decode (zcd 14) 1 = .ok (e.2.1, e.2.2.1) := by
  intro e h
  have h2 : zlk (ztab 14) 1 = some (ze 1 (.tableswitch 39 0 2 #[27, 31, 35]) 27 40 [(0, 28), (1, 32), (2, 36)]) := rfl
  cases h2.symm.trans h
  show decode prog_1_method_9_code 1 = .ok (.tableswitch 39 0 2 #[27, 31, 35], 27)
  decide +kernel
theorem zsp19_10 : ∀ e, zlk (ztab 19) 10 = some e → decode (zcd 19) 10 = .ok (e.2.1, e.2.2.1) := by
  intro e h
  have h2 : zlk (ztab 19) 10 = some (ze 10 (.tableswitch 224 0 14 #[74, 85, 96, 107, 118, 129, 140, 151, 162, 173, 184, 192, 200, 208, 216]) 74 234 [(0, 84), (1, 95), (2, 106), (3, 117), (4, 128), (5, 139), (6, 150), (7, 161), (8, 172), (9, 183), (10, 194), (11, 202), (12, 210), (13, 218), (14, 226)]) := rfl
  cases h2.symm.trans h
  show decode prog_1_method_24_code 10 = .ok (.tableswitch 224 0 14 #[74, 85, 96, 107, 118, 129, 140, 151, 162, 173, 184, 192, 200, 208, 216], 74)
  decide +kernel
theorem zsp30_63 : ∀ e, zlk (ztab 30) 63 = some e → decode (zcd 30) 63 = .ok (e.2.1, e.2.2.1) := by
  intro e h
  have h2 : zlk (ztab 30) 63 = some (ze 63 (.tableswitch 92 1 6 #[37, 48, 66, 92, 92, 84]) 37 155 [(1, 100), (2, 111), (3, 129), (6, 147)]) := rfl
  cases h2.symm.trans h
  show decode prog_1_method_31_code 63 = .ok (.tableswitch 92 1 6 #[37, 48, 66, 92, 92, 84], 37)
  decide +kernel
theorem zsp32_1 : ∀ e, zlk (ztab 32) 1 = some e → decode (zcd 32) 1 = .ok (e.2.1, e.2.2.1) := by
  intro e h
  have h2 : zlk (ztab 32) 1 = some (ze 1 (.tableswitch 59 0 7 #[47, 50, 53, 59, 55, 53, 59, 55]) 47 60 [(0, 48), (1, 51), (2, 54), (4, 56), (5, 54), (7, 56)]) := rfl
  cases h2.symm.trans h
  show decode prog_1_method_3_code 1 = .ok (.tableswitch 59 0 7 #[47, 50, 53, 59, 55, 53, 59, 55], 47)
  decide +kernel
theorem zsp53_1 : ∀ e, zlk (ztab 53) 1 = some e → decode (zcd 53) 1 = .ok (e.2.1, e.2.2.1) := by
  intro e h
  have h2 : zlk (ztab 53) 1 = some (ze 1 (.tableswitch 65 0 3 #[31, 37, 47, 55]) 31 66 [(0, 32), (1, 38), (2, 48), (3, 56)]) := rfl
  cases h2.symm.trans h
  show decode prog_5_method_9_code 1 = .ok (.tableswitch 65 0 3 #[31, 37, 47, 55], 31)
  decide +kernel
theorem zsp54_11 : ∀ e, zlk (ztab 54) 11 = some e → decode (zcd 54) 11 = .ok (e.2.1, e.2.2.1) := by
  intro e h
  have h2 : zlk (ztab 54) 11 = some (ze 11 (.tableswitch 67 0 3 #[29, 31, 43, 55]) 29 78 [(0, 40), (1, 42), (2, 54), (3, 66)]) := rfl
  cases h2.symm.trans h
  show decode prog_5_method_10_code 11 = .ok (.tableswitch 67 0 3 #[29, 31, 43, 55], 29)
  decide +kernel
theorem zsp56_1 : ∀ e, zlk (ztab 56) 1 = some e → decode (zcd 56) 1 = .ok (e.2.1, e.2.2.1) := by
  intro e h
  have h2 : zlk (ztab 56) 1 = some (ze 1 (.lookupswitch 49 #[(166, 38), (168, 27)]) 27 50 [(166, 39), (168, 28)]) := rfl
  cases h2.symm.trans h
  show decode prog_5_method_16_code 1 = .ok (.lookupswitch 49 #[(166, 38), (168, 27)], 27)
  decide +kernel
theorem zsp87_1 : ∀ e, zlk (ztab 87) 1 = some e → decode (zcd 87) 1 = .ok (e.2.1, e.2.2.1) := by
  intro e h
  have h2 : zlk (ztab 87) 1 = some (ze 1 (.tableswitch 671 105 175 #[299, 671, 314, 362, 671, 671, 671, 671, 671, 671, 391, 671, 671, 417, 671, 671, 671, 671, 671, 432, 671, 671, 671, 671, 671, 480, 671, 671, 671, 671, 507, 507, 671, 671, 671, 671, 671, 671, 671, 671, 671, 523, 567, 671, 671, 671, 671, 671, 671, 567, 567, 671, 671, 671, 671, 671, 671, 671, 671, 671, 671, 583, 671, 583, 583, 583, 671, 647, 647, 663, 663]) 299 672 [(105, 300), (107, 315), (108, 363), (115, 392), (118, 418), (124, 433), (130, 481), (135, 508), (136, 508), (146, 524), (147, 568), (154, 568), (155, 568), (166, 584), (168, 584), (169, 584), (170, 584), (172, 648), (173, 648), (174, 664), (175, 664)]) := rfl
  cases h2.symm.trans h
  show decode prog_11_method_11_code 1 = .ok (.tableswitch 671 105 175 #[299, 671, 314, 362, 671, 671, 671, 671, 671, 671, 391, 671, 671, 417, 671, 671, 671, 671, 671, 432, 671, 671, 671, 671, 671, 480, 671, 671, 671, 671, 507, 507, 671, 671, 671, 671, 671, 671, 671, 671, 671, 523, 567, 671, 671, 671, 671, 671, 671, 567, 567, 671, 671, 671, 671, 671, 671, 671, 671, 671, 671, 583, 671, 583, 583, 583, 671, 647, 647, 663, 663], 299)
  decide +kernel
theorem zsp115_1 : ∀ e, zlk (ztab 115) 1 = some e → decode (zcd 115) 1 = .ok (e.2.1, e.2.2.1) := by
  intro e h
  have h2 : zlk (ztab 115) 1 = some (ze 1 (.tableswitch 65 0 3 #[31, 37, 47, 55]) 31 66 [(0, 32), (1, 38), (2, 48), (3, 56)]) := rfl
  cases h2.symm.trans h
  show decode prog_23_method_11_code 1 = .ok (.tableswitch 65 0 3 #[31, 37, 47, 55], 31)
  decide +kernel
theorem zsp136_6 : ∀ e, zlk (ztab 136) 6 = some e → decode (zcd 136) 6 = .ok (e.2.1, e.2.2.1) := by
  intro e h
  have h2 : zlk (ztab 136) 6 = some (ze 6 (.tableswitch 150 0 18 #[90, 100, 110, 120, 130, 130, 150, 150, 150, 150, 150, 150, 150, 150, 150, 150, 150, 150, 140]) 90 156 [(0, 96), (1, 106), (2, 116), (3, 126), (4, 136), (5, 136), (18, 146)]) := rfl
  cases h2.symm.trans h
  show decode prog_23_method_40_code 6 = .ok (.tableswitch 150 0 18 #[90, 100, 110, 120, 130, 130, 150, 150, 150, 150, 150, 150, 150, 150, 150, 150, 150, 150, 140], 90)
  decide +kernel
theorem zsp141_22 : ∀ e, zlk (ztab 141) 22 = some e → decode (zcd 141) 22 = .ok (e.2.1, e.2.2.1) := by
  intro e h
  have h2 : zlk (ztab 141) 22 = some (ze 22 (.tableswitch 207 19 24 #[38, 57, 85, 108, 138, 160]) 38 229 [(19, 60), (20, 79), (21, 107), (22, 130), (23, 160), (24, 182)]) := rfl
  cases h2.symm.trans h
  show decode prog_23_method_45_code 22 = .ok (.tableswitch 207 19 24 #[38, 57, 85, 108, 138, 160], 38)
  decide +kernel
theorem zsp144_60 : ∀ e, zlk (ztab 144) 60 = some e → decode (zcd 144) 60 = .ok (e.2.1, e.2.2.1) := by
  intro e h
  have h2 : zlk (ztab 144) 60 = some (ze 60 (.tableswitch 576 11 15 #[36, 127, 251, 349, 461]) 36 636 [(11, 96), (12, 187), (13, 311), (14, 409), (15, 521)]) := rfl
  cases h2.symm.trans h
  show decode prog_23_method_43_code 60 = .ok (.tableswitch 576 11 15 #[36, 127, 251, 349, 461], 36)
  decide +kernel
theorem zsp158_1 : ∀ e, zlk (ztab 158) 1 = some e → decode (zcd 158) 1 = .ok (e.2.1, e.2.2.1) := by
  intro e h
  have h2 : zlk (ztab 158) 1 = some (ze 1 (.tableswitch 133 97 118 #[103, 133, 109, 112, 133, 133, 133, 133, 133, 118, 133, 127, 133, 121, 133, 133, 133, 133, 106, 124, 130, 115]) 103 134 [(97, 104), (99, 110), (100, 113), (106, 119), (108, 128), (110, 122), (115, 107), (116, 125), (117, 131), (118, 116)]) := rfl
  cases h2.symm.trans h
  show decode prog_23_method_56_code 1 = .ok (.tableswitch 133 97 118 #[103, 133, 109, 112, 133, 133, 133, 133, 133, 118, 133, 127, 133, 121, 133, 133, 133, 133, 106, 124, 130, 115], 103)
  decide +kernel
theorem zsp163_1 : ∀ e, zlk (ztab 163) 1 = some e → decode (zcd 163) 1 = .ok (e.2.1, e.2.2.1) := by
  intro e h
  have h2 : zlk (ztab 163) 1 = some (ze 1 (.tableswitch 231 0 17 #[87, 95, 103, 111, 119, 127, 135, 143, 151, 159, 167, 175, 183, 191, 199, 207, 215, 223]) 87 232 [(0, 88), (1, 96), (2, 104), (3, 112), (4, 120), (5, 128), (6, 136), (7, 144), (8, 152), (9, 160), (10, 168), (11, 176), (12, 184), (13, 192), (14, 200), (15, 208), (16, 216), (17, 224)]) := rfl
  cases h2.symm.trans h
  show decode prog_23_method_90_code 1 = .ok (.tableswitch 231 0 17 #[87, 95, 103, 111, 119, 127, 135, 143, 151, 159, 167, 175, 183, 191, 199, 207, 215, 223], 87)
  decide +kernel
theorem zsp166_61 : ∀ e, zlk (ztab 166) 61 = some e → decode (zcd 166) 61 = .ok (e.2.1, e.2.2.1) := by
  intro e h
  have h2 : zlk (ztab 166) 61 = some (ze 61 (.tableswitch 287 0 18 #[91, 91, 97, 104, 137, 137, 287, 287, 287, 287, 287, 287, 287, 287, 287, 287, 287, 162, 216]) 91 348 [(0, 152), (1, 152), (2, 158), (3, 165), (4, 198), (5, 198), (17, 223), (18, 277)]) := rfl
  cases h2.symm.trans h
  show decode prog_23_method_98_code 61 = .ok (.tableswitch 287 0 18 #[91, 91, 97, 104, 137, 137, 287, 287, 287, 287, 287, 287, 287, 287, 287, 287, 287, 162, 216], 91)
  decide +kernel
theorem zsp170_18 : ∀ e, zlk (ztab 170) 18 = some e → decode (zcd 170) 18 = .ok (e.2.1, e.2.2.1) := by
  intro e h
  have h2 : zlk (ztab 170) 18 = some (ze 18 (.tableswitch 124 10 16 #[42, 124, 124, 124, 76, 76, 106]) 42 142 [(10, 60), (14, 94), (15, 94), (16, 124)]) := rfl
  cases h2.symm.trans h
  show decode prog_23_method_99_code 18 = .ok (.tableswitch 124 10 16 #[42, 124, 124, 124, 76, 76, 106], 42)
  decide +kernel
theorem zsp180_6 : ∀ e, zlk (ztab 180) 6 = some e → decode (zcd 180) 6 = .ok (e.2.1, e.2.2.1) := by
  intro e h
  have h2 : zlk (ztab 180) 6 = some (ze 6 (.tableswitch 118 40 43 #[30, 52, 82, 112]) 30 124 [(40, 36), (41, 58), (42, 88), (43, 118)]) := rfl
  cases h2.symm.trans h
  show decode prog_23_method_75_code 6 = .ok (.tableswitch 118 40 43 #[30, 52, 82, 112], 30)
  decide +kernel
theorem zsp191_13 : ∀ e, zlk (ztab 191) 13 = some e → decode (zcd 191) 13 = .ok (e.2.1, e.2.2.1) := by
  intro e h
  have h2 : zlk (ztab 191) 13 = some (ze 13 (.tableswitch 398 0 43 #[191, 193, 195, 195, 207, 219, 231, 231, 231, 231, 243, 288, 288, 315, 315, 315, 315, 342, 342, 398, 398, 398, 398, 398, 398, 398, 398, 398, 398, 398, 195, 398, 398, 398, 398, 398, 398, 398, 398, 398, 195, 288, 315, 342]) 191 411 [(0, 204), (1, 206), (2, 208), (3, 208), (4, 220), (5, 232), (6, 244), (7, 244), (8, 244), (9, 244), (10, 256), (11, 301), (12, 301), (13, 328), (14, 328), (15, 328), (16, 328), (17, 355), (18, 355), (30, 208), (40, 208), (41, 301), (42, 328), (43, 355)]) := rfl
  cases h2.symm.trans h
  show decode prog_23_method_83_code 13 = .ok (.tableswitch 398 0 43 #[191, 193, 195, 195, 207, 219, 231, 231, 231, 231, 243, 288, 288, 315, 315, 315, 315, 342, 342, 398, 398, 398, 398, 398, 398, 398, 398, 398, 398, 398, 195, 398, 398, 398, 398, 398, 398, 398, 398, 398, 195, 288, 315, 342], 191)
  decide +kernel
theorem zsp198_42 : ∀ e, zlk (ztab 198) 42 = some e → decode (zcd 198) 42 = .ok (e.2.1, e.2.2.1) := by
  intro e h
  have h2 : zlk (ztab 198) 42 = some (ze 42 (.tableswitch 130 9 13 #[34, 50, 103, 116, 125]) 34 172 [(9, 76), (10, 92), (11, 145), (12, 158), (13, 167)]) := rfl
  cases h2.symm.trans h
  show decode prog_23_method_104_code 42 = .ok (.tableswitch 130 9 13 #[34, 50, 103, 116, 125], 34)
  decide +kernel
theorem zsp210_8 : ∀ e, zlk (ztab 210) 8 = some e → decode (zcd 210) 8 = .ok (e.2.1, e.2.2.1) := by
  intro e h
  have h2 : zlk (ztab 210) 8 = some (ze 8 (.tableswitch 320 10 15 #[40, 117, 117, 175, 243, 243]) 40 328 [(10, 48), (11, 125), (12, 125), (13, 183), (14, 251), (15, 251)]) := rfl
  cases h2.symm.trans h
  show decode prog_23_method_115_code 8 = .ok (.tableswitch 320 10 15 #[40, 117, 117, 175, 243, 243], 40)
  decide +kernel
theorem zsp213_1 : ∀ e, zlk (ztab 213) 1 = some e → decode (zcd 213) 1 = .ok (e.2.1, e.2.2.1) := by
  intro e h
  have h2 : zlk (ztab 213) 1 = some (ze 1 (.tableswitch 288 0 18 #[91, 91, 131, 131, 239, 239, 288, 288, 288, 288, 288, 288, 288, 288, 288, 288, 288, 288, 281]) 91 289 [(0, 92), (1, 92), (2, 132), (3, 132), (4, 240), (5, 240), (18, 282)]) := rfl
  cases h2.symm.trans h
  show decode prog_23_method_113_code 1 = .ok (.tableswitch 288 0 18 #[91, 91, 131, 131, 239, 239, 288, 288, 288, 288, 288, 288, 288, 288, 288, 288, 288, 288, 281], 91)
  decide +kernel
theorem zsp229_34 : ∀ e, zlk (ztab 229) 34 = some e → decode (zcd 229) 34 = .ok (e.2.1, e.2.2.1) := by
  intro e h
  have h2 : zlk (ztab 229) 34 = some (ze 34 (.tableswitch 765 105 178 #[310, 765, 348, 348, 765, 765, 765, 765, 765, 765, 354, 765, 765, 354, 765, 765, 765, 765, 765, 407, 765, 765, 765, 765, 765, 461, 765, 765, 765, 765, 486, 486, 765, 765, 765, 765, 765, 765, 765, 765, 765, 765, 765, 765, 765, 765, 765, 765, 765, 765, 765, 765, 765, 765, 765, 765, 765, 765, 765, 765, 765, 547, 765, 547, 547, 547, 765, 731, 731, 748, 748, 765, 725, 725]) 310 799 [(105, 344), (107, 382), (108, 382), (115, 388), (118, 388), (124, 441), (130, 495), (135, 520), (136, 520), (166, 581), (168, 581), (169, 581), (170, 581), (172, 765), (173, 765), (174, 782), (175, 782), (177, 759), (178, 759)]) := rfl
  cases h2.symm.trans h
  show decode prog_23_method_140_code 34 = .ok (.tableswitch 765 105 178 #[310, 765, 348, 348, 765, 765, 765, 765, 765, 765, 354, 765, 765, 354, 765, 765, 765, 765, 765, 407, 765, 765, 765, 765, 765, 461, 765, 765, 765, 765, 486, 486, 765, 765, 765, 765, 765, 765, 765, 765, 765, 765, 765, 765, 765, 765, 765, 765, 765, 765, 765, 765, 765, 765, 765, 765, 765, 765, 765, 765, 765, 547, 765, 547, 547, 547, 765, 731, 731, 748, 748, 765, 725, 725], 310)
  decide +kernel
theorem zsp244_145 : ∀ e, zlk (ztab 244) 145 = some e → decode (zcd 244) 145 = .ok (e.2.1, e.2.2.1) := by
  intro e h
  have h2 : zlk (ztab 244) 145 = some (ze 145 (.lookupswitch 152 #[(-874442692, 139), (3555, 123), (3579, 59), (96727, 107), (92734940, 91), (105827604, 75)]) 59 297 [(-874442692, 284), (3555, 268), (3579, 204), (96727, 252), (92734940, 236), (105827604, 220)]) := rfl
  cases h2.symm.trans h
  show decode prog_16_method_24_code 145 = .ok (.lookupswitch 152 #[(-874442692, 139), (3555, 123), (3579, 59), (96727, 107), (92734940, 91), (105827604, 75)], 59)
  decide +kernel
theorem zsp244_299 : ∀ e, zlk (ztab 244) 299 = some e → decode (zcd 244) 299 = .ok (e.2.1, e.2.2.1) := by
  intro e h
  have h2 : zlk (ztab 244) 299 = some (ze 299 (.tableswitch 197 0 5 #[37, 73, 73, 96, 96, 191]) 37 496 [(0, 336), (1, 372), (2, 372), (3, 395), (4, 395), (5, 490)]) := rfl
  cases h2.symm.trans h
  show decode prog_16_method_24_code 299 = .ok (.tableswitch 197 0 5 #[37, 73, 73, 96, 96, 191], 37)
  decide +kernel
theorem zsp261_16 : ∀ e, zlk (ztab 261) 16 = some e → decode (zcd 261) 16 = .ok (e.2.1, e.2.2.1) := by
  intro e h
  have h2 : zlk (ztab 261) 16 = some (ze 16 (.lookupswitch 303 #[(-874442692, 255), (48, 108), (49, 124), (3579, 140), (111053, 156), (3442468, 188), (3442471, 172), (92734940, 221), (92957702, 289), (92958202, 272), (104256825, 238), (105827604, 204)]) 108 319 [(-874442692, 271), (48, 124), (49, 140), (3579, 156), (111053, 172), (3442468, 204), (3442471, 188), (92734940, 237), (92957702, 305), (92958202, 288), (104256825, 254), (105827604, 220)]) := rfl
  cases h2.symm.trans h
  show decode prog_16_method_13_code 16 = .ok (.lookupswitch 303 #[(-874442692, 255), (48, 108), (49, 124), (3579, 140), (111053, 156), (3442468, 188), (3442471, 172), (92734940, 221), (92957702, 289), (92958202, 272), (104256825, 238), (105827604, 204)], 108)
  decide +kernel
theorem zsp261_321 : ∀ e, zlk (ztab 261) 321 = some e → decode (zcd 261) 321 = .ok (e.2.1, e.2.2.1) := by
  intro e h
  have h2 : zlk (ztab 261) 321 = some (ze 321 (.tableswitch 345 0 11 #[63, 63, 112, 112, 171, 171, 209, 209, 247, 270, 295, 319]) 63 666 [(0, 384), (1, 384), (2, 433), (3, 433), (4, 492), (5, 492), (6, 530), (7, 530), (8, 568), (9, 591), (10, 616), (11, 640)]) := rfl
  cases h2.symm.trans h
  show decode prog_16_method_13_code 321 = .ok (.tableswitch 345 0 11 #[63, 63, 112, 112, 171, 171, 209, 209, 247, 270, 295, 319], 63)
  decide +kernel
theorem zsp272_4 : ∀ e, zlk (ztab 272) 4 = some e → decode (zcd 272) 4 = .ok (e.2.1, e.2.2.1) := by
  intro e h
  have h2 : zlk (ztab 272) 4 = some (ze 4 (.tableswitch 79 0 2 #[28, 33, 56]) 28 83 [(0, 32), (1, 37), (2, 60)]) := rfl
  cases h2.symm.trans h
  show decode prog_15_method_6_code 4 = .ok (.tableswitch 79 0 2 #[28, 33, 56], 28)
  decide +kernel
theorem zsp293_16 : ∀ e, zlk (ztab 293) 16 = some e → decode (zcd 293) 16 = .ok (e.2.1, e.2.2.1) := by
  intro e h
  have h2 : zlk (ztab 293) 16 = some (ze 16 (.lookupswitch 185 #[(97, 60), (99, 85), (100, 116), (106, 160), (115, 60), (118, 129)]) 60 201 [(97, 76), (99, 101), (100, 132), (106, 176), (115, 76), (118, 145)]) := rfl
  cases h2.symm.trans h
  show decode prog_21_method_3_code 16 = .ok (.lookupswitch 185 #[(97, 60), (99, 85), (100, 116), (106, 160), (115, 60), (118, 129)], 60)
  decide +kernel
theorem zsp293_239 : ∀ e, zlk (ztab 293) 239 = some e → decode (zcd 293) 239 = .ok (e.2.1, e.2.2.1) := by
  intro e h
  have h2 : zlk (ztab 293) 239 = some (ze 239 (.lookupswitch 108 #[(100, 33), (106, 79), (118, 56)]) 33 347 [(100, 272), (106, 318), (118, 295)]) := rfl
  cases h2.symm.trans h
  show decode prog_21_method_3_code 239 = .ok (.lookupswitch 108 #[(100, 33), (106, 79), (118, 56)], 33)
  decide +kernel
theorem zsp294_4 : ∀ e, zlk (ztab 294) 4 = some e → decode (zcd 294) 4 = .ok (e.2.1, e.2.2.1) := by
  intro e h
  have h2 : zlk (ztab 294) 4 = some (ze 4 (.lookupswitch 148 #[(97, 60), (99, 104), (100, 121), (110, 60), (115, 77), (118, 60)]) 60 152 [(97, 64), (99, 108), (100, 125), (110, 64), (115, 81), (118, 64)]) := rfl
  cases h2.symm.trans h
  show decode prog_21_method_2_code 4 = .ok (.lookupswitch 148 #[(97, 60), (99, 104), (100, 121), (110, 60), (115, 77), (118, 60)], 60)
  decide +kernel
theorem zsp371_179 : ∀ e, zlk (ztab 371) 179 = some e → decode (zcd 371) 179 = .ok (e.2.1, e.2.2.1) := by
  intro e h
  have h2 : zlk (ztab 371) 179 = some (ze 179 (.tableswitch 472 0 4 #[33, 126, 300, 356, 402]) 33 651 [(0, 212), (1, 305), (2, 479), (3, 535), (4, 581)]) := rfl
  cases h2.symm.trans h
  show decode prog_14_method_3_code 179 = .ok (.tableswitch 472 0 4 #[33, 126, 300, 356, 402], 33)
  decide +kernel
theorem zsp372_4 : ∀ e, zlk (ztab 372) 4 = some e → decode (zcd 372) 4 = .ok (e.2.1, e.2.2.1) := by
  intro e h
  have h2 : zlk (ztab 372) 4 = some (ze 4 (.tableswitch 194 0 4 #[36, 64, 92, 140, 167]) 36 198 [(0, 40), (1, 68), (2, 96), (3, 144), (4, 171)]) := rfl
  cases h2.symm.trans h
  show decode prog_14_method_2_code 4 = .ok (.tableswitch 194 0 4 #[36, 64, 92, 140, 167], 36)
  decide +kernel
theorem zsp381_4 : ∀ e, zlk (ztab 381) 4 = some e → decode (zcd 381) 4 = .ok (e.2.1, e.2.2.1) := by
  intro e h
  have h2 : zlk (ztab 381) 4 = some (ze 4 (.lookupswitch 75 #[(0, 36), (3, 36), (5, 41)]) 36 79 [(0, 40), (3, 40), (5, 45)]) := rfl
  cases h2.symm.trans h
  show decode prog_14_method_9_code 4 = .ok (.lookupswitch 75 #[(0, 36), (3, 36), (5, 41)], 36)
  decide +kernel
theorem zsp383_4 : ∀ e, zlk (ztab 383) 4 = some e → decode (zcd 383) 4 = .ok (e.2.1, e.2.2.1) := by
  intro e h
  have h2 : zlk (ztab 383) 4 = some (ze 4 (.tableswitch 140 0 5 #[40, 40, 61, 140, 140, 106]) 40 144 [(0, 44), (1, 44), (2, 65), (5, 110)]) := rfl
  cases h2.symm.trans h
  show decode prog_14_method_8_code 4 = .ok (.tableswitch 140 0 5 #[40, 40, 61, 140, 140, 106], 40)
  decide +kernel
theorem zsp403_2 : ∀ e, zlk (ztab 403) 2 = some e → decode (zcd 403) 2 = .ok (e.2.1, e.2.2.1) := by
  intro e h
  have h2 : zlk (ztab 403) 2 = some (ze 2 (.lookupswitch 40 #[(0, 26), (1, 30)]) 26 42 [(0, 28), (1, 32)]) := rfl
  cases h2.symm.trans h
  show decode prog_33_method_21_code 2 = .ok (.lookupswitch 40 #[(0, 26), (1, 30)], 26)
  decide +kernel
theorem zsp431_2 : ∀ e, zlk (ztab 431) 2 = some e → decode (zcd 431) 2 = .ok (e.2.1, e.2.2.1) := by
  intro e h
  have h2 : zlk (ztab 431) 2 = some (ze 2 (.tableswitch 127 4 10 #[42, 55, 127, 127, 88, 101, 114]) 42 129 [(4, 44), (5, 57), (8, 90), (9, 103), (10, 116)]) := rfl
  cases h2.symm.trans h
  show decode prog_40_method_4_code 2 = .ok (.tableswitch 127 4 10 #[42, 55, 127, 127, 88, 101, 114], 42)
  decide +kernel
theorem zsp444_33 : ∀ e, zlk (ztab 444) 33 = some e → decode (zcd 444) 33 = .ok (e.2.1, e.2.2.1) := by
  intro e h
  have h2 : zlk (ztab 444) 33 = some (ze 33 (.tableswitch 758 0 22 #[107, 170, 193, 206, 219, 242, 255, 278, 301, 324, 373, 422, 455, 478, 491, 524, 557, 590, 623, 666, 679, 692, 715]) 107 791 [(0, 140), (1, 203), (2, 226), (3, 239), (4, 252), (5, 275), (6, 288), (7, 311), (8, 334), (9, 357), (10, 406), (11, 455), (12, 488), (13, 511), (14, 524), (15, 557), (16, 590), (17, 623), (18, 656), (19, 699), (20, 712), (21, 725), (22, 748)]) := rfl
  cases h2.symm.trans h
  show decode code 33 = .ok (.tableswitch 758 0 22 #[107, 170, 193, 206, 219, 242, 255, 278, 301, 324, 373, 422, 455, 478, 491, 524, 557, 590, 623, 666, 679, 692, 715], 107)
  decide +kernel
theorem zspl_ok : ∀ q ∈ zspl, ∀ e, zlk (ztab q.1) q.2 = some e → decode (zcd q.1) q.2 = .ok (e.2.1, e.2.2.1) := List.forall_mem_cons.mpr ⟨zsp0_20, List.forall_mem_cons.mpr ⟨zsp0_32, List.forall_mem_cons.mpr ⟨zsp8_1, List.forall_mem_cons.mpr ⟨zsp11_1, List.forall_mem_cons.mpr ⟨zsp14_1, List.forall_mem_cons.mpr ⟨zsp19_10, List.forall_mem_cons.mpr ⟨zsp30_63, List.forall_mem_cons.mpr ⟨zsp32_1, List.forall_mem_cons.mpr ⟨zsp53_1, List.forall_mem_cons.mpr ⟨zsp54_11, List.forall_mem_cons.mpr ⟨zsp56_1, List.forall_mem_cons.mpr ⟨zsp87_1, List.forall_mem_cons.mpr ⟨zsp115_1, List.forall_mem_cons.mpr ⟨zsp136_6, List.forall_mem_cons.mpr ⟨zsp141_22, List.forall_mem_cons.mpr ⟨zsp144_60, List.forall_mem_cons.mpr ⟨zsp158_1, List.forall_mem_cons.mpr ⟨zsp163_1, List.forall_mem_cons.mpr ⟨zsp166_61, List.forall_mem_cons.mpr ⟨zsp170_18, List.forall_mem_cons.mpr ⟨zsp180_6, List.forall_mem_cons.mpr ⟨zsp191_13, List.forall_mem_cons.mpr ⟨zsp198_42, List.forall_mem_cons.mpr ⟨zsp210_8, List.forall_mem_cons.mpr ⟨zsp213_1, List.forall_mem_cons.mpr ⟨zsp229_34, List.forall_mem_cons.mpr ⟨zsp244_145, List.forall_mem_cons.mpr ⟨zsp244_299, List.forall_mem_cons.mpr ⟨zsp261_16, List.forall_mem_cons.mpr ⟨zsp261_321, List.forall_mem_cons.mpr ⟨zsp272_4, List.forall_mem_cons.mpr ⟨zsp293_16, List.forall_mem_cons.mpr ⟨zsp293_239, List.forall_mem_cons.mpr ⟨zsp294_4, List.forall_mem_cons.mpr ⟨zsp371_179, List.forall_mem_cons.mpr ⟨zsp372_4, List.forall_mem_cons.mpr ⟨zsp381_4, List.forall_mem_cons.mpr ⟨zsp383_4, List.forall_mem_cons.mpr ⟨zsp403_2, List.forall_mem_cons.mpr ⟨zsp431_2, List.forall_mem_cons.mpr ⟨zsp444_33, fun _ h => absurd h List.not_mem_nil⟩⟩⟩⟩⟩⟩⟩⟩⟩⟩⟩⟩⟩⟩⟩⟩⟩⟩⟩⟩⟩⟩⟩⟩⟩⟩⟩⟩⟩⟩⟩⟩⟩⟩⟩⟩⟩⟩⟩⟩⟩
