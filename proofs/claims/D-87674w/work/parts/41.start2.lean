/-! ===== the start: what the machine has ===== -/
def zSR : List (Nat × Nat × Nat) := [(0, 46, 0), (1, 84, 1), (1, 86, 2), (1, 100, 3), (1, 102, 4), (7, 99, 5), (7, 107, 6), (7, 109, 7), (7, 231, 8), (7, 233, 9), (7, 113, 10), (0, 108, 11), (0, 110, 12), (0, 112, 13), (0, 114, 14), (7, 91, 15), (7, 97, 16), (7, 101, 17), (7, 103, 18), (7, 105, 19), (7, 111, 20), (7, 115, 21), (7, 117, 22), (0, 116, 23), (0, 118, 24), (0, 120, 25), (0, 122, 26), (0, 124, 27), (0, 126, 28), (7, 189, 29), (19, 88, 30), (13, 55, 31), (13, 57, 32), (14, 47, 33), (14, 49, 34), (17, 54, 35), (18, 78, 36), (6, 413, 15), (6, 419, 16), (6, 421, 18), (6, 423, 19), (6, 425, 6), (6, 427, 7), (6, 429, 11), (6, 431, 12), (6, 433, 13), (6, 435, 14), (6, 437, 21), (6, 439, 23), (6, 441, 24), (6, 443, 25), (6, 445, 26), (6, 447, 27), (6, 449, 28), (6, 451, 10), (6, 453, 20), (6, 455, 5), (6, 457, 17), (6, 459, 22), (6, 626, 37), (6, 555, 8), (6, 557, 9)]
theorem zSR_ok {args : Array Value} {s : State} {adK : Nat → Nat} (hts : ∀ w ∈ lw_tbl, w.before args s = true) (hn : (Cond.and given_1 narrow_1).before args s = true) (hev : ∀ k, k < 38 → (ztm k).eval args s none [] s = some (.ref (adK k))) : ∀ q ∈ zSR, ∃ tx, vk_R (zcn q.1) q.2.1 tx (adK q.2.2) s := List.forall_mem_cons.mpr ⟨⟨_, vk_R.of (hts _ q301) (hev 0 (by decide))⟩, List.forall_mem_cons.mpr ⟨⟨_, vk_R.of (hts _ q408) (hev 1 (by decide))⟩, List.forall_mem_cons.mpr ⟨⟨_, vk_R.of (hts _ q409) (hev 2 (by decide))⟩, List.forall_mem_cons.mpr ⟨⟨_, vk_R.of (hts _ q467) (hev 3 (by decide))⟩, List.forall_mem_cons.mpr ⟨⟨_, vk_R.of (hts _ q468) (hev 4 (by decide))⟩, List.forall_mem_cons.mpr ⟨⟨_, vk_R.of (hts _ q848) (hev 5 (by decide))⟩, List.forall_mem_cons.mpr ⟨⟨_, vk_R.of (hts _ q857) (hev 6 (by decide))⟩, List.forall_mem_cons.mpr ⟨⟨_, vk_R.of (hts _ q858) (hev 7 (by decide))⟩, List.forall_mem_cons.mpr ⟨⟨_, vk_R.of (hts _ q859) (hev 8 (by decide))⟩, List.forall_mem_cons.mpr ⟨⟨_, vk_R.of (hts _ q860) (hev 9 (by decide))⟩, List.forall_mem_cons.mpr ⟨⟨_, vk_R.of (hts _ q861) (hev 10 (by decide))⟩, List.forall_mem_cons.mpr ⟨⟨_, vk_R.of (hts _ q865) (hev 11 (by decide))⟩, List.forall_mem_cons.mpr ⟨⟨_, vk_R.of (hts _ q866) (hev 12 (by decide))⟩, List.forall_mem_cons.mpr ⟨⟨_, vk_R.of (hts _ q867) (hev 13 (by decide))⟩, List.forall_mem_cons.mpr ⟨⟨_, vk_R.of (hts _ q868) (hev 14 (by decide))⟩, List.forall_mem_cons.mpr ⟨⟨_, vk_R.of (hts _ q1423) (hev 15 (by decide))⟩, List.forall_mem_cons.mpr ⟨⟨_, vk_R.of (hts _ q1424) (hev 16 (by decide))⟩, List.forall_mem_cons.mpr ⟨⟨_, vk_R.of (hts _ q1425) (hev 17 (by decide))⟩, List.forall_mem_cons.mpr ⟨⟨_, vk_R.of (hts _ q1426) (hev 18 (by decide))⟩, List.forall_mem_cons.mpr ⟨⟨_, vk_R.of (hts _ q1427) (hev 19 (by decide))⟩, List.forall_mem_cons.mpr ⟨⟨_, vk_R.of (hts _ q1428) (hev 20 (by decide))⟩, List.forall_mem_cons.mpr ⟨⟨_, vk_R.of (hts _ q1429) (hev 21 (by decide))⟩, List.forall_mem_cons.mpr ⟨⟨_, vk_R.of (hts _ q1430) (hev 22 (by decide))⟩, List.forall_mem_cons.mpr ⟨⟨_, vk_R.of (hts _ q1594) (hev 23 (by decide))⟩, List.forall_mem_cons.mpr ⟨⟨_, vk_R.of (hts _ q1595) (hev 24 (by decide))⟩, List.forall_mem_cons.mpr ⟨⟨_, vk_R.of (hts _ q1596) (hev 25 (by decide))⟩, List.forall_mem_cons.mpr ⟨⟨_, vk_R.of (hts _ q1597) (hev 26 (by decide))⟩, List.forall_mem_cons.mpr ⟨⟨_, vk_R.of (hts _ q1598) (hev 27 (by decide))⟩, List.forall_mem_cons.mpr ⟨⟨_, vk_R.of (hts _ q1599) (hev 28 (by decide))⟩, List.forall_mem_cons.mpr ⟨⟨_, vk_R.of (hts _ q1638) (hev 29 (by decide))⟩, List.forall_mem_cons.mpr ⟨⟨_, vk_R.of (hts _ q1898) (hev 30 (by decide))⟩, List.forall_mem_cons.mpr ⟨⟨_, vk_R.of (hts _ q1962) (hev 31 (by decide))⟩, List.forall_mem_cons.mpr ⟨⟨_, vk_R.of (hts _ q1963) (hev 32 (by decide))⟩, List.forall_mem_cons.mpr ⟨⟨_, vk_R.of (hts _ q1968) (hev 33 (by decide))⟩, List.forall_mem_cons.mpr ⟨⟨_, vk_R.of (hts _ q1969) (hev 34 (by decide))⟩, List.forall_mem_cons.mpr ⟨⟨_, vk_R.of (hts _ q1975) (hev 35 (by decide))⟩, List.forall_mem_cons.mpr ⟨⟨_, vk_R.of (hts _ q1987) (hev 36 (by decide))⟩, List.forall_mem_cons.mpr ⟨⟨_, vk_R.of (hts _ q2985) (zeqv (zat1 hn 1136 (by decide +kernel)) (hev 15 (by decide)))⟩, List.forall_mem_cons.mpr ⟨⟨_, vk_R.of (hts _ q2992) (zeqv (zat1 hn 1144 (by decide +kernel)) (hev 16 (by decide)))⟩, List.forall_mem_cons.mpr ⟨⟨_, vk_R.of (hts _ q2993) (zeqv (zat1 hn 1155 (by decide +kernel)) (hev 18 (by decide)))⟩, List.forall_mem_cons.mpr ⟨⟨_, vk_R.of (hts _ q2994) (zeqv (zat1 hn 1166 (by decide +kernel)) (hev 19 (by decide)))⟩, List.forall_mem_cons.mpr ⟨⟨_, vk_R.of (hts _ q2995) (zeqv (zat1 hn 1178 (by decide +kernel)) (hev 6 (by decide)))⟩, List.forall_mem_cons.mpr ⟨⟨_, vk_R.of (hts _ q2996) (zeqv (zat1 hn 1190 (by decide +kernel)) (hev 7 (by decide)))⟩, List.forall_mem_cons.mpr ⟨⟨_, vk_R.of (hts _ q2997) (zeqv (zat1 hn 1203 (by decide +kernel)) (hev 11 (by decide)))⟩, List.forall_mem_cons.mpr ⟨⟨_, vk_R.of (hts _ q2998) (zeqv (zat1 hn 1217 (by decide +kernel)) (hev 12 (by decide)))⟩, List.forall_mem_cons.mpr ⟨⟨_, vk_R.of (hts _ q2999) (zeqv (zat1 hn 1233 (by decide +kernel)) (hev 13 (by decide)))⟩, List.forall_mem_cons.mpr ⟨⟨_, vk_R.of (hts _ q3000) (zeqv (zat1 hn 1247 (by decide +kernel)) (hev 14 (by decide)))⟩, List.forall_mem_cons.mpr ⟨⟨_, vk_R.of (hts _ q3001) (zeqv (zat1 hn 1259 (by decide +kernel)) (hev 21 (by decide)))⟩, List.forall_mem_cons.mpr ⟨⟨_, vk_R.of (hts _ q3002) (zeqv (zat1 hn 1271 (by decide +kernel)) (hev 23 (by decide)))⟩, List.forall_mem_cons.mpr ⟨⟨_, vk_R.of (hts _ q3003) (zeqv (zat1 hn 1283 (by decide +kernel)) (hev 24 (by decide)))⟩, List.forall_mem_cons.mpr ⟨⟨_, vk_R.of (hts _ q3004) (zeqv (zat1 hn 1294 (by decide +kernel)) (hev 25 (by decide)))⟩, List.forall_mem_cons.mpr ⟨⟨_, vk_R.of (hts _ q3005) (zeqv (zat1 hn 1305 (by decide +kernel)) (hev 26 (by decide)))⟩, List.forall_mem_cons.mpr ⟨⟨_, vk_R.of (hts _ q3006) (zeqv (zat1 hn 1316 (by decide +kernel)) (hev 27 (by decide)))⟩, List.forall_mem_cons.mpr ⟨⟨_, vk_R.of (hts _ q3007) (zeqv (zat1 hn 1327 (by decide +kernel)) (hev 28 (by decide)))⟩, List.forall_mem_cons.mpr ⟨⟨_, vk_R.of (hts _ q3008) (zeqv (zat1 hn 1340 (by decide +kernel)) (hev 10 (by decide)))⟩, List.forall_mem_cons.mpr ⟨⟨_, vk_R.of (hts _ q3009) (zeqv (zat1 hn 1352 (by decide +kernel)) (hev 20 (by decide)))⟩, List.forall_mem_cons.mpr ⟨⟨_, vk_R.of (hts _ q3010) (zeqv (zat1 hn 1361 (by decide +kernel)) (hev 5 (by decide)))⟩, List.forall_mem_cons.mpr ⟨⟨_, vk_R.of (hts _ q3011) (zeqv (zat1 hn 1371 (by decide +kernel)) (hev 17 (by decide)))⟩, List.forall_mem_cons.mpr ⟨⟨_, vk_R.of (hts _ q3012) (zeqv (zat1 hn 1383 (by decide +kernel)) (hev 22 (by decide)))⟩, List.forall_mem_cons.mpr ⟨⟨_, vk_R.of (hts _ q3130) (hev 37 (by decide))⟩, List.forall_mem_cons.mpr ⟨⟨_, vk_R.of (hts _ q3198) (zeqv (zat1 hn 1406 (by decide +kernel)) (hev 8 (by decide)))⟩, List.forall_mem_cons.mpr ⟨⟨_, vk_R.of (hts _ q3199) (zeqv (zat1 hn 1415 (by decide +kernel)) (hev 9 (by decide)))⟩, fun _ h => absurd h List.not_mem_nil⟩⟩⟩⟩⟩⟩⟩⟩⟩⟩⟩⟩⟩⟩⟩⟩⟩⟩⟩⟩⟩⟩⟩⟩⟩⟩⟩⟩⟩⟩⟩⟩⟩⟩⟩⟩⟩⟩⟩⟩⟩⟩⟩⟩⟩⟩⟩⟩⟩⟩⟩⟩⟩⟩⟩⟩⟩⟩⟩⟩⟩⟩
theorem zSR_all : ∀ o, o < 32 → (zKL o).all (fun q => match q.2 with | .ref i => decide (zLB ≤ i ∧ i % 2 = 0 ∧ i < zLB + 76) && zSR.contains (o, q.1, (i - zLB) / 2) | _ => true) = true := by decide +kernel
theorem zins_ok : ∀ q ∈ zcls, ∃ n, Cond.instantiable q.1 n ∈ lw_all := List.forall_mem_cons.mpr ⟨⟨_, q211⟩, List.forall_mem_cons.mpr ⟨⟨_, q219⟩, List.forall_mem_cons.mpr ⟨⟨_, q275⟩, List.forall_mem_cons.mpr ⟨⟨_, q307⟩, List.forall_mem_cons.mpr ⟨⟨_, q324⟩, List.forall_mem_cons.mpr ⟨⟨_, q340⟩, List.forall_mem_cons.mpr ⟨⟨_, q2543⟩, List.forall_mem_cons.mpr ⟨⟨_, q588⟩, List.forall_mem_cons.mpr ⟨⟨_, q621⟩, List.forall_mem_cons.mpr ⟨⟨_, q931⟩, List.forall_mem_cons.mpr ⟨⟨_, q307⟩, List.forall_mem_cons.mpr ⟨⟨_, q933⟩, List.forall_mem_cons.mpr ⟨⟨_, q307⟩, List.forall_mem_cons.mpr ⟨⟨_, q951⟩, List.forall_mem_cons.mpr ⟨⟨_, q1329⟩, List.forall_mem_cons.mpr ⟨⟨_, q1379⟩, List.forall_mem_cons.mpr ⟨⟨_, q1432⟩, List.forall_mem_cons.mpr ⟨⟨_, q1467⟩, List.forall_mem_cons.mpr ⟨⟨_, q1510⟩, List.forall_mem_cons.mpr ⟨⟨_, q1549⟩, List.forall_mem_cons.mpr ⟨⟨_, q1190⟩, List.forall_mem_cons.mpr ⟨⟨_, q2213⟩, List.forall_mem_cons.mpr ⟨⟨_, q794⟩, List.forall_mem_cons.mpr ⟨⟨_, q685⟩, fun _ h => absurd h List.not_mem_nil⟩⟩⟩⟩⟩⟩⟩⟩⟩⟩⟩⟩⟩⟩⟩⟩⟩⟩⟩⟩⟩⟩⟩⟩
theorem zKinds {args : Array Value} {s : State} (hts : ∀ w ∈ lw_all, w.before args s = true) : ∃ D : va_G, (∀ (c : Nat) (q : vw_C), zcls[c]? = some q → u_Kn s q.1 q.2.1 q.2.2 (D.1 c) (D.2 c)) ∧ zBk D s := by
  have hk : ∀ c : Nat, ∃ q : ClassId × (Nat → Nat), ∀ r : vw_C, zcls[c]? = some r → u_Kn s r.1 r.2.1 r.2.2 q.1 q.2 := by
    intro c
    cases h : zcls[c]? with
    | none => exact ⟨(0, fun _ => 0), fun r hr => by cases hr⟩
    | some r =>
      have hm := List.mem_of_getElem? h
      obtain ⟨n, hn⟩ := zins_ok r hm
      obtain ⟨cC, iS, hK⟩ := u_known hts (zcl_ok r hm).1 (hts _ hn)
      exact ⟨(cC, iS), fun r' hr => by cases hr; exact hK⟩
  obtain ⟨ch, hch⟩ := Classical.axiomOfChoice hk
  obtain ⟨iB, cf, kf, fi, f, hf, hs⟩ := u_found (Or.inl (hts _ q638))
  refine ⟨(fun c => (ch c).1, fun c j => if c = 8 ∧ j = 2 then iB else (ch c).2 j), fun c r hr => ?_, cf, kf, fi, f, hf, ?_⟩
  · obtain ⟨h1, h2⟩ := hch c r hr
    refine ⟨fun k hk => ?_, h2⟩
    have hne : ¬ (c = 8 ∧ k = 2) := by
      rintro ⟨rfl, rfl⟩
      have er : r = (RX8, TX8, 2) := Option.some.inj (hr.symm.trans rfl)
      subst er
      exact absurd hk (by decide)
    have e : (if c = 8 ∧ k = 2 then iB else (ch c).2 k) = (ch c).2 k := if_neg hne
    show SlotIs s _ _ _ (if c = 8 ∧ k = 2 then iB else (ch c).2 k)
    rw [e]
    exact h1 k hk
  · show f.slot = if (8 : Nat) = 8 ∧ (2 : Nat) = 2 then iB else (ch 8).2 2
    rw [if_pos ⟨rfl, rfl⟩]
    exact hs
theorem zarrT {s : State} {c : ClassId} {k : Class} {comp : ClassId} {ty : FieldType} (hk : s.vm.classes[c]? = some k) (hkind : k.kind = .array comp ty) : ArrOfT s c ty := fun n z => ⟨fun _ h => (by cases h), k, hk, comp, hkind⟩
theorem zArrays {args : Array Value} {s : State} (hts : ∀ w ∈ lw_tbl, w.before args s = true) : ∃ dA : Nat → ClassId, ∀ (k : Nat) (q : ClassId × FieldType), (ztys dA)[k]? = some q → ArrOfT s q.1 q.2 ∧ va_RA s q.1 q.2 := by
  have hall : ∀ w ∈ lw_all, w.before args s = true := fun w hw => hts w (List.mem_filter.mp hw).1
  obtain ⟨c0, k0, m0, a0, b0, d0⟩ := Cond.arrayClass_spec (hall _ q269)
  obtain ⟨c1, k1, m1, a1, b1, d1⟩ := Cond.arrayClass_spec (hall _ q270)
  obtain ⟨c2, k2, m2, a2, b2, d2⟩ := Cond.arrayClass_spec (hall _ q300)
  obtain ⟨c3, k3, m3, a3, b3, d3⟩ := Cond.arrayClass_spec (hall _ q271)
  obtain ⟨m4, c4, k4, -, b4, d4, a4⟩ := Cond.arrayOver_specA (hts _ q273)
  obtain ⟨m5, c5, k5, e5, -, b5, d5, a5⟩ := Cond.arrayOver_spec (hts _ q306)
  obtain ⟨m6, c6, k6, e6, -, b6, d6, a6⟩ := Cond.arrayOver_spec (hts _ q330)
  obtain ⟨m7, c7, k7, e7, -, b7, d7, a7⟩ := Cond.arrayOver_spec (hts _ q1507)
  obtain ⟨m8, c8, k8, e8, -, b8, d8, a8⟩ := Cond.arrayOver_spec (hts _ q1362)
  refine ⟨fun t => if t = 100 then c0 else if t = 101 then c1 else if t = 102 then c2 else if t = 103 then c3 else if t = 110 then c4 else if t = 111 then c5 else if t = 112 then c6 else if t = 113 then c7 else c8, fun k q hq => ?_⟩
  match k, hq with
  | 0, hq => cases hq; exact ⟨zarrT b0 d0, a0⟩
  | 1, hq => cases hq; exact ⟨zarrT b1 d1, a1⟩
  | 2, hq => cases hq; exact ⟨zarrT b2 d2, a2⟩
  | 3, hq => cases hq; exact ⟨zarrT b3 d3, a3⟩
  | 4, hq => cases hq; exact ⟨zarrT b4 d4, a4⟩
  | 5, hq => cases hq; exact ⟨zarrT b5 d5, k5, m5, b5, d5, e5, a5⟩
  | 6, hq => cases hq; exact ⟨zarrT b6 d6, k6, m6, b6, d6, e6, a6⟩
  | 7, hq => cases hq; exact ⟨zarrT b7 d7, k7, m7, b7, d7, e7, a7⟩
  | 8, hq => cases hq; exact ⟨zarrT b8 d8, k8, m8, b8, d8, e8, a8⟩
  | k + 9, hq => simp [ztys] at hq
theorem zhalf (i : Nat) (g1 : zLB ≤ i) (g2 : i % 2 = 0) (g3 : i < zLB + 76) : (i - zLB) / 2 < 38 ∧ i = zLB + 2 * ((i - zLB) / 2) := by
  have hLB2 : zLB % 2 = 0 := by decide
  omega
set_option maxHeartbeats 1000000 in
theorem zStart {args : Array Value} {s : State} {bq L : Nat} {xs : Nat → Int32} (hts : ∀ w ∈ lw_tbl, w.before args s = true) (hn : (Cond.and given_1 narrow_1).before args s = true) (hX : va_X bq L xs s s.heap) (hbq : bq < s.heap.size) :
    ∃ (oa : Nat → Nat) (D : va_G) (dA : Nat → ClassId), zCtx s.heap.size oa D dA s.heap (zS0 L xs) s ∧ oa (zLB + 1003) = bq := by
  have hall : ∀ w ∈ lw_all, w.before args s = true := fun w hw => hts w (List.mem_filter.mp hw).1
  have hA : ∀ a : Nat, a < s.heap.size → ¬ (fun a => s.heap.size ≤ a) a := fun a h => Nat.not_le.mpr h
  obtain ⟨D, hD, hBk⟩ := zKinds hall
  obtain ⟨dA, hdA⟩ := zArrays hts
  have htx : ∀ k : Nat, ∃ q : Nat × Nat, k < 38 → zTxt args s k q := by
    intro k
    by_cases hk : k < 38
    · obtain ⟨q, hq⟩ := zTxt_of hn k hk
      exact ⟨q, fun _ => hq⟩
    · exact ⟨(0, 0), fun h => absurd h hk⟩
  obtain ⟨ad, had⟩ := Classical.axiomOfChoice htx
  obtain ⟨tT, hT1, hT2⟩ := va_Tof (tm := zdT) (N := 100) (f := fun j => .int (zten j)) (A := fun a => s.heap.size ≤ a) (by decide) (zseg hn zdT_ok _ (List.mem_append_left _ List.mem_cons_self)) (va_eqt (zseg hn zdT_ok _ (List.mem_append_left _ (List.mem_cons_of_mem _ List.mem_cons_self)))) (fun j hj => va_eqt (zseg hn zdT_ok _ (List.mem_append_right _ (List.mem_map.mpr ⟨j, List.mem_range.mpr hj, rfl⟩)))) hA
  obtain ⟨tO, hO1, hO2⟩ := va_Tof (tm := zdO) (N := 100) (f := fun j => .int (zone9 j)) (A := fun a => s.heap.size ≤ a) (by decide) (zseg hn zdO_ok _ (List.mem_append_left _ List.mem_cons_self)) (va_eqt (zseg hn zdO_ok _ (List.mem_append_left _ (List.mem_cons_of_mem _ List.mem_cons_self)))) (fun j hj => va_eqt (zseg hn zdO_ok _ (List.mem_append_right _ (List.mem_map.mpr ⟨j, List.mem_range.mpr hj, rfl⟩)))) hA
  have hFm := va_Zqof (A := fun a => s.heap.size ≤ a) (hts _ q430) (hall _ q181) (zat1 hn 5 (by decide +kernel)) hA
  obtain ⟨fm, hfm⟩ : ∃ fm : Nat, va_Z "jdk/internal/util/Preconditions" "SIOOBE_FORMATTER" "Ljava/util/function/BiFunction;" (va_rf (match fm with | 0 => none | n + 1 => some n)) (fun a => s.heap.size ≤ a) s s.heap := by
    rcases hFm with h | ⟨t, h⟩
    · exact ⟨0, h⟩
    · exact ⟨t + 1, h⟩
  generalize hoa : (fun i => if i = zLB + 1003 then bq else if i = zLB + 1000 then tT else if i = zLB + 1001 then tO else if i = zLB + 1002 then fm else if i % 2 = 0 then (ad ((i - zLB) / 2)).1 else (ad ((i - zLB) / 2)).2 : Nat → Nat) = oa
  have o1 : oa (zLB + 1003) = bq := by rw [← hoa]; exact if_pos rfl
  have o2 : oa (zLB + 1000) = tT := by rw [← hoa]; rfl
  have o3 : oa (zLB + 1001) = tO := by rw [← hoa]; rfl
  have o4 : oa (zLB + 1002) = fm := by rw [← hoa]; rfl
  have hLB2 : zLB % 2 = 0 := by decide
  have o5 : ∀ k, k < 38 → oa (zLB + 2 * k) = (ad k).1 := fun k hk => by
    rw [← hoa]
    show (if zLB + 2 * k = zLB + 1003 then _ else _) = _
    rw [if_neg (by omega), if_neg (by omega), if_neg (by omega), if_neg (by omega), if_pos (by omega), show (zLB + 2 * k - zLB) / 2 = k by omega]
  have o6 : ∀ k, k < 38 → oa (zLB + 2 * k + 1) = (ad k).2 := fun k hk => by
    rw [← hoa]
    show (if zLB + 2 * k + 1 = zLB + 1003 then _ else _) = _
    rw [if_neg (by omega), if_neg (by omega), if_neg (by omega), if_neg (by omega), if_neg (by omega), show (zLB + 2 * k + 1 - zLB) / 2 = k by omega]
  have hz : ∀ i, zLB ≤ i → zad s.heap.size oa i = oa i := fun i h => if_neg (by omega)
  refine ⟨oa, D, dA, ⟨zKx.of hts, ⟨hD, hdA⟩, hBk, ⟨va_Nc.of (zat1 hn 277 (by decide +kernel)), va_Nc.of (zat1 hn 278 (by decide +kernel))⟩, fun o ho idx i hi => ?_, fun j hj => ?_, fun i hi => ?_, vx_Zqof (hts _ q645) (hall _ q185) (zat1 hn 9 (by decide +kernel)) hA, vx_Zqof (hts _ q647) (hall _ q185) (zat1 hn 10 (by decide +kernel)) hA, fun i j hi hj ti tj he => ?_⟩, o1⟩
  · have h1 := List.all_eq_true.mp (zSR_all o ho) _ hi
    simp only [Bool.and_eq_true, decide_eq_true_eq, List.contains_iff_mem] at h1
    obtain ⟨⟨g1, g2, g3⟩, g4⟩ := h1
    obtain ⟨hk, e⟩ := zhalf i g1 g2 g3
    obtain ⟨tx, h2⟩ := zSR_ok (adK := fun k => (ad k).1) hts hn (fun k hk => (had k hk).1) _ g4
    refine ⟨tx, ?_⟩
    rw [hz i g1]
    rw [e, o5 _ hk]
    exact h2
  · match j, hj with
    | 0, _ => exact va_Zof (hts _ q422) (hall _ q179) (va_eqt (zat1 hn 4 (by decide +kernel))) hA
    | 1, _ =>
      show va_Z "java/lang/Integer" "DigitTens" "[B" (.ref (zad s.heap.size oa (zLB + 1000))) _ _ _
      rw [hz _ (Nat.le_add_right _ _), o2]
      exact va_Zof (hts _ q1951) (hall _ q208) hT1 hA
    | 2, _ =>
      show va_Z "java/lang/Integer" "DigitOnes" "[B" (.ref (zad s.heap.size oa (zLB + 1001))) _ _ _
      rw [hz _ (Nat.le_add_right _ _), o3]
      exact va_Zof (hts _ q1949) (hall _ q208) hO1 hA
    | 3, _ =>
      show va_Z "jdk/internal/util/Preconditions" "SIOOBE_FORMATTER" "Ljava/util/function/BiFunction;" (va_rf (match zad s.heap.size oa (zLB + 1002) with | 0 => none | n + 1 => some n)) _ _ _
      rw [hz _ (Nat.le_add_right _ _), o4]
      exact hfm
  · rw [(zS0_typ hi).1, (zS0_typ hi).2, hz i hi]
    have vt : ∀ {t N : Nat} {f : Nat → Int32}, va_T .byte t N (fun j => .int (f j)) (fun a => s.heap.size ≤ a) s s.heap → t < s.heap.size ∧ zLa s s.heap t .byte N f := by
      intro t N f h
      obtain ⟨cell, h1, h2, h3, h4, h5, h6, h7⟩ := h
      exact ⟨Nat.not_le.mp h7, cell, h1, h2, h3, ⟨h4, h5⟩, h6⟩
    rcases zlt_cases L hi with ⟨h1, h2⟩ | ⟨h1, h2⟩ | ⟨h1, h2⟩ | ⟨k, hk, h1, h2⟩ | ⟨k, hk, h1, h2⟩ | h2 <;> rw [h2]
    · refine Or.inl ⟨rfl, by rw [h1, o1]; exact hbq, ?_⟩
      obtain ⟨scr, g1, g2, g3, g4, g5⟩ := hX
      have e : gA (zS0 L xs) i = xs := funext fun j => by show zla xs i j = xs j; unfold zla; rw [if_neg (by omega), if_pos h1]
      rw [e, h1, o1]
      exact ⟨scr, g1, g2, g3, ⟨Nat.le_of_eq g4.symm, by rw [g4]⟩, g5⟩
    · have e : gA (zS0 L xs) i = zten := funext fun j => by show zla xs i j = _; unfold zla; rw [if_neg (by omega), if_neg (by omega), if_pos h1]
      rw [e, h1, o2]
      exact Or.inr (Or.inl ⟨rfl, vt hT2⟩)
    · have e : gA (zS0 L xs) i = zone9 := funext fun j => by show zla xs i j = _; unfold zla; rw [if_neg (by omega), if_neg (by omega), if_neg (by omega), if_pos h1]
      rw [e, h1, o3]
      exact Or.inr (Or.inl ⟨rfl, vt hO2⟩)
    · obtain ⟨t1, ⟨cell, c1, c2, c3, c4⟩, ⟨cf, kf, fi, f, cell2, d1, -, d3, d4, d5, -⟩, ⟨cf', kf', fi', f', cell3, e1, -, e3, -, e5, -⟩, -⟩ := had k hk
      cases c1.symm.trans d3
      cases c1.symm.trans e3
      refine Or.inr (Or.inr (Or.inl ⟨rfl, by rw [h1, o5 k hk]; exact Nat.not_le.mp c4, cell, by rw [hz _ hi, h1, o5 k hk]; exact c1, c2, d4, c3, ?_, ?_⟩))
      · obtain ⟨cg, kg, gi, fg, hg, hgs⟩ := (hD 22 _ rfl).1 0 (by decide)
        cases e1.symm.trans hg
        rw [← hgs, e5]
        have ep : gP (zS0 L xs) 199 i = some (i + 1) := by
          show (if (199 : Nat) = 199 ∧ zLB ≤ i ∧ i < zLB + 76 then some (i + 1) else none) = _
          rw [if_pos ⟨rfl, hi, by omega⟩]
        unfold zfv
        show some (Value.ref (ad k).2) = some (va_rf ((gP (zS0 L xs) 199 i).map (zad s.heap.size oa)))
        rw [ep]
        show some (Value.ref (ad k).2) = some (Value.ref (zad s.heap.size oa (i + 1)))
        rw [hz _ (by omega), h1, o6 k hk]
      · obtain ⟨cg, kg, gi, fg, hg, hgs⟩ := (hD 22 _ rfl).1 1 (by decide)
        cases d1.symm.trans hg
        rw [← hgs, d5]
        rfl
    · have e : gA (zS0 L xs) i = fun j => (ztx.getD k []).getD j 0 := funext fun j => by show zla xs i j = _; unfold zla; rw [if_neg (by omega), if_neg (by omega), if_neg (by omega), if_neg (by omega), if_pos (by omega), show (i - zLB) / 2 = k by omega]
      rw [e, h1, o6 k hk]
      exact Or.inr (Or.inl ⟨rfl, vt (had k hk).2.2.2.2⟩)
    · exact Or.inr (Or.inr (Or.inr rfl))
  · rw [(zS0_typ hi).1] at ti
    rw [(zS0_typ hj).1] at tj
    rw [hz i hi, hz j hj] at he
    have pick : ∀ i, zLB ≤ i → (zlt L i).1 = 22 → ∃ k, k < 38 ∧ i = zLB + 2 * k := by
      intro i hi ti
      rcases zlt_cases L hi with ⟨h1, h2⟩ | ⟨h1, h2⟩ | ⟨h1, h2⟩ | ⟨k, hk, h1, h2⟩ | ⟨k, hk, h1, h2⟩ | h2
      · rw [h2] at ti; cases ti
      · rw [h2] at ti; cases ti
      · rw [h2] at ti; cases ti
      · exact ⟨k, hk, h1⟩
      · rw [h2] at ti; cases ti
      · rw [h2] at ti; cases ti
    obtain ⟨k1, hk1, rfl⟩ := pick i hi ti
    obtain ⟨k2, hk2, rfl⟩ := pick j hj tj
    rw [o5 k1 hk1, o5 k2 hk2] at he
    rw [zTxt_inj hk1 hk2 (had k1 hk1) (had k2 hk2) he]
