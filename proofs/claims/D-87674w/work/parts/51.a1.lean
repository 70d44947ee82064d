set_option maxRecDepth 100000
def hR (v y : Int32) : Int32 := ((v.toUInt32 >>> (Int32.toUInt32 y &&& Int32.toUInt32 31)).toInt32) ||| (v <<< ((32 - y) &&& 31))
def hL (v y : Int32) : Int32 := (v <<< (y &&& 31)) ||| ((v.toUInt32 >>> (Int32.toUInt32 (32 - y) &&& Int32.toUInt32 31)).toInt32)
theorem x_right {d : Nat} {S : zS} (hF : zFin true S) (v y : Int32) {post : Outcome × zS → Prop} (h : post (.returned (some (.int (hR v y))), S)) : zCall d 49 [.int v, .int y] S post := by
  have ht : ztab 49 = ztb49 := rfl
  show zEv d 49 0 [.int v, .int y] [] S post
  refine zv_c1 ht rfl rfl (zv_c1 ht rfl rfl (zv_c1 ht rfl rfl (zv_c1 ht rfl rfl (zv_c1 ht rfl rfl (zv_c1 ht rfl rfl (zv_c1 ht rfl rfl (zv_c1 ht rfl rfl (zv_c1 ht rfl rfl ?_))))))))
  exact zv_rt ht rfl rfl rfl rfl h
theorem m_right {d : Nat} {S : zS} (hF : zFin true S) (v y : Int32) {post : Outcome × zS → Prop} (h : post (.returned (some (.int (hR v y))), S)) : zCall d 108 [.int v, .int y] S post := by
  have ht : ztab 108 = ztb108 := rfl
  show zEv d 108 0 [.int v, .int y] [] S post
  refine zv_c1 ht rfl rfl (zv_c1 ht rfl rfl (zv_c1 ht rfl rfl (zv_c1 ht rfl rfl (zv_c1 ht rfl rfl (zv_c1 ht rfl rfl (zv_c1 ht rfl rfl (zv_c1 ht rfl rfl (zv_c1 ht rfl rfl ?_))))))))
  exact zv_rt ht rfl rfl rfl rfl h
theorem x_left {d : Nat} {S : zS} (hF : zFin true S) (v y : Int32) {post : Outcome × zS → Prop} (h : post (.returned (some (.int (hL v y))), S)) : zCall d 55 [.int v, .int y] S post := by
  have ht : ztab 55 = ztb55 := rfl
  show zEv d 55 0 [.int v, .int y] [] S post
  refine zv_c1 ht rfl rfl (zv_c1 ht rfl rfl (zv_c1 ht rfl rfl (zv_c1 ht rfl rfl (zv_c1 ht rfl rfl (zv_c1 ht rfl rfl (zv_c1 ht rfl rfl (zv_c1 ht rfl rfl (zv_c1 ht rfl rfl ?_))))))))
  exact zv_rt ht rfl rfl rfl rfl h
theorem m_left {d : Nat} {S : zS} (hF : zFin true S) (v y : Int32) {post : Outcome × zS → Prop} (h : post (.returned (some (.int (hL v y))), S)) : zCall d 116 [.int v, .int y] S post := by
  have ht : ztab 116 = ztb116 := rfl
  show zEv d 116 0 [.int v, .int y] [] S post
  refine zv_c1 ht rfl rfl (zv_c1 ht rfl rfl (zv_c1 ht rfl rfl (zv_c1 ht rfl rfl (zv_c1 ht rfl rfl (zv_c1 ht rfl rfl (zv_c1 ht rfl rfl (zv_c1 ht rfl rfl (zv_c1 ht rfl rfl ?_))))))))
  exact zv_rt ht rfl rfl rfl rfl h
theorem q_m_in {d : Nat} {S : zS} (hF : zFin true S) (v lo hi : Int32) {post : Outcome × zS → Prop} (h1 : (v < lo) → post (.returned (some (.int 0)), S)) (h2 : (¬ (v < lo)) → (hi < v) → post (.returned (some (.int 0)), S)) (h3 : (¬ (v < lo)) → (¬ (hi < v)) → post (.returned (some (.int 1)), S)) : zCall d 102 [.int v, .int lo, .int hi] S post := by
  have ht : ztab 102 = ztb102 := rfl
  show zEv d 102 0 [.int v, .int lo, .int hi] [] S post
  refine zv_c1 ht rfl rfl (zv_c1 ht rfl rfl ?_)
  refine zv_br ht rfl rfl rfl (fun b1 => ?_) (fun b1 => ?_)
  · refine zv_c1 ht rfl rfl ?_
    exact zv_rc ht rfl rfl rfl rfl (by decide) (h1 b1)
  · refine zv_c1 ht rfl rfl (zv_c1 ht rfl rfl ?_)
    refine zv_br ht rfl rfl rfl (fun b2 => ?_) (fun b2 => ?_)
    · refine zv_c1 ht rfl rfl ?_
      exact zv_rc ht rfl rfl rfl rfl (by decide) (h2 b1 b2)
    · refine zv_c1 ht rfl rfl (zv_c1 ht rfl rfl ?_)
      exact zv_rc ht rfl rfl rfl rfl (by decide) (h3 b1 b2)

theorem q_x_in {d : Nat} {S : zS} (hF : zFin true S) (v lo hi : Int32) {post : Outcome × zS → Prop} (h1 : (v < lo) → post (.returned (some (.int 0)), S)) (h2 : (¬ (v < lo)) → (hi < v) → post (.returned (some (.int 0)), S)) (h3 : (¬ (v < lo)) → (¬ (hi < v)) → post (.returned (some (.int 1)), S)) : zCall d 5 [.int v, .int lo, .int hi] S post := by
  have ht : ztab 5 = ztb5 := rfl
  show zEv d 5 0 [.int v, .int lo, .int hi] [] S post
  refine zv_c1 ht rfl rfl (zv_c1 ht rfl rfl ?_)
  refine zv_br ht rfl rfl rfl (fun b1 => ?_) (fun b1 => ?_)
  · refine zv_c1 ht rfl rfl ?_
    exact zv_rc ht rfl rfl rfl rfl (by decide) (h1 b1)
  · refine zv_c1 ht rfl rfl (zv_c1 ht rfl rfl ?_)
    refine zv_br ht rfl rfl rfl (fun b2 => ?_) (fun b2 => ?_)
    · refine zv_c1 ht rfl rfl ?_
      exact zv_rc ht rfl rfl rfl rfl (by decide) (h2 b1 b2)
    · refine zv_c1 ht rfl rfl (zv_c1 ht rfl rfl ?_)
      exact zv_rc ht rfl rfl rfl rfl (by decide) (h3 b1 b2)

theorem q_x_four {d : Nat} {S : zS} (hF : zFin true S) (v : Int32) {post : Outcome × zS → Prop} (s1 : vp_in (gI S 8 0) 300) (s2 : vp_in ((gI S 8 0) + 1) 300) (s3 : vp_in (((gI S 8 0) + 1) + 1) 300) (s4 : vp_in ((((gI S 8 0) + 1) + 1) + 1) 300) (h5 : post (.returned none, sI (sA (sI (sA (sI (sA (sI (sA S 40 (gI S 8 0).toNatClampNeg (((v >>> (24 &&& 31) : Int32) : Int32).toInt8.toInt32)) 8 0 ((gI S 8 0) + 1)) 40 ((gI S 8 0) + 1).toNatClampNeg (((v >>> (16 &&& 31) : Int32) : Int32).toInt8.toInt32)) 8 0 (((gI S 8 0) + 1) + 1)) 40 (((gI S 8 0) + 1) + 1).toNatClampNeg (((v >>> (8 &&& 31) : Int32) : Int32).toInt8.toInt32)) 8 0 ((((gI S 8 0) + 1) + 1) + 1)) 40 ((((gI S 8 0) + 1) + 1) + 1).toNatClampNeg (((v >>> (0 &&& 31) : Int32) : Int32).toInt8.toInt32)) 8 0 (((((gI S 8 0) + 1) + 1) + 1) + 1))) : zCall d 3 [.ref 0, .int v] S post := by
  have ht : ztab 3 = ztb3 := rfl
  show zEv d 3 0 [.ref 0, .int v, .retAddr 0] [] S post
  refine zv_c1 ht rfl rfl ?_
  refine zv_c2 (L' := [.ref 0, .int v, .int 24]) ht rfl rfl ?_
  refine zv_c1 ht rfl rfl ?_
  refine zv_br ht rfl rfl rfl (fun h => absurd h (by decide)) (fun _ => ?_)
  refine zv_c1 ht rfl rfl ?_
  refine zv_gl (st' := [.ref 40]) ht rfl hF rfl rfl rfl ?_
  refine zv_c1 ht rfl rfl ?_
  refine zv_c1 (st' := [.int (gI S 8 0), .ref 40]) (S' := S) ht rfl rfl ?_
  refine zv_c1 ht rfl rfl (zv_c1 ht rfl rfl (zv_c1 ht rfl rfl (zv_c1 ht rfl rfl ?_)))
  refine zv_bs (j := (gI S 8 0).toNatClampNeg) (x := ((v >>> (24 &&& 31) : Int32) : Int32).toInt8.toInt32) ht rfl rfl rfl rfl rfl ⟨(Or.inl ⟨rfl, (zi_i2b _)⟩), s1⟩ ?_
  refine zv_c1 ht rfl rfl (zv_c1 ht rfl rfl ?_)
  refine zv_c1 (st' := [.int (gI S 8 0), .ref 0]) (S' := sA S 40 (gI S 8 0).toNatClampNeg (((v >>> (24 &&& 31) : Int32) : Int32).toInt8.toInt32)) ht rfl rfl ?_
  refine zv_c1 ht rfl rfl (zv_c1 ht rfl rfl ?_)
  refine zv_c1 (S' := sI (sA S 40 (gI S 8 0).toNatClampNeg (((v >>> (24 &&& 31) : Int32) : Int32).toInt8.toInt32)) 8 0 ((gI S 8 0) + 1)) ht rfl rfl ?_
  refine zv_c2 (L' := [.ref 0, .int v, .int 16]) ht rfl rfl ?_
  refine zv_c1 ht rfl rfl (zv_c1 ht rfl rfl ?_)
  refine zv_br ht rfl rfl rfl (fun h => absurd h (by decide)) (fun _ => ?_)
  refine zv_c1 ht rfl rfl ?_
  refine zv_gl (st' := [.ref 40]) ht rfl hF rfl rfl rfl ?_
  refine zv_c1 ht rfl rfl ?_
  refine zv_c1 (st' := [.int ((gI S 8 0) + 1), .ref 40]) (S' := sI (sA S 40 (gI S 8 0).toNatClampNeg (((v >>> (24 &&& 31) : Int32) : Int32).toInt8.toInt32)) 8 0 ((gI S 8 0) + 1)) ht rfl rfl ?_
  refine zv_c1 ht rfl rfl (zv_c1 ht rfl rfl (zv_c1 ht rfl rfl (zv_c1 ht rfl rfl ?_)))
  refine zv_bs (j := ((gI S 8 0) + 1).toNatClampNeg) (x := ((v >>> (16 &&& 31) : Int32) : Int32).toInt8.toInt32) ht rfl rfl rfl rfl rfl ⟨(Or.inl ⟨rfl, (zi_i2b _)⟩), s2⟩ ?_
  refine zv_c1 ht rfl rfl (zv_c1 ht rfl rfl ?_)
  refine zv_c1 (st' := [.int ((gI S 8 0) + 1), .ref 0]) (S' := sA (sI (sA S 40 (gI S 8 0).toNatClampNeg (((v >>> (24 &&& 31) : Int32) : Int32).toInt8.toInt32)) 8 0 ((gI S 8 0) + 1)) 40 ((gI S 8 0) + 1).toNatClampNeg (((v >>> (16 &&& 31) : Int32) : Int32).toInt8.toInt32)) ht rfl rfl ?_
  refine zv_c1 ht rfl rfl (zv_c1 ht rfl rfl ?_)
  refine zv_c1 (S' := sI (sA (sI (sA S 40 (gI S 8 0).toNatClampNeg (((v >>> (24 &&& 31) : Int32) : Int32).toInt8.toInt32)) 8 0 ((gI S 8 0) + 1)) 40 ((gI S 8 0) + 1).toNatClampNeg (((v >>> (16 &&& 31) : Int32) : Int32).toInt8.toInt32)) 8 0 (((gI S 8 0) + 1) + 1)) ht rfl rfl ?_
  refine zv_c2 (L' := [.ref 0, .int v, .int 8]) ht rfl rfl ?_
  refine zv_c1 ht rfl rfl (zv_c1 ht rfl rfl ?_)
  refine zv_br ht rfl rfl rfl (fun h => absurd h (by decide)) (fun _ => ?_)
  refine zv_c1 ht rfl rfl ?_
  refine zv_gl (st' := [.ref 40]) ht rfl hF rfl rfl rfl ?_
  refine zv_c1 ht rfl rfl ?_
  refine zv_c1 (st' := [.int (((gI S 8 0) + 1) + 1), .ref 40]) (S' := sI (sA (sI (sA S 40 (gI S 8 0).toNatClampNeg (((v >>> (24 &&& 31) : Int32) : Int32).toInt8.toInt32)) 8 0 ((gI S 8 0) + 1)) 40 ((gI S 8 0) + 1).toNatClampNeg (((v >>> (16 &&& 31) : Int32) : Int32).toInt8.toInt32)) 8 0 (((gI S 8 0) + 1) + 1)) ht rfl rfl ?_
  refine zv_c1 ht rfl rfl (zv_c1 ht rfl rfl (zv_c1 ht rfl rfl (zv_c1 ht rfl rfl ?_)))
  refine zv_bs (j := (((gI S 8 0) + 1) + 1).toNatClampNeg) (x := ((v >>> (8 &&& 31) : Int32) : Int32).toInt8.toInt32) ht rfl rfl rfl rfl rfl ⟨(Or.inl ⟨rfl, (zi_i2b _)⟩), s3⟩ ?_
  refine zv_c1 ht rfl rfl (zv_c1 ht rfl rfl ?_)
  refine zv_c1 (st' := [.int (((gI S 8 0) + 1) + 1), .ref 0]) (S' := sA (sI (sA (sI (sA S 40 (gI S 8 0).toNatClampNeg (((v >>> (24 &&& 31) : Int32) : Int32).toInt8.toInt32)) 8 0 ((gI S 8 0) + 1)) 40 ((gI S 8 0) + 1).toNatClampNeg (((v >>> (16 &&& 31) : Int32) : Int32).toInt8.toInt32)) 8 0 (((gI S 8 0) + 1) + 1)) 40 (((gI S 8 0) + 1) + 1).toNatClampNeg (((v >>> (8 &&& 31) : Int32) : Int32).toInt8.toInt32)) ht rfl rfl ?_
  refine zv_c1 ht rfl rfl (zv_c1 ht rfl rfl ?_)
  refine zv_c1 (S' := sI (sA (sI (sA (sI (sA S 40 (gI S 8 0).toNatClampNeg (((v >>> (24 &&& 31) : Int32) : Int32).toInt8.toInt32)) 8 0 ((gI S 8 0) + 1)) 40 ((gI S 8 0) + 1).toNatClampNeg (((v >>> (16 &&& 31) : Int32) : Int32).toInt8.toInt32)) 8 0 (((gI S 8 0) + 1) + 1)) 40 (((gI S 8 0) + 1) + 1).toNatClampNeg (((v >>> (8 &&& 31) : Int32) : Int32).toInt8.toInt32)) 8 0 ((((gI S 8 0) + 1) + 1) + 1)) ht rfl rfl ?_
  refine zv_c2 (L' := [.ref 0, .int v, .int 0]) ht rfl rfl ?_
  refine zv_c1 ht rfl rfl (zv_c1 ht rfl rfl ?_)
  refine zv_br ht rfl rfl rfl (fun h => absurd h (by decide)) (fun _ => ?_)
  refine zv_c1 ht rfl rfl ?_
  refine zv_gl (st' := [.ref 40]) ht rfl hF rfl rfl rfl ?_
  refine zv_c1 ht rfl rfl ?_
  refine zv_c1 (st' := [.int ((((gI S 8 0) + 1) + 1) + 1), .ref 40]) (S' := sI (sA (sI (sA (sI (sA S 40 (gI S 8 0).toNatClampNeg (((v >>> (24 &&& 31) : Int32) : Int32).toInt8.toInt32)) 8 0 ((gI S 8 0) + 1)) 40 ((gI S 8 0) + 1).toNatClampNeg (((v >>> (16 &&& 31) : Int32) : Int32).toInt8.toInt32)) 8 0 (((gI S 8 0) + 1) + 1)) 40 (((gI S 8 0) + 1) + 1).toNatClampNeg (((v >>> (8 &&& 31) : Int32) : Int32).toInt8.toInt32)) 8 0 ((((gI S 8 0) + 1) + 1) + 1)) ht rfl rfl ?_
  refine zv_c1 ht rfl rfl (zv_c1 ht rfl rfl (zv_c1 ht rfl rfl (zv_c1 ht rfl rfl ?_)))
  refine zv_bs (j := ((((gI S 8 0) + 1) + 1) + 1).toNatClampNeg) (x := ((v >>> (0 &&& 31) : Int32) : Int32).toInt8.toInt32) ht rfl rfl rfl rfl rfl ⟨(Or.inl ⟨rfl, (zi_i2b _)⟩), s4⟩ ?_
  refine zv_c1 ht rfl rfl (zv_c1 ht rfl rfl ?_)
  refine zv_c1 (st' := [.int ((((gI S 8 0) + 1) + 1) + 1), .ref 0]) (S' := sA (sI (sA (sI (sA (sI (sA S 40 (gI S 8 0).toNatClampNeg (((v >>> (24 &&& 31) : Int32) : Int32).toInt8.toInt32)) 8 0 ((gI S 8 0) + 1)) 40 ((gI S 8 0) + 1).toNatClampNeg (((v >>> (16 &&& 31) : Int32) : Int32).toInt8.toInt32)) 8 0 (((gI S 8 0) + 1) + 1)) 40 (((gI S 8 0) + 1) + 1).toNatClampNeg (((v >>> (8 &&& 31) : Int32) : Int32).toInt8.toInt32)) 8 0 ((((gI S 8 0) + 1) + 1) + 1)) 40 ((((gI S 8 0) + 1) + 1) + 1).toNatClampNeg (((v >>> (0 &&& 31) : Int32) : Int32).toInt8.toInt32)) ht rfl rfl ?_
  refine zv_c1 ht rfl rfl (zv_c1 ht rfl rfl ?_)
  refine zv_c1 (S' := sI (sA (sI (sA (sI (sA (sI (sA S 40 (gI S 8 0).toNatClampNeg (((v >>> (24 &&& 31) : Int32) : Int32).toInt8.toInt32)) 8 0 ((gI S 8 0) + 1)) 40 ((gI S 8 0) + 1).toNatClampNeg (((v >>> (16 &&& 31) : Int32) : Int32).toInt8.toInt32)) 8 0 (((gI S 8 0) + 1) + 1)) 40 (((gI S 8 0) + 1) + 1).toNatClampNeg (((v >>> (8 &&& 31) : Int32) : Int32).toInt8.toInt32)) 8 0 ((((gI S 8 0) + 1) + 1) + 1)) 40 ((((gI S 8 0) + 1) + 1) + 1).toNatClampNeg (((v >>> (0 &&& 31) : Int32) : Int32).toInt8.toInt32)) 8 0 (((((gI S 8 0) + 1) + 1) + 1) + 1)) ht rfl rfl ?_
  refine zv_c2 (L' := [.ref 0, .int v, .int (-8)]) ht rfl rfl ?_
  refine zv_c1 ht rfl rfl (zv_c1 ht rfl rfl ?_)
  refine zv_br ht rfl rfl rfl (fun _ => ?_) (fun h => absurd (by decide) h)
  exact zv_rt ht rfl rfl rfl rfl h5

theorem q_m_four {d : Nat} {S : zS} (hF : zFin true S) (v : Int32) {post : Outcome × zS → Prop} (s1 : vp_in (gI S 55 1592) 300) (s2 : vp_in ((gI S 55 1592) + 1) 300) (s3 : vp_in (((gI S 55 1592) + 1) + 1) 300) (s4 : vp_in ((((gI S 55 1592) + 1) + 1) + 1) 300) (h5 : post (.returned none, sI (sA (sI (sA (sI (sA (sI (sA S 1593 (gI S 55 1592).toNatClampNeg ((v >>> (24 &&& 31) : Int32) &&& (255 : Int32))) 55 1592 ((gI S 55 1592) + 1)) 1593 ((gI S 55 1592) + 1).toNatClampNeg ((v >>> (16 &&& 31) : Int32) &&& (255 : Int32))) 55 1592 (((gI S 55 1592) + 1) + 1)) 1593 (((gI S 55 1592) + 1) + 1).toNatClampNeg ((v >>> (8 &&& 31) : Int32) &&& (255 : Int32))) 55 1592 ((((gI S 55 1592) + 1) + 1) + 1)) 1593 ((((gI S 55 1592) + 1) + 1) + 1).toNatClampNeg ((v >>> (0 &&& 31) : Int32) &&& (255 : Int32))) 55 1592 (((((gI S 55 1592) + 1) + 1) + 1) + 1))) : zCall d 100 [.ref 1592, .int v] S post := by
  have ht : ztab 100 = ztb100 := rfl
  show zEv d 100 0 [.ref 1592, .int v, .retAddr 0] [] S post
  refine zv_c1 ht rfl rfl ?_
  refine zv_c2 (L' := [.ref 1592, .int v, .int 24]) ht rfl rfl ?_
  refine zv_c1 ht rfl rfl ?_
  refine zv_br ht rfl rfl rfl (fun h => absurd h (by decide)) (fun _ => ?_)
  refine zv_c1 ht rfl rfl ?_
  refine zv_gl (st' := [.ref 1593]) ht rfl hF rfl rfl rfl ?_
  refine zv_c1 ht rfl rfl ?_
  refine zv_c1 (st' := [.int (gI S 55 1592), .ref 1593]) (S' := S) ht rfl rfl ?_
  refine zv_c1 ht rfl rfl (zv_c1 ht rfl rfl (zv_c1 ht rfl rfl (zv_c1 ht rfl rfl (zv_c1 ht rfl rfl ?_))))
  refine zv_is (j := (gI S 55 1592).toNatClampNeg) (x := (v >>> (24 &&& 31) : Int32) &&& (255 : Int32)) ht rfl rfl rfl rfl rfl ⟨rfl, s1⟩ ?_
  refine zv_c1 ht rfl rfl (zv_c1 ht rfl rfl ?_)
  refine zv_c1 (st' := [.int (gI S 55 1592), .ref 1592]) (S' := sA S 1593 (gI S 55 1592).toNatClampNeg ((v >>> (24 &&& 31) : Int32) &&& (255 : Int32))) ht rfl rfl ?_
  refine zv_c1 ht rfl rfl (zv_c1 ht rfl rfl ?_)
  refine zv_c1 (S' := sI (sA S 1593 (gI S 55 1592).toNatClampNeg ((v >>> (24 &&& 31) : Int32) &&& (255 : Int32))) 55 1592 ((gI S 55 1592) + 1)) ht rfl rfl ?_
  refine zv_c2 (L' := [.ref 1592, .int v, .int 16]) ht rfl rfl ?_
  refine zv_c1 ht rfl rfl (zv_c1 ht rfl rfl ?_)
  refine zv_br ht rfl rfl rfl (fun h => absurd h (by decide)) (fun _ => ?_)
  refine zv_c1 ht rfl rfl ?_
  refine zv_gl (st' := [.ref 1593]) ht rfl hF rfl rfl rfl ?_
  refine zv_c1 ht rfl rfl ?_
  refine zv_c1 (st' := [.int ((gI S 55 1592) + 1), .ref 1593]) (S' := sI (sA S 1593 (gI S 55 1592).toNatClampNeg ((v >>> (24 &&& 31) : Int32) &&& (255 : Int32))) 55 1592 ((gI S 55 1592) + 1)) ht rfl rfl ?_
  refine zv_c1 ht rfl rfl (zv_c1 ht rfl rfl (zv_c1 ht rfl rfl (zv_c1 ht rfl rfl (zv_c1 ht rfl rfl ?_))))
  refine zv_is (j := ((gI S 55 1592) + 1).toNatClampNeg) (x := (v >>> (16 &&& 31) : Int32) &&& (255 : Int32)) ht rfl rfl rfl rfl rfl ⟨rfl, s2⟩ ?_
  refine zv_c1 ht rfl rfl (zv_c1 ht rfl rfl ?_)
  refine zv_c1 (st' := [.int ((gI S 55 1592) + 1), .ref 1592]) (S' := sA (sI (sA S 1593 (gI S 55 1592).toNatClampNeg ((v >>> (24 &&& 31) : Int32) &&& (255 : Int32))) 55 1592 ((gI S 55 1592) + 1)) 1593 ((gI S 55 1592) + 1).toNatClampNeg ((v >>> (16 &&& 31) : Int32) &&& (255 : Int32))) ht rfl rfl ?_
  refine zv_c1 ht rfl rfl (zv_c1 ht rfl rfl ?_)
  refine zv_c1 (S' := sI (sA (sI (sA S 1593 (gI S 55 1592).toNatClampNeg ((v >>> (24 &&& 31) : Int32) &&& (255 : Int32))) 55 1592 ((gI S 55 1592) + 1)) 1593 ((gI S 55 1592) + 1).toNatClampNeg ((v >>> (16 &&& 31) : Int32) &&& (255 : Int32))) 55 1592 (((gI S 55 1592) + 1) + 1)) ht rfl rfl ?_
  refine zv_c2 (L' := [.ref 1592, .int v, .int 8]) ht rfl rfl ?_
  refine zv_c1 ht rfl rfl (zv_c1 ht rfl rfl ?_)
  refine zv_br ht rfl rfl rfl (fun h => absurd h (by decide)) (fun _ => ?_)
  refine zv_c1 ht rfl rfl ?_
  refine zv_gl (st' := [.ref 1593]) ht rfl hF rfl rfl rfl ?_
  refine zv_c1 ht rfl rfl ?_
  refine zv_c1 (st' := [.int (((gI S 55 1592) + 1) + 1), .ref 1593]) (S' := sI (sA (sI (sA S 1593 (gI S 55 1592).toNatClampNeg ((v >>> (24 &&& 31) : Int32) &&& (255 : Int32))) 55 1592 ((gI S 55 1592) + 1)) 1593 ((gI S 55 1592) + 1).toNatClampNeg ((v >>> (16 &&& 31) : Int32) &&& (255 : Int32))) 55 1592 (((gI S 55 1592) + 1) + 1)) ht rfl rfl ?_
  refine zv_c1 ht rfl rfl (zv_c1 ht rfl rfl (zv_c1 ht rfl rfl (zv_c1 ht rfl rfl (zv_c1 ht rfl rfl ?_))))
  refine zv_is (j := (((gI S 55 1592) + 1) + 1).toNatClampNeg) (x := (v >>> (8 &&& 31) : Int32) &&& (255 : Int32)) ht rfl rfl rfl rfl rfl ⟨rfl, s3⟩ ?_
  refine zv_c1 ht rfl rfl (zv_c1 ht rfl rfl ?_)
  refine zv_c1 (st' := [.int (((gI S 55 1592) + 1) + 1), .ref 1592]) (S' := sA (sI (sA (sI (sA S 1593 (gI S 55 1592).toNatClampNeg ((v >>> (24 &&& 31) : Int32) &&& (255 : Int32))) 55 1592 ((gI S 55 1592) + 1)) 1593 ((gI S 55 1592) + 1).toNatClampNeg ((v >>> (16 &&& 31) : Int32) &&& (255 : Int32))) 55 1592 (((gI S 55 1592) + 1) + 1)) 1593 (((gI S 55 1592) + 1) + 1).toNatClampNeg ((v >>> (8 &&& 31) : Int32) &&& (255 : Int32))) ht rfl rfl ?_
  refine zv_c1 ht rfl rfl (zv_c1 ht rfl rfl ?_)
  refine zv_c1 (S' := sI (sA (sI (sA (sI (sA S 1593 (gI S 55 1592).toNatClampNeg ((v >>> (24 &&& 31) : Int32) &&& (255 : Int32))) 55 1592 ((gI S 55 1592) + 1)) 1593 ((gI S 55 1592) + 1).toNatClampNeg ((v >>> (16 &&& 31) : Int32) &&& (255 : Int32))) 55 1592 (((gI S 55 1592) + 1) + 1)) 1593 (((gI S 55 1592) + 1) + 1).toNatClampNeg ((v >>> (8 &&& 31) : Int32) &&& (255 : Int32))) 55 1592 ((((gI S 55 1592) + 1) + 1) + 1)) ht rfl rfl ?_
  refine zv_c2 (L' := [.ref 1592, .int v, .int 0]) ht rfl rfl ?_
  refine zv_c1 ht rfl rfl (zv_c1 ht rfl rfl ?_)
  refine zv_br ht rfl rfl rfl (fun h => absurd h (by decide)) (fun _ => ?_)
  refine zv_c1 ht rfl rfl ?_
  refine zv_gl (st' := [.ref 1593]) ht rfl hF rfl rfl rfl ?_
  refine zv_c1 ht rfl rfl ?_
  refine zv_c1 (st' := [.int ((((gI S 55 1592) + 1) + 1) + 1), .ref 1593]) (S' := sI (sA (sI (sA (sI (sA S 1593 (gI S 55 1592).toNatClampNeg ((v >>> (24 &&& 31) : Int32) &&& (255 : Int32))) 55 1592 ((gI S 55 1592) + 1)) 1593 ((gI S 55 1592) + 1).toNatClampNeg ((v >>> (16 &&& 31) : Int32) &&& (255 : Int32))) 55 1592 (((gI S 55 1592) + 1) + 1)) 1593 (((gI S 55 1592) + 1) + 1).toNatClampNeg ((v >>> (8 &&& 31) : Int32) &&& (255 : Int32))) 55 1592 ((((gI S 55 1592) + 1) + 1) + 1)) ht rfl rfl ?_
  refine zv_c1 ht rfl rfl (zv_c1 ht rfl rfl (zv_c1 ht rfl rfl (zv_c1 ht rfl rfl (zv_c1 ht rfl rfl ?_))))
  refine zv_is (j := ((((gI S 55 1592) + 1) + 1) + 1).toNatClampNeg) (x := (v >>> (0 &&& 31) : Int32) &&& (255 : Int32)) ht rfl rfl rfl rfl rfl ⟨rfl, s4⟩ ?_
  refine zv_c1 ht rfl rfl (zv_c1 ht rfl rfl ?_)
  refine zv_c1 (st' := [.int ((((gI S 55 1592) + 1) + 1) + 1), .ref 1592]) (S' := sA (sI (sA (sI (sA (sI (sA S 1593 (gI S 55 1592).toNatClampNeg ((v >>> (24 &&& 31) : Int32) &&& (255 : Int32))) 55 1592 ((gI S 55 1592) + 1)) 1593 ((gI S 55 1592) + 1).toNatClampNeg ((v >>> (16 &&& 31) : Int32) &&& (255 : Int32))) 55 1592 (((gI S 55 1592) + 1) + 1)) 1593 (((gI S 55 1592) + 1) + 1).toNatClampNeg ((v >>> (8 &&& 31) : Int32) &&& (255 : Int32))) 55 1592 ((((gI S 55 1592) + 1) + 1) + 1)) 1593 ((((gI S 55 1592) + 1) + 1) + 1).toNatClampNeg ((v >>> (0 &&& 31) : Int32) &&& (255 : Int32))) ht rfl rfl ?_
  refine zv_c1 ht rfl rfl (zv_c1 ht rfl rfl ?_)
  refine zv_c1 (S' := sI (sA (sI (sA (sI (sA (sI (sA S 1593 (gI S 55 1592).toNatClampNeg ((v >>> (24 &&& 31) : Int32) &&& (255 : Int32))) 55 1592 ((gI S 55 1592) + 1)) 1593 ((gI S 55 1592) + 1).toNatClampNeg ((v >>> (16 &&& 31) : Int32) &&& (255 : Int32))) 55 1592 (((gI S 55 1592) + 1) + 1)) 1593 (((gI S 55 1592) + 1) + 1).toNatClampNeg ((v >>> (8 &&& 31) : Int32) &&& (255 : Int32))) 55 1592 ((((gI S 55 1592) + 1) + 1) + 1)) 1593 ((((gI S 55 1592) + 1) + 1) + 1).toNatClampNeg ((v >>> (0 &&& 31) : Int32) &&& (255 : Int32))) 55 1592 (((((gI S 55 1592) + 1) + 1) + 1) + 1)) ht rfl rfl ?_
  refine zv_c2 (L' := [.ref 1592, .int v, .int (-8)]) ht rfl rfl ?_
  refine zv_c1 ht rfl rfl (zv_c1 ht rfl rfl ?_)
  refine zv_br ht rfl rfl rfl (fun _ => ?_) (fun h => absurd (by decide) h)
  exact zv_rt ht rfl rfl rfl rfl h5

