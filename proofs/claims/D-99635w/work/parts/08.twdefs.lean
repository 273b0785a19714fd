set_option maxRecDepth 100000
def tw_begin_L57 (F : Nat) : Nat → Int32 → Int32 → bqS → Option (bqS)
  | 0, _, _, _ => none
  | k + 1, x1, x2, σ =>
    if (9 : Int32) ≤ x2 then (some (σ)) else (bq_ck (x1 + x2) 18 (bq_lt (bq_up σ 4 ((x1 + x2).toNatClampNeg) (0 : Int32)) fun σ14 => bq_lt (x2 + (1 : Int32)) fun v16 => tw_begin_L57 F k x1 v16 σ14))
def tw_begin (F : Nat) (σ : bqS) (x1 : Int32) : Option (bqS) :=
  bq_ck x1 18 (bq_lt (bq_up σ 4 x1.toNatClampNeg (3 : Int32)) fun σ1 => bq_ck (x1 + (1 : Int32)) 18 (bq_lt (bq_up σ1 4 ((x1 + (1 : Int32)).toNatClampNeg) (3 : Int32)) fun σ3 => bq_ck (x1 + (2 : Int32)) 18 (bq_lt (bq_up σ3 4 ((x1 + (2 : Int32)).toNatClampNeg) (0 : Int32)) fun σ5 => bq_ck (x1 + (3 : Int32)) 18 (bq_lt (bq_up σ5 4 ((x1 + (3 : Int32)).toNatClampNeg) (20 : Int32)) fun σ7 => bq_ck (x1 + (4 : Int32)) 18 (bq_lt (bq_up σ7 4 ((x1 + (4 : Int32)).toNatClampNeg) (2 : Int32)) fun σ9 => bq_ck (x1 + (5 : Int32)) 18 (bq_lt (bq_up σ9 4 ((x1 + (5 : Int32)).toNatClampNeg) (60 : Int32)) fun σ11 => bq_b1 (tw_begin_L57 F F x1 (6 : Int32) σ11) fun σ17 => some (σ17)))))))
def tw_thrown (σ : bqS) : Option (Int32) :=
  some (σ 0 4)
def tw_feed_L23 (F : Nat) : Nat → Int32 → Int32 → Int32 → Int32 → Int32 → Int32 → bqS → Option (bqS)
  | 0, _, _, _, _, _, _, _ => none
  | k + 1, x1, x2, x3, x4, x5, x6, σ =>
    if (20 : Int32) ≤ x6 then (some (σ)) else (if (4 : Int32) ≤ x6 then (if (8 : Int32) ≤ x6 then (if (12 : Int32) ≤ x6 then (if (16 : Int32) ≤ x6 then (bq_ck (σ 0 15) 700 (bq_lt (bq_up σ 13 ((σ 0 15).toNatClampNeg) ((x5 >>> (((24 : Int32) - ((8 : Int32) * (x6 - x6 / (4 : Int32) * (4 : Int32)))) &&& 31)) &&& (255 : Int32))) fun σ8 => bq_lt (bq_up σ8 0 15 ((σ8 0 15) + (1 : Int32))) fun σ10 => bq_lt (x6 + (1 : Int32)) fun v11 => tw_feed_L23 F k x1 x2 x3 x4 x5 v11 σ10)) else (bq_ck (σ 0 15) 700 (bq_lt (bq_up σ 13 ((σ 0 15).toNatClampNeg) ((x4 >>> (((24 : Int32) - ((8 : Int32) * (x6 - x6 / (4 : Int32) * (4 : Int32)))) &&& 31)) &&& (255 : Int32))) fun σ12 => bq_lt (bq_up σ12 0 15 ((σ12 0 15) + (1 : Int32))) fun σ14 => bq_lt (x6 + (1 : Int32)) fun v15 => tw_feed_L23 F k x1 x2 x3 x4 x5 v15 σ14))) else (bq_ck (σ 0 15) 700 (bq_lt (bq_up σ 13 ((σ 0 15).toNatClampNeg) ((x3 >>> (((24 : Int32) - ((8 : Int32) * (x6 - x6 / (4 : Int32) * (4 : Int32)))) &&& 31)) &&& (255 : Int32))) fun σ16 => bq_lt (bq_up σ16 0 15 ((σ16 0 15) + (1 : Int32))) fun σ18 => bq_lt (x6 + (1 : Int32)) fun v19 => tw_feed_L23 F k x1 x2 x3 x4 x5 v19 σ18))) else (bq_ck (σ 0 15) 700 (bq_lt (bq_up σ 13 ((σ 0 15).toNatClampNeg) ((x2 >>> (((24 : Int32) - ((8 : Int32) * (x6 - x6 / (4 : Int32) * (4 : Int32)))) &&& 31)) &&& (255 : Int32))) fun σ20 => bq_lt (bq_up σ20 0 15 ((σ20 0 15) + (1 : Int32))) fun σ22 => bq_lt (x6 + (1 : Int32)) fun v23 => tw_feed_L23 F k x1 x2 x3 x4 x5 v23 σ22))) else (bq_ck (σ 0 15) 700 (bq_lt (bq_up σ 13 ((σ 0 15).toNatClampNeg) ((x1 >>> (((24 : Int32) - ((8 : Int32) * (x6 - x6 / (4 : Int32) * (4 : Int32)))) &&& 31)) &&& (255 : Int32))) fun σ24 => bq_lt (bq_up σ24 0 15 ((σ24 0 15) + (1 : Int32))) fun σ26 => bq_lt (x6 + (1 : Int32)) fun v27 => tw_feed_L23 F k x1 x2 x3 x4 x5 v27 σ26)))
def tw_feed (F : Nat) (σ : bqS) (x1 : Int32) (x2 : Int32) (x3 : Int32) (x4 : Int32) (x5 : Int32) : Option (Int32 × bqS) :=
  bq_lt (bq_up σ 0 4 (0 : Int32)) fun σ1 => if (σ1 0 15) + (20 : Int32) ≤ (700 : Int32) then (bq_b1 (tw_feed_L23 F F x1 x2 x3 x4 x5 (0 : Int32) σ1) fun σ28 => some (σ28 0 15, σ28)) else (some ((-1 : Int32), σ1))
def tw_fail (σ : bqS) (x1 : Int32) : Option (Int32 × bqS) :=
  bq_lt (bq_up σ 0 4 x1) fun σ1 => some ((0 : Int32), σ1)
def tw_byteAt (σ : bqS) (x1 : Int32) : Option (Int32) :=
  if σ 0 17 ≤ x1 then (some ((-1 : Int32))) else (bq_ck x1 700 (some (σ 13 x1.toNatClampNeg)))
def tw_isLetter (x0 : Int32) : Option (Int32) :=
  if x0 < (97 : Int32) then (some ((0 : Int32))) else (if (122 : Int32) < x0 then (some ((0 : Int32))) else (some ((1 : Int32))))
def tw_isDigit (x0 : Int32) : Option (Int32) :=
  if x0 < (48 : Int32) then (some ((0 : Int32))) else (if (57 : Int32) < x0 then (some ((0 : Int32))) else (some ((1 : Int32))))
def tw_isMark (x0 : Int32) : Option (Int32) :=
  if x0 = (59 : Int32) then (some ((1 : Int32))) else (if x0 = (40 : Int32) then (some ((1 : Int32))) else (if x0 = (41 : Int32) then (some ((1 : Int32))) else (if x0 = (43 : Int32) then (some ((1 : Int32))) else (if x0 = (45 : Int32) then (some ((1 : Int32))) else (if x0 = (42 : Int32) then (some ((1 : Int32))) else (if x0 = (47 : Int32) then (some ((1 : Int32))) else (if x0 = (60 : Int32) then (some ((1 : Int32))) else (if x0 = (61 : Int32) then (some ((1 : Int32))) else (some ((0 : Int32)))))))))))
def tw_stepOn_L0 (F : Nat) : Nat → bqS → Option (bqS)
  | 0, _ => none
  | k + 1, σ =>
    bq_b1 (tw_byteAt σ (σ 0 16)) fun v1 => if v1 = (32 : Int32) then (bq_lt (bq_up σ 0 16 ((σ 0 16) + (1 : Int32))) fun σ3 => tw_stepOn_L0 F k σ3) else (bq_b1 (tw_byteAt σ (σ 0 16)) fun v4 => if v4 = (10 : Int32) then (bq_lt (bq_up σ 0 16 ((σ 0 16) + (1 : Int32))) fun σ6 => tw_stepOn_L0 F k σ6) else (some (σ)))
def tw_stepOn_L123 (F : Nat) : Nat → bqS → Option (bqS)
  | 0, _ => none
  | k + 1, σ =>
    bq_b1 (tw_byteAt σ (σ 0 16)) fun v23 => bq_b1 (tw_isDigit v23) fun v24 => if v24 = (0 : Int32) then (some (σ)) else (bq_b1 (tw_byteAt σ (σ 0 16)) fun v26 => bq_lt (bq_up σ 0 19 (if ((((10 : Int32) * (σ 0 19)) + v26) - (48 : Int32)) < (100000 : Int32) then ((((10 : Int32) * (σ 0 19)) + v26) - (48 : Int32)) else (100000 : Int32))) fun σ27 => bq_lt (bq_up σ27 0 16 ((σ27 0 16) + (1 : Int32))) fun σ28 => tw_stepOn_L123 F k σ28)
def tw_stepOn_L76 (F : Nat) : Nat → bqS → Option (bqS)
  | 0, _ => none
  | k + 1, σ =>
    bq_b1 (tw_byteAt σ (σ 0 16)) fun v32 => bq_b1 (tw_isLetter v32) fun v33 => if v33 = (0 : Int32) then (some (σ)) else (bq_lt (bq_up σ 0 16 ((σ 0 16) + (1 : Int32))) fun σ35 => tw_stepOn_L76 F k σ35)
def tw_stepOn (F : Nat) (σ : bqS) : Option (bqS) :=
  bq_b1 (tw_stepOn_L0 F F σ) fun σ7 => bq_lt (bq_up σ7 0 20 (σ7 0 16)) fun σ8 => bq_b1 (tw_byteAt σ8 (σ8 0 16)) fun v9 => if v9 = (-1 : Int32) then (bq_lt (bq_up σ8 0 18 (0 : Int32)) fun σ39 => bq_lt (bq_up σ39 0 21 (σ39 0 16)) fun σ40 => some (σ40)) else (bq_b1 (tw_isLetter v9) fun v11 => if v11 = (0 : Int32) then (bq_b1 (tw_isDigit v9) fun v13 => if v13 = (0 : Int32) then (bq_lt (bq_up σ8 0 16 ((σ8 0 16) + (1 : Int32))) fun σ15 => bq_b1 (tw_isMark v9) fun v16 => if v16 = (0 : Int32) then (bq_lt (bq_up σ15 0 18 (4 : Int32)) fun σ18 => bq_lt (bq_up σ18 0 21 (σ18 0 16)) fun σ19 => some (σ19)) else (bq_lt (bq_up σ15 0 18 (3 : Int32)) fun σ20 => bq_lt (bq_up σ20 0 21 (σ20 0 16)) fun σ21 => some (σ21))) else (bq_lt (bq_up σ8 0 19 (0 : Int32)) fun σ22 => bq_b1 (tw_stepOn_L123 F F σ22) fun σ29 => bq_lt (bq_up σ29 0 18 (2 : Int32)) fun σ30 => bq_lt (bq_up σ30 0 21 (σ30 0 16)) fun σ31 => some (σ31))) else (bq_b1 (tw_stepOn_L76 F F σ8) fun σ36 => bq_lt (bq_up σ36 0 18 (1 : Int32)) fun σ37 => bq_lt (bq_up σ37 0 21 (σ37 0 16)) fun σ38 => some (σ38)))
def tw_is_L39 (F : Nat) (j1 : Nat) (σ : bqS) : Nat → Int32 → Int32 → Option (Int32)
  | 0, _, _ => none
  | k + 1, x2, x3 =>
    if x2 = (0 : Int32) then (some (x2)) else (if bq_slen j1 ≤ x3 then (some (x2)) else (bq_ck x3 (bqSL j1) (bq_ck ((σ 0 20) + x3) 700 (if bq_schr j1 x3.toNatClampNeg = σ 13 ((σ 0 20) + x3).toNatClampNeg then (bq_lt (x3 + (1 : Int32)) fun v8 => tw_is_L39 F j1 σ k (1 : Int32) v8) else (bq_lt (x3 + (1 : Int32)) fun v7 => tw_is_L39 F j1 σ k (0 : Int32) v7)))))
def tw_is_J35 (F : Nat) (j1 : Nat) (σ : bqS) : Option (Int32) :=
  bq_b1 (tw_is_L39 F j1 σ F (0 : Int32) (0 : Int32)) fun v9 => bq_bb v9 (some (v9))
def tw_is (F : Nat) (σ : bqS) (j1 : Nat) : Option (Int32) :=
  if σ 0 22 = (0 : Int32) then (if σ 0 18 = (1 : Int32) then (if bq_slen j1 = (σ 0 21) - (σ 0 20) then (bq_b1 (tw_is_L39 F j1 σ F (1 : Int32) (0 : Int32)) fun v13 => bq_bb v13 (some (v13))) else (tw_is_J35 F j1 σ)) else (tw_is_J35 F j1 σ)) else (tw_is_J35 F j1 σ)
def tw_which_L2 (F : Nat) (q1 : Nat) (σ : bqS) : Nat → Int32 → Option (Nat × Int32)
  | 0, _ => none
  | k + 1, x2 =>
    bq_q3 q1 (if Int32.ofNat (bqSN q1) ≤ x2 then (some (1, x2)) else (bq_q3 q1 (bq_ck x2 (bqSN q1) (bq_b1 (tw_is F σ (bqSA q1 x2.toNatClampNeg)) fun v5 => if v5 = (0 : Int32) then (bq_lt (x2 + (1 : Int32)) fun v7 => tw_which_L2 F q1 σ k v7) else (some (0, x2))))))
def tw_which (F : Nat) (σ : bqS) (q1 : Nat) : Option (Int32) :=
  bq_b2 (tw_which_L2 F q1 σ F (0 : Int32)) fun t8 v9 => if t8 = 0 then (some (v9)) else (some ((-1 : Int32)))
def tw_wrong (σ : bqS) (x1 : Int32) : Option (bqS) :=
  if σ 0 22 = (0 : Int32) then (bq_lt (bq_up σ 0 22 x1) fun σ2 => bq_lt (bq_up σ2 0 23 (σ2 0 20)) fun σ3 => some (σ3)) else (some (σ))
def tw_numberNow_J54 (σ : bqS) : Option (Int32 × bqS) :=
  bq_b1 (tw_wrong σ (2 : Int32)) fun σ4 => if σ4 0 22 = (0 : Int32) then (some (σ4 0 19, σ4)) else (some ((0 : Int32), σ4))
def tw_numberNow (σ : bqS) (x1 : Int32) (x2 : Int32) : Option (Int32 × bqS) :=
  if σ 0 22 = (0 : Int32) then (if σ 0 18 = (2 : Int32) then (if (4 : Int32) < (σ 0 21) - (σ 0 20) then (tw_numberNow_J54 σ) else (if σ 0 19 < x1 then (tw_numberNow_J54 σ) else (if σ 0 19 ≤ x2 then (if σ 0 22 = (0 : Int32) then (some (σ 0 19, σ)) else (some ((0 : Int32), σ))) else (tw_numberNow_J54 σ)))) else (bq_b1 (tw_wrong σ (1 : Int32)) fun σ9 => if σ9 0 22 = (0 : Int32) then (some (σ9 0 19, σ9)) else (some ((0 : Int32), σ9)))) else (some ((0 : Int32), σ))
def tw_readNumber (F : Nat) (σ : bqS) (x1 : Int32) (x2 : Int32) : Option (Int32 × bqS) :=
  bq_b2 (tw_numberNow σ x1 x2) fun v1 σ2 => if σ2 0 22 = (0 : Int32) then (bq_b1 (tw_stepOn F σ2) fun σ4 => some (v1, σ4)) else (some (v1, σ2))
def tw_saySky (F : Nat) (σ : bqS) : Option (bqS) :=
  bq_b1 (tw_stepOn F σ) fun σ1 => bq_b2 (tw_readNumber F σ1 (1 : Int32) (6 : Int32)) fun v2 σ3 => bq_lt (bq_up σ3 4 9 v2) fun σ4 => bq_b2 (tw_readNumber F σ4 (1 : Int32) (5 : Int32)) fun v5 σ6 => bq_lt (bq_up σ6 4 10 v5) fun σ7 => some (σ7)
def tw_isMarked (σ : bqS) (x1 : Int32) : Option (Int32) :=
  if σ 0 22 = (0 : Int32) then (if σ 0 18 = (3 : Int32) then (bq_ck (σ 0 20) 700 (if σ 13 (σ 0 20).toNatClampNeg = x1 then (some ((1 : Int32))) else (some ((0 : Int32))))) else (some ((0 : Int32)))) else (some ((0 : Int32)))
def tw_lay (σ : bqS) (x1 : Int32) : Option (bqS) :=
  if σ 0 22 = (0 : Int32) then (if σ 0 27 = (0 : Int32) then (bq_lt ((9 : Int32) + (6 : Int32)) fun v3 => if σ 0 27 = (0 : Int32) then (bq_ck v3 18 (bq_ck ((700 : Int32) + (σ 4 v3.toNatClampNeg)) 1400 (bq_lt (bq_up σ 9 (((700 : Int32) + (σ 4 v3.toNatClampNeg)).toNatClampNeg) x1) fun σ6 => bq_ck v3 18 (bq_ck v3 18 (bq_lt (bq_up σ6 4 v3.toNatClampNeg ((σ6 4 v3.toNatClampNeg) + (1 : Int32))) fun σ9 => some (σ9)))))) else (bq_ck v3 18 (bq_ck ((700 : Int32) + (σ 4 v3.toNatClampNeg)) 1400 (bq_lt (bq_up σ 10 (((700 : Int32) + (σ 4 v3.toNatClampNeg)).toNatClampNeg) x1) fun σ12 => bq_ck v3 18 (bq_ck v3 18 (bq_lt (bq_up σ12 4 v3.toNatClampNeg ((σ12 4 v3.toNatClampNeg) + (1 : Int32))) fun σ15 => some (σ15))))))) else (bq_lt ((9 : Int32) + (7 : Int32)) fun v17 => if σ 0 27 = (0 : Int32) then (bq_ck v17 18 (bq_ck ((700 : Int32) + (σ 4 v17.toNatClampNeg)) 1400 (bq_lt (bq_up σ 9 (((700 : Int32) + (σ 4 v17.toNatClampNeg)).toNatClampNeg) x1) fun σ20 => bq_ck v17 18 (bq_ck v17 18 (bq_lt (bq_up σ20 4 v17.toNatClampNeg ((σ20 4 v17.toNatClampNeg) + (1 : Int32))) fun σ23 => some (σ23)))))) else (bq_ck v17 18 (bq_ck ((700 : Int32) + (σ 4 v17.toNatClampNeg)) 1400 (bq_lt (bq_up σ 10 (((700 : Int32) + (σ 4 v17.toNatClampNeg)).toNatClampNeg) x1) fun σ26 => bq_ck v17 18 (bq_ck v17 18 (bq_lt (bq_up σ26 4 v17.toNatClampNeg ((σ26 4 v17.toNatClampNeg) + (1 : Int32))) fun σ29 => some (σ29)))))))) else (some (σ))
def tw_mark (F : Nat) (σ : bqS) (x1 : Int32) : Option (bqS) :=
  if σ 0 22 = (0 : Int32) then (bq_b1 (tw_isMarked σ x1) fun v4 => if v4 = (0 : Int32) then (bq_b1 (tw_wrong σ (1 : Int32)) fun σ8 => if σ8 0 22 = (0 : Int32) then (bq_b1 (tw_stepOn F σ8) fun σ10 => some (σ10)) else (some (σ8))) else (if σ 0 22 = (0 : Int32) then (bq_b1 (tw_stepOn F σ) fun σ7 => some (σ7)) else (some (σ)))) else (if σ 0 22 = (0 : Int32) then (bq_b1 (tw_stepOn F σ) fun σ3 => some (σ3)) else (some (σ)))
def tw_isOf (x0 : Int32) (x1 : Int32) : Option (Int32) :=
  if (x0 >>> (x1 &&& 31)) &&& (1 : Int32) = (1 : Int32) then (some ((1 : Int32))) else (some ((0 : Int32)))
def tw_cellNow_J60 (σ : bqS) (x2 : Int32) : Option (Int32 × bqS) :=
  bq_lt (bq_up σ 0 26 (1 : Int32)) fun σ5 => if σ5 0 22 = (0 : Int32) then (some (x2, σ5)) else (some ((0 : Int32), σ5))
def tw_cellNow_J40 (σ : bqS) (x1 : Int32) (x2 : Int32) : Option (Int32 × bqS) :=
  if σ 0 22 = (0 : Int32) then (bq_b1 (tw_isOf x1 x2) fun v7 => if v7 = (0 : Int32) then (tw_cellNow_J60 σ x2) else (bq_b1 (tw_wrong σ (4 : Int32)) fun σ9 => tw_cellNow_J60 σ9 x2)) else (tw_cellNow_J60 σ x2)
def tw_cellNow (σ : bqS) (x1 : Int32) : Option (Int32 × bqS) :=
  bq_b2 (tw_numberNow σ (0 : Int32) (9999 : Int32)) fun v1 σ2 => if σ2 0 22 = (0 : Int32) then (if v1 < (σ2 4 9) * (σ2 4 10) then (tw_cellNow_J40 σ2 x1 v1) else (bq_b1 (tw_wrong σ2 (3 : Int32)) fun σ11 => tw_cellNow_J40 σ11 x1 v1)) else (tw_cellNow_J40 σ2 x1 v1)
def tw_sayWoman_J17 (F : Nat) (σ : bqS) (x1 : Int32) : Option (bqS) :=
  if σ 0 22 = (0 : Int32) then (bq_b1 (tw_stepOn F σ) fun σ3 => bq_lt ((6 : Int32) + (σ3 4 11)) fun v4 => bq_ck v4 12 (bq_lt (bq_up σ3 6 v4.toNatClampNeg x1) fun σ5 => bq_b2 (tw_readNumber F σ5 (0 : Int32) (9 : Int32)) fun v7 σ8 => bq_ck v4 12 (bq_lt (bq_up σ8 7 v4.toNatClampNeg v7) fun σ9 => bq_b2 (tw_cellNow σ9 (0 : Int32)) fun v11 σ12 => bq_ck v4 12 (bq_lt (bq_up σ12 8 v4.toNatClampNeg v11) fun σ13 => if σ13 0 22 = (0 : Int32) then (bq_b1 (tw_stepOn F σ13) fun σ16 => bq_lt (bq_up σ16 4 11 ((σ16 4 11) + (1 : Int32))) fun σ17 => some (σ17)) else (some (σ13)))))) else (some (σ))
def tw_sayWoman (F : Nat) (σ : bqS) (x1 : Int32) : Option (bqS) :=
  if σ 4 11 = (6 : Int32) then (bq_b1 (tw_wrong σ (2 : Int32)) fun σ18 => tw_sayWoman_J17 F σ18 x1) else (tw_sayWoman_J17 F σ x1)
def tw_sayBlue (F : Nat) (σ : bqS) : Option (bqS) :=
  bq_b1 (tw_stepOn F σ) fun σ1 => bq_b2 (tw_cellNow σ1 (σ1 0 25)) fun v2 σ3 => if σ3 0 22 = (0 : Int32) then (bq_b1 (tw_stepOn F σ3) fun σ5 => bq_lt (bq_up σ5 0 25 ((σ5 0 25) ||| ((1 : Int32) <<< (v2 &&& 31)))) fun σ6 => bq_b2 (tw_readNumber F σ6 (0 : Int32) (99 : Int32)) fun v7 σ8 => bq_ck ((30 : Int32) + v2) 60 (bq_lt (bq_up σ8 5 (((30 : Int32) + v2).toNatClampNeg) v7) fun σ9 => some (σ9))) else (some (σ3))
def tw_sayPegs_L17 (F : Nat) : Nat → bqS → Option (Nat × bqS)
  | 0, _ => none
  | k + 1, σ =>
    if σ 0 22 = (0 : Int32) then (if σ 0 18 = (2 : Int32) then (bq_b2 (tw_cellNow σ (σ 4 17)) fun v5 σ6 => if σ6 0 22 = (0 : Int32) then (bq_b1 (tw_stepOn F σ6) fun σ8 => bq_lt (bq_up σ8 4 17 ((σ8 4 17) ||| ((1 : Int32) <<< (v5 &&& 31)))) fun σ9 => tw_sayPegs_L17 F k σ9) else (some (0, σ6))) else (some (1, σ))) else (some (1, σ))
def tw_sayPegs (F : Nat) (σ : bqS) : Option (bqS) :=
  bq_b1 (tw_stepOn F σ) fun σ1 => if σ1 0 18 = (2 : Int32) then (bq_b2 (tw_sayPegs_L17 F F σ1) fun t10 σ11 => if t10 = 0 then (some (σ11)) else (some (σ11))) else (bq_b1 (tw_wrong σ1 (1 : Int32)) fun σ12 => bq_b2 (tw_sayPegs_L17 F F σ12) fun t13 σ14 => if t13 = 0 then (some (σ14)) else (some (σ14)))
def tw_takeHalf_L2 (F : Nat) (q0 : Nat) (n0 : Nat) : Nat → Int32 → bqS → Option (bqS)
  | 0, _, _ => none
  | k + 1, x1, σ =>
    if (Int32.ofNat n0) / (2 : Int32) ≤ x1 then (some (σ)) else (bq_ck (((Int32.ofNat n0) / (2 : Int32)) + x1) n0 (bq_ck x1 n0 (bq_lt (bq_up σ q0 x1.toNatClampNeg (σ q0 (((Int32.ofNat n0) / (2 : Int32)) + x1).toNatClampNeg)) fun σ3 => bq_lt (x1 + (1 : Int32)) fun v5 => tw_takeHalf_L2 F q0 n0 k v5 σ3)))
def tw_takeHalf (F : Nat) (σ : bqS) (q0 : Nat) (n0 : Nat) : Option (bqS) :=
  bq_b1 (tw_takeHalf_L2 F q0 n0 F (0 : Int32) σ) fun σ6 => some (σ6)
def tw_takeOver_L87 (F : Nat) : Nat → Int32 → bqS → Option (bqS)
  | 0, _, _ => none
  | k + 1, x1, σ =>
    if (30 : Int32) ≤ x1 then (some (σ)) else (bq_b1 (tw_isOf (σ 0 34) x1) fun v14 => if v14 = (0 : Int32) then (bq_ck x1 60 (bq_ck x1 30 (bq_lt (bq_up σ 14 x1.toNatClampNeg (σ 5 x1.toNatClampNeg)) fun σ17 => bq_lt (x1 + (1 : Int32)) fun v19 => tw_takeOver_L87 F k v19 σ17))) else (bq_ck x1 30 (bq_lt (bq_up σ 14 x1.toNatClampNeg (0 : Int32)) fun σ20 => bq_lt (x1 + (1 : Int32)) fun v22 => tw_takeOver_L87 F k v22 σ20)))
def tw_takeOver_L128 (F : Nat) : Nat → Int32 → bqS → Option (bqS)
  | 0, _, _ => none
  | k + 1, x1, σ =>
    if (6 : Int32) ≤ x1 then (some (σ)) else (if σ 4 2 ≤ x1 then (if (0 : Int32) = (0 : Int32) then (bq_ck x1 6 (bq_lt (bq_up σ 12 x1.toNatClampNeg (0 : Int32)) fun σ27 => if (0 : Int32) = (0 : Int32) then (bq_ck x1 6 (bq_lt (bq_up σ27 15 x1.toNatClampNeg (0 : Int32)) fun σ30 => bq_lt (x1 + (1 : Int32)) fun v32 => tw_takeOver_L128 F k v32 σ30)) else (bq_ck x1 12 (bq_ck x1 6 (bq_lt (bq_up σ27 15 x1.toNatClampNeg (σ27 8 x1.toNatClampNeg)) fun σ34 => bq_lt (x1 + (1 : Int32)) fun v36 => tw_takeOver_L128 F k v36 σ34))))) else (bq_ck x1 12 (bq_ck x1 6 (bq_lt (bq_up σ 12 x1.toNatClampNeg (σ 7 x1.toNatClampNeg)) fun σ38 => if (0 : Int32) = (0 : Int32) then (bq_ck x1 6 (bq_lt (bq_up σ38 15 x1.toNatClampNeg (0 : Int32)) fun σ41 => bq_lt (x1 + (1 : Int32)) fun v43 => tw_takeOver_L128 F k v43 σ41)) else (bq_ck x1 12 (bq_ck x1 6 (bq_lt (bq_up σ38 15 x1.toNatClampNeg (σ38 8 x1.toNatClampNeg)) fun σ45 => bq_lt (x1 + (1 : Int32)) fun v47 => tw_takeOver_L128 F k v47 σ45))))))) else (if (1 : Int32) = (0 : Int32) then (bq_ck x1 6 (bq_lt (bq_up σ 12 x1.toNatClampNeg (0 : Int32)) fun σ49 => if (1 : Int32) = (0 : Int32) then (bq_ck x1 6 (bq_lt (bq_up σ49 15 x1.toNatClampNeg (0 : Int32)) fun σ52 => bq_lt (x1 + (1 : Int32)) fun v54 => tw_takeOver_L128 F k v54 σ52)) else (bq_ck x1 12 (bq_ck x1 6 (bq_lt (bq_up σ49 15 x1.toNatClampNeg (σ49 8 x1.toNatClampNeg)) fun σ56 => bq_lt (x1 + (1 : Int32)) fun v58 => tw_takeOver_L128 F k v58 σ56))))) else (bq_ck x1 12 (bq_ck x1 6 (bq_lt (bq_up σ 12 x1.toNatClampNeg (σ 7 x1.toNatClampNeg)) fun σ60 => if (1 : Int32) = (0 : Int32) then (bq_ck x1 6 (bq_lt (bq_up σ60 15 x1.toNatClampNeg (0 : Int32)) fun σ63 => bq_lt (x1 + (1 : Int32)) fun v65 => tw_takeOver_L128 F k v65 σ63)) else (bq_ck x1 12 (bq_ck x1 6 (bq_lt (bq_up σ60 15 x1.toNatClampNeg (σ60 8 x1.toNatClampNeg)) fun σ67 => bq_lt (x1 + (1 : Int32)) fun v69 => tw_takeOver_L128 F k v69 σ67))))))))
def tw_takeOver (F : Nat) (σ : bqS) : Option (bqS) :=
  bq_b1 (tw_takeHalf F σ 4 18) fun σ1 => bq_b1 (tw_takeHalf F σ1 5 60) fun σ2 => bq_b1 (tw_takeHalf F σ2 6 12) fun σ3 => bq_b1 (tw_takeHalf F σ3 7 12) fun σ4 => bq_b1 (tw_takeHalf F σ4 8 12) fun σ5 => bq_b1 (tw_takeHalf F σ5 9 1400) fun σ6 => bq_b1 (tw_takeHalf F σ6 10 1400) fun σ7 => bq_lt (bq_up σ7 0 31 (0 : Int32)) fun σ8 => bq_lt (bq_up σ8 0 32 (σ8 4 3)) fun σ9 => bq_lt (bq_up σ9 0 33 (0 : Int32)) fun σ10 => bq_lt (bq_up σ10 0 34 (σ10 4 8)) fun σ11 => bq_lt (bq_up σ11 0 35 (0 : Int32)) fun σ12 => bq_b1 (tw_takeOver_L87 F F (0 : Int32) σ12) fun σ23 => bq_b1 (tw_takeOver_L128 F F (0 : Int32) σ23) fun σ70 => bq_lt (bq_up σ70 0 36 (0 : Int32)) fun σ71 => bq_lt (bq_up σ71 0 37 (0 : Int32)) fun σ72 => bq_lt (bq_up σ72 0 55 (0 : Int32)) fun σ73 => some (σ73)
def tw_fault (σ : bqS) : Option (Int32 × bqS) :=
  bq_lt (bq_up σ 0 4 (0 : Int32)) fun σ1 => some (σ1 0 24, σ1)
def tw_cells (σ : bqS) : Option (Int32) :=
  some ((σ 4 0) * (σ 4 1))
def tw_allBlue_L4 (F : Nat) (σ : bqS) : Nat → Int32 → Int32 → Option (Int32)
  | 0, _, _ => none
  | k + 1, x1, x2 =>
    bq_b1 (tw_cells σ) fun v1 => if v1 ≤ x2 then (some (x1)) else (bq_ck x2 30 (bq_lt (x1 + (σ 14 x2.toNatClampNeg)) fun v4 => bq_lt (x2 + (1 : Int32)) fun v5 => tw_allBlue_L4 F σ k v4 v5))
def tw_allBlue (F : Nat) (σ : bqS) : Option (Int32) :=
  bq_b1 (tw_allBlue_L4 F σ F (0 : Int32) (0 : Int32)) fun v6 => some (v6)
def tw_count (F : Nat) (σ : bqS) (x1 : Int32) : Option (Int32 × bqS) :=
  bq_lt (bq_up σ 0 4 (0 : Int32)) fun σ1 => if x1 = (0 : Int32) then (bq_b1 (tw_cells σ1) fun v3 => some (v3, σ1)) else (if x1 = (1 : Int32) then (some (σ1 4 0, σ1)) else (if x1 = (2 : Int32) then (some (σ1 4 2, σ1)) else (if x1 = (3 : Int32) then (some (σ1 0 31, σ1)) else (if x1 = (4 : Int32) then (some (σ1 0 32, σ1)) else (if x1 = (5 : Int32) then (some (σ1 4 4, σ1)) else (if x1 = (6 : Int32) then (some (σ1 4 5, σ1)) else (if x1 = (7 : Int32) then (some (σ1 0 33, σ1)) else (if x1 = (8 : Int32) then (some (σ1 0 34, σ1)) else (if x1 = (9 : Int32) then (some (σ1 0 35, σ1)) else (if x1 = (10 : Int32) then (bq_b1 (tw_allBlue F σ1) fun v14 => some (v14, σ1)) else (if x1 = (11 : Int32) then (some (σ1 0 36, σ1)) else (if x1 = (12 : Int32) then (some (σ1 0 37, σ1)) else (if x1 = (13 : Int32) then (some (σ1 0 15, σ1)) else (if x1 = (14 : Int32) then (bq_ck (x1 - (14 : Int32)) 3 (some (σ1 11 (x1 - (14 : Int32)).toNatClampNeg, σ1))) else (if x1 = (15 : Int32) then (bq_ck (x1 - (14 : Int32)) 3 (some (σ1 11 (x1 - (14 : Int32)).toNatClampNeg, σ1))) else (if x1 = (16 : Int32) then (bq_ck (x1 - (14 : Int32)) 3 (some (σ1 11 (x1 - (14 : Int32)).toNatClampNeg, σ1))) else (bq_b2 (tw_fail σ1 (1 : Int32)) fun v24 σ25 => some (v24, σ25))))))))))))))))))
def tw_isIn (x0 : Int64) (x2 : Int64) (x4 : Int64) : Option (Int32) :=
  if lg_cmp x0 x2 < (0 : Int32) then (some ((0 : Int32))) else (if (0 : Int32) < lg_cmp x0 x4 then (some ((0 : Int32))) else (some ((1 : Int32))))
def tw_isCell (σ : bqS) (x1 : Int32) : Option (Int32) :=
  bq_b1 (tw_cells σ) fun v1 => bq_b1 (tw_isIn x1.toInt64 (0 : Int64) ((v1 - (1 : Int32)).toInt64)) fun v2 => bq_bb v2 (some (v2))
def tw_columnOf (σ : bqS) (x1 : Int32) : Option (Int32) :=
  bq_nz (σ 4 0) (some (x1 - x1 / (σ 4 0) * (σ 4 0)))
def tw_rowOf (σ : bqS) (x1 : Int32) : Option (Int32) :=
  bq_nz (σ 4 0) (some (x1 / (σ 4 0)))
def tw_farOf (σ : bqS) (x1 : Int32) (x2 : Int32) : Option (Int32) :=
  bq_b1 (tw_columnOf σ x1) fun v1 => bq_b1 (tw_columnOf σ x2) fun v2 => bq_b1 (tw_rowOf σ x1) fun v3 => bq_b1 (tw_rowOf σ x2) fun v4 => some ((if 0 ≤ (v1 - v2) then (v1 - v2) else 0 - (v1 - v2)) + (if 0 ≤ (v3 - v4) then (v3 - v4) else 0 - (v3 - v4)))
def tw_besideOf_L4 (F : Nat) (σ : bqS) : Nat → Int32 → Int32 → Int32 → Option (Int32)
  | 0, _, _, _ => none
  | k + 1, x1, x2, x3 =>
    bq_b1 (tw_cells σ) fun v1 => if v1 ≤ x3 then (some (x2)) else (bq_b1 (tw_farOf σ x1 x3) fun v3 => if v3 = (1 : Int32) then (bq_lt (x2 ||| ((1 : Int32) <<< (x3 &&& 31))) fun v7 => bq_lt (x3 + (1 : Int32)) fun v8 => tw_besideOf_L4 F σ k x1 v7 v8) else (bq_lt (x2 ||| (0 : Int32)) fun v5 => bq_lt (x3 + (1 : Int32)) fun v6 => tw_besideOf_L4 F σ k x1 v5 v6))
def tw_besideOf (F : Nat) (σ : bqS) (x1 : Int32) : Option (Int32) :=
  bq_b1 (tw_besideOf_L4 F σ F x1 (0 : Int32) (0 : Int32)) fun v9 => some (v9)
def tw_girlsAt_L4 (F : Nat) (σ : bqS) : Nat → Int32 → Int32 → Int32 → Option (Int32)
  | 0, _, _, _ => none
  | k + 1, x1, x2, x3 =>
    if σ 4 2 ≤ x3 then (some (x2)) else (bq_ck x3 6 (if σ 15 x3.toNatClampNeg = x1 then (bq_lt (x2 ||| ((1 : Int32) <<< (x3 &&& 31))) fun v6 => bq_lt (x3 + (1 : Int32)) fun v7 => tw_girlsAt_L4 F σ k x1 v6 v7) else (bq_lt (x2 ||| (0 : Int32)) fun v4 => bq_lt (x3 + (1 : Int32)) fun v5 => tw_girlsAt_L4 F σ k x1 v4 v5)))
def tw_girlsAt (F : Nat) (σ : bqS) (x1 : Int32) : Option (Int32) :=
  bq_b1 (tw_girlsAt_L4 F σ F x1 (0 : Int32) (0 : Int32)) fun v8 => some (v8)
def tw_patchOf_L49 (F : Nat) (σ : bqS) : Nat → Int32 → Int32 → Int32 → Int32 → Int32 → Option (Int32)
  | 0, _, _, _, _, _ => none
  | k + 1, x2, x3, x5, x6, x7 =>
    bq_b1 (tw_cells σ) fun v8 => if v8 ≤ x7 then (some (x3)) else (bq_b1 (tw_isOf x6 x7) fun v10 => if v10 = (0 : Int32) then (bq_lt (x3 ||| (0 : Int32)) fun v12 => bq_lt (x7 + (1 : Int32)) fun v13 => tw_patchOf_L49 F σ k x2 v12 x5 x6 v13) else (bq_ck x5 30 (bq_ck x7 30 (if x2 < if 0 ≤ ((σ 14 x5.toNatClampNeg) - (σ 14 x7.toNatClampNeg)) then ((σ 14 x5.toNatClampNeg) - (σ 14 x7.toNatClampNeg)) else 0 - ((σ 14 x5.toNatClampNeg) - (σ 14 x7.toNatClampNeg)) then (bq_lt (x3 ||| (0 : Int32)) fun v17 => bq_lt (x7 + (1 : Int32)) fun v18 => tw_patchOf_L49 F σ k x2 v17 x5 x6 v18) else (bq_lt (x3 ||| ((1 : Int32) <<< (x7 &&& 31))) fun v19 => bq_lt (x7 + (1 : Int32)) fun v20 => tw_patchOf_L49 F σ k x2 v19 x5 x6 v20)))))
def tw_patchOf_L17 (F : Nat) (σ : bqS) : Nat → Int32 → Int32 → Int32 → Option (Int32)
  | 0, _, _, _ => none
  | k + 1, x2, x3, x5 =>
    bq_b1 (tw_cells σ) fun v3 => if v3 ≤ x5 then (some (x3)) else (bq_b1 (tw_isOf x3 x5) fun v5 => if v5 = (0 : Int32) then (bq_lt (x5 + (1 : Int32)) fun v23 => tw_patchOf_L17 F σ k x2 x3 v23) else (bq_b1 (tw_besideOf F σ x5) fun v7 => bq_b1 (tw_patchOf_L49 F σ F x2 x3 x5 v7 (0 : Int32)) fun v21 => bq_lt (x5 + (1 : Int32)) fun v22 => tw_patchOf_L17 F σ k x2 v21 v22))
def tw_patchOf_L7 (F : Nat) (σ : bqS) : Nat → Int32 → Int32 → Int32 → Option (Int32)
  | 0, _, _, _ => none
  | k + 1, x2, x3, x4 =>
    if (30 : Int32) ≤ x4 then (some (x3)) else (bq_b1 (tw_patchOf_L17 F σ F x2 x3 (0 : Int32)) fun v24 => bq_lt (x4 + (1 : Int32)) fun v25 => tw_patchOf_L7 F σ k x2 v24 v25)
def tw_patchOf (F : Nat) (σ : bqS) (x1 : Int32) (x2 : Int32) : Option (Int32) :=
  bq_lt ((1 : Int32) <<< (x1 &&& 31)) fun v1 => bq_b1 (tw_patchOf_L7 F σ F x2 v1 (0 : Int32)) fun v26 => some (v26)
def tw_cell (F : Nat) (σ : bqS) (x1 : Int32) (x2 : Int32) : Option (Int32 × bqS) :=
  bq_lt (bq_up σ 0 4 (0 : Int32)) fun σ1 => bq_b1 (tw_isCell σ1 x1) fun v2 => if v2 = (0 : Int32) then (bq_b2 (tw_fail σ1 (1 : Int32)) fun v14 σ15 => some (v14, σ15)) else (if x2 = (0 : Int32) then (bq_ck x1 30 (some (σ1 14 x1.toNatClampNeg, σ1))) else (if x2 = (1 : Int32) then (bq_b1 (tw_besideOf F σ1 x1) fun v7 => some (v7, σ1)) else (if x2 = (2 : Int32) then (bq_b1 (tw_girlsAt F σ1 x1) fun v9 => some (v9, σ1)) else (if x2 = (3 : Int32) then (bq_b1 (tw_patchOf F σ1 x1 (0 : Int32)) fun v11 => some (v11, σ1)) else (bq_b2 (tw_fail σ1 (1 : Int32)) fun v12 σ13 => some (v12, σ13))))))
def tw_isGirl (σ : bqS) (x1 : Int32) : Option (Int32) :=
  bq_b1 (tw_isIn x1.toInt64 (0 : Int64) (((σ 4 2) - (1 : Int32)).toInt64)) fun v1 => bq_bb v1 (some (v1))
def tw_blueBeside_L11 (F : Nat) (σ : bqS) : Nat → Int32 → Int32 → Int32 → Option (Int32)
  | 0, _, _, _ => none
  | k + 1, x2, x3, x4 =>
    bq_b1 (tw_cells σ) fun v2 => if v2 ≤ x4 then (some (x2)) else (bq_b1 (tw_isOf x3 x4) fun v4 => if v4 = (0 : Int32) then (bq_lt (x2 + (0 : Int32)) fun v6 => bq_lt (x4 + (1 : Int32)) fun v7 => tw_blueBeside_L11 F σ k v6 x3 v7) else (bq_ck x4 30 (bq_lt (x2 + (σ 14 x4.toNatClampNeg)) fun v9 => bq_lt (x4 + (1 : Int32)) fun v10 => tw_blueBeside_L11 F σ k v9 x3 v10)))
def tw_blueBeside (F : Nat) (σ : bqS) (x1 : Int32) : Option (Int32) :=
  bq_b1 (tw_besideOf F σ x1) fun v1 => bq_b1 (tw_blueBeside_L11 F σ F (0 : Int32) v1 (0 : Int32)) fun v11 => some (v11)
def tw_ask (F : Nat) (σ : bqS) (x1 : Int32) : Option (bqS) :=
  bq_ck x1 30 (bq_lt (bq_up σ 17 0 (σ 14 x1.toNatClampNeg)) fun σ2 => bq_b1 (tw_blueBeside F σ2 x1) fun v3 => bq_lt (bq_up σ2 17 1 v3) fun σ4 => bq_b1 (tw_rowOf σ4 x1) fun v5 => bq_lt (bq_up σ4 17 2 v5) fun σ6 => bq_lt (bq_up σ6 17 3 (σ6 0 31)) fun σ7 => some (σ7))
def tw_reckon (x0 : Int32) (x1 : Int32) (x2 : Int32) : Option (Int32) :=
  if x0 = (-26 : Int32) then (if x1 = (0 : Int32) then (some ((0 : Int32))) else (if x2 = (0 : Int32) then (some ((0 : Int32))) else (some ((1 : Int32))))) else (if x0 = (-25 : Int32) then (if x1 = x2 then (some ((1 : Int32))) else (some ((0 : Int32)))) else (if x0 = (-24 : Int32) then (if x2 ≤ x1 then (some ((0 : Int32))) else (some ((1 : Int32)))) else (if x0 = (-23 : Int32) then (if x2 = (0 : Int32) then (some ((0 : Int32))) else (bq_nz x2 (some (x1 / x2)))) else (if x0 = (-22 : Int32) then (some (x1 * x2)) else (if x0 = (-21 : Int32) then (some (x1 - x2)) else (if x0 = (-20 : Int32) then (some (x1 + x2)) else (if x1 = (0 : Int32) then (if x2 = (0 : Int32) then (some ((0 : Int32))) else (some ((1 : Int32)))) else (some ((1 : Int32))))))))))
def tw_valueNow_L5 (F : Nat) (q1 : Nat) (n1 : Nat) : Nat → Int32 → Int32 → Int32 → bqS → Option (bqS)
  | 0, _, _, _, _ => none
  | k + 1, x2, x3, x4, σ =>
    if x2 ≤ x4 then (some (σ)) else (bq_ck x4 n1 (bq_lt (σ q1 x4.toNatClampNeg) fun v3 => if v3 ≤ (-20 : Int32) then (if v3 = (-28 : Int32) then (bq_ck (x3 - (1 : Int32)) 64 (if σ 18 (x3 - (1 : Int32)).toNatClampNeg = (0 : Int32) then (bq_ck (x3 - (1 : Int32)) 64 (bq_lt (bq_up σ 18 ((x3 - (1 : Int32)).toNatClampNeg) (1 : Int32)) fun σ15 => bq_lt (x4 + (1 : Int32)) fun v17 => tw_valueNow_L5 F q1 n1 k x2 x3 v17 σ15)) else (bq_ck (x3 - (1 : Int32)) 64 (bq_lt (bq_up σ 18 ((x3 - (1 : Int32)).toNatClampNeg) (0 : Int32)) fun σ18 => bq_lt (x4 + (1 : Int32)) fun v20 => tw_valueNow_L5 F q1 n1 k x2 x3 v20 σ18)))) else (bq_lt (x3 + (-1 : Int32)) fun v6 => bq_ck (v6 - (1 : Int32)) 64 (bq_ck v6 64 (bq_b1 (tw_reckon v3 (σ 18 (v6 - (1 : Int32)).toNatClampNeg) (σ 18 v6.toNatClampNeg)) fun v9 => bq_ck (v6 - (1 : Int32)) 64 (bq_lt (bq_up σ 18 ((v6 - (1 : Int32)).toNatClampNeg) v9) fun σ10 => bq_lt (x4 + (1 : Int32)) fun v12 => tw_valueNow_L5 F q1 n1 k x2 v6 v12 σ10))))) else (if v3 < (0 : Int32) then (bq_ck ((-1 : Int32) - v3) 6 (bq_ck x3 64 (bq_lt (bq_up σ 18 x3.toNatClampNeg (σ 17 ((-1 : Int32) - v3).toNatClampNeg)) fun σ23 => bq_lt (x3 + (1 : Int32)) fun v25 => bq_lt (x4 + (1 : Int32)) fun v26 => tw_valueNow_L5 F q1 n1 k x2 v25 v26 σ23))) else (bq_ck x3 64 (bq_lt (bq_up σ 18 x3.toNatClampNeg v3) fun σ27 => bq_lt (x3 + (1 : Int32)) fun v29 => bq_lt (x4 + (1 : Int32)) fun v30 => tw_valueNow_L5 F q1 n1 k x2 v29 v30 σ27)))))
def tw_valueNow (F : Nat) (σ : bqS) (q1 : Nat) (n1 : Nat) (x2 : Int32) : Option (Int32 × bqS) :=
  bq_b1 (tw_valueNow_L5 F q1 n1 F x2 (0 : Int32) (0 : Int32) σ) fun σ31 => some (σ31 18 0, σ31)
def tw_dyesOf (F : Nat) (σ : bqS) (x1 : Int32) (x2 : Int32) : Option (Int32 × bqS) :=
  bq_ck x1 6 (bq_lt (((2 : Int32) * (σ 12 x1.toNatClampNeg)) + (3 : Int32)) fun v2 => if σ 4 6 ≤ (0 : Int32) then (some (if (0 : Int32) < (if v2 < (30 : Int32) then v2 else (30 : Int32)) then (if v2 < (30 : Int32) then v2 else (30 : Int32)) else (0 : Int32), σ)) else (bq_ck x1 6 (bq_b1 (tw_ask F σ (σ 15 x1.toNatClampNeg)) fun σ5 => bq_ck x1 6 (bq_lt (bq_up σ5 17 4 (σ5 12 x1.toNatClampNeg)) fun σ7 => bq_lt (bq_up σ7 17 5 x2) fun σ8 => bq_b2 (tw_valueNow F σ8 9 1400 (σ8 4 6)) fun v9 σ10 => some (if (0 : Int32) < (if v9 < (30 : Int32) then v9 else (30 : Int32)) then (if v9 < (30 : Int32) then v9 else (30 : Int32)) else (0 : Int32), σ10)))))
def tw_girl (F : Nat) (σ : bqS) (x1 : Int32) (x2 : Int32) : Option (Int32 × bqS) :=
  bq_lt (bq_up σ 0 4 (0 : Int32)) fun σ1 => bq_b1 (tw_isGirl σ1 x1) fun v2 => if v2 = (0 : Int32) then (bq_b2 (tw_fail σ1 (1 : Int32)) fun v15 σ16 => some (v15, σ16)) else (if x2 = (0 : Int32) then (bq_ck x1 6 (some (σ1 12 x1.toNatClampNeg, σ1))) else (if x2 = (1 : Int32) then (bq_ck x1 6 (some (σ1 15 x1.toNatClampNeg, σ1))) else (if x2 = (2 : Int32) then (bq_ck x1 12 (some (σ1 6 x1.toNatClampNeg, σ1))) else (if x2 = (3 : Int32) then (bq_b2 (tw_dyesOf F σ1 x1 (if (0 : Int32) < ((σ1 0 32) - (1 : Int32)) then ((σ1 0 32) - (1 : Int32)) else (0 : Int32))) fun v11 σ12 => some (v11, σ12)) else (bq_b2 (tw_fail σ1 (1 : Int32)) fun v13 σ14 => some (v13, σ14))))))
def tw_refuse (σ : bqS) (x1 : Int32) : Option (Int32 × bqS) :=
  bq_ck x1 3 (bq_ck x1 3 (bq_lt (bq_up σ 11 x1.toNatClampNeg ((σ 11 x1.toNatClampNeg) + (1 : Int32))) fun σ2 => some ((-1 : Int32), σ2)))
def tw_pack_L45 (F : Nat) (q1 : Nat) (n1 : Nat) : Nat → Int32 → Int32 → bqS → Option (bqS)
  | 0, _, _, _ => none
  | k + 1, x2, x3, σ =>
    if (30 : Int32) ≤ x3 then (some (σ)) else (bq_ck x3 30 (bq_ck ((x2 + (5 : Int32)) + x3) n1 (bq_lt (bq_up σ q1 (((x2 + (5 : Int32)) + x3).toNatClampNeg) (σ 14 x3.toNatClampNeg)) fun σ13 => bq_lt (x3 + (1 : Int32)) fun v15 => tw_pack_L45 F q1 n1 k x2 v15 σ13)))
def tw_pack_L72 (F : Nat) (q1 : Nat) (n1 : Nat) : Nat → Int32 → Int32 → bqS → Option (bqS)
  | 0, _, _, _ => none
  | k + 1, x2, x3, σ =>
    if (6 : Int32) ≤ x3 then (some (σ)) else (bq_ck x3 6 (bq_ck (((x2 + (5 : Int32)) + (30 : Int32)) + x3) n1 (bq_lt (bq_up σ q1 ((((x2 + (5 : Int32)) + (30 : Int32)) + x3).toNatClampNeg) (σ 15 x3.toNatClampNeg)) fun σ19 => bq_lt (x3 + (1 : Int32)) fun v21 => tw_pack_L72 F q1 n1 k x2 v21 σ19)))
def tw_pack (F : Nat) (σ : bqS) (q1 : Nat) (n1 : Nat) (x2 : Int32) : Option (bqS) :=
  bq_ck x2 n1 (bq_lt (bq_up σ q1 x2.toNatClampNeg (σ 0 31)) fun σ1 => bq_ck (x2 + (1 : Int32)) n1 (bq_lt (bq_up σ1 q1 ((x2 + (1 : Int32)).toNatClampNeg) (σ1 0 32)) fun σ3 => bq_ck (x2 + (2 : Int32)) n1 (bq_lt (bq_up σ3 q1 ((x2 + (2 : Int32)).toNatClampNeg) (σ3 0 33)) fun σ5 => bq_ck (x2 + (3 : Int32)) n1 (bq_lt (bq_up σ5 q1 ((x2 + (3 : Int32)).toNatClampNeg) (σ5 0 34)) fun σ7 => bq_ck (x2 + (4 : Int32)) n1 (bq_lt (bq_up σ7 q1 ((x2 + (4 : Int32)).toNatClampNeg) (σ7 0 35)) fun σ9 => bq_b1 (tw_pack_L45 F q1 n1 F x2 (0 : Int32) σ9) fun σ16 => bq_b1 (tw_pack_L72 F q1 n1 F x2 (0 : Int32) σ16) fun σ22 => some (σ22))))))
def tw_keep_J52 (F : Nat) (σ : bqS) : Option (bqS) :=
  bq_b1 (tw_pack F σ 16 1640 ((41 : Int32) * (σ 0 36))) fun σ2 => bq_lt (bq_up σ2 0 36 ((σ2 0 36) + (1 : Int32))) fun σ3 => some (σ3)
def tw_keep_L12 (F : Nat) : Nat → Int32 → bqS → Option (bqS)
  | 0, _, _ => none
  | k + 1, x1, σ =>
    if (1640 : Int32) ≤ x1 then (some (σ)) else (bq_ck x1 1640 (bq_ck (x1 - (41 : Int32)) 1640 (bq_lt (bq_up σ 16 ((x1 - (41 : Int32)).toNatClampNeg) (σ 16 x1.toNatClampNeg)) fun σ6 => bq_lt (x1 + (1 : Int32)) fun v8 => tw_keep_L12 F k v8 σ6)))
def tw_keep (F : Nat) (σ : bqS) : Option (bqS) :=
  if σ 0 36 = (40 : Int32) then (bq_b1 (tw_keep_L12 F F (41 : Int32) σ) fun σ9 => bq_lt (bq_up σ9 0 36 ((σ9 0 36) - (1 : Int32))) fun σ10 => tw_keep_J52 F σ10) else (tw_keep_J52 F σ)
def tw_dye (σ : bqS) (x1 : Int32) (x2 : Int32) : Option (bqS) :=
  bq_b1 (tw_isOf (σ 0 34) x1) fun v1 => if v1 = (0 : Int32) then (bq_ck x1 30 (bq_ck x1 30 (bq_lt (bq_up σ 14 x1.toNatClampNeg (if ((σ 14 x1.toNatClampNeg) + x2) < (99 : Int32) then ((σ 14 x1.toNatClampNeg) + x2) else (99 : Int32))) fun σ4 => some (σ4)))) else (bq_ck x1 30 (bq_lt (bq_up σ 14 x1.toNatClampNeg (0 : Int32)) fun σ6 => some (σ6)))
def tw_swish_L99 (F : Nat) : Nat → Int32 → Int32 → Int32 → bqS → Option (bqS)
  | 0, _, _, _, _ => none
  | k + 1, x3, x5, x6, σ =>
    bq_b1 (tw_cells σ) fun v9 => if v9 ≤ x6 then (some (σ)) else (bq_b1 (tw_isOf x5 x6) fun v11 => if v11 = (0 : Int32) then (bq_lt (x6 + (1 : Int32)) fun v13 => tw_swish_L99 F k x3 x5 v13 σ) else (bq_b1 (tw_dye σ x6 (x3 / (2 : Int32))) fun σ14 => bq_lt (x6 + (1 : Int32)) fun v15 => tw_swish_L99 F k x3 x5 v15 σ14))
def tw_swish_L48 (F : Nat) : Nat → Int32 → Int32 → bqS → Option (bqS)
  | 0, _, _, _ => none
  | k + 1, x5, x6, σ =>
    bq_b1 (tw_cells σ) fun v19 => if v19 ≤ x6 then (some (σ)) else (bq_b1 (tw_dye σ x6 x5) fun σ21 => bq_lt (x5 / (2 : Int32)) fun v22 => bq_lt (x6 + (σ21 4 0)) fun v23 => tw_swish_L48 F k v22 v23 σ21)
def tw_swish (F : Nat) (σ : bqS) (x1 : Int32) (x2 : Int32) : Option (bqS) :=
  bq_b2 (tw_dyesOf F σ x1 x2) fun v1 σ2 => bq_ck x1 6 (bq_lt (σ2 15 x1.toNatClampNeg) fun v4 => bq_b1 (tw_dye σ2 v4 v1) fun σ5 => bq_ck x1 12 (if σ5 6 x1.toNatClampNeg = (1 : Int32) then (bq_lt (v1 / (2 : Int32)) fun v17 => bq_lt (v4 + (σ5 4 0)) fun v18 => bq_b1 (tw_swish_L48 F F v17 v18 σ5) fun σ24 => some (σ24)) else (bq_b1 (tw_besideOf F σ5 v4) fun v8 => bq_b1 (tw_swish_L99 F F v1 v8 (0 : Int32) σ5) fun σ16 => some (σ16))))
def tw_bitsOf_L4 (F : Nat) : Nat → Int32 → Int32 → Option (Int32)
  | 0, _, _ => none
  | k + 1, x1, x2 =>
    if x2 = (0 : Int32) then (some (x1)) else (bq_lt (x1 + (1 : Int32)) fun v2 => bq_lt (x2 &&& (x2 - (1 : Int32))) fun v3 => tw_bitsOf_L4 F k v2 v3)
def tw_bitsOf (F : Nat) (x0 : Int32) : Option (Int32) :=
  bq_b1 (tw_bitsOf_L4 F F (0 : Int32) x0) fun v4 => some (v4)
def tw_fadesOf (F : Nat) (σ : bqS) (x1 : Int32) : Option (Int32 × bqS) :=
  bq_ck x1 30 (bq_lt ((σ 14 x1.toNatClampNeg) / (5 : Int32)) fun v2 => if σ 4 7 ≤ (0 : Int32) then (bq_ck x1 30 (some (if (0 : Int32) < (if v2 < (σ 14 x1.toNatClampNeg) then v2 else (σ 14 x1.toNatClampNeg)) then (if v2 < (σ 14 x1.toNatClampNeg) then v2 else (σ 14 x1.toNatClampNeg)) else (0 : Int32), σ))) else (bq_b1 (tw_ask F σ x1) fun σ5 => bq_b2 (tw_valueNow F σ5 10 1400 (σ5 4 7)) fun v6 σ7 => bq_ck x1 30 (some (if (0 : Int32) < (if v6 < (σ7 14 x1.toNatClampNeg) then v6 else (σ7 14 x1.toNatClampNeg)) then (if v6 < (σ7 14 x1.toNatClampNeg) then v6 else (σ7 14 x1.toNatClampNeg)) else (0 : Int32), σ7))))
def tw_aDay_L2 (F : Nat) : Nat → Int32 → bqS → Option (bqS)
  | 0, _, _ => none
  | k + 1, x1, σ =>
    if σ 4 2 ≤ x1 then (some (σ)) else (bq_b1 (tw_isOf (σ 0 35) x1) fun v2 => if v2 = (0 : Int32) then (if σ 0 32 = (0 : Int32) then (bq_lt (x1 + (1 : Int32)) fun v9 => tw_aDay_L2 F k v9 σ) else (bq_lt (bq_up σ 0 32 ((σ 0 32) - (1 : Int32))) fun σ6 => bq_b1 (tw_swish F σ6 x1 (σ6 0 32)) fun σ7 => bq_lt (x1 + (1 : Int32)) fun v8 => tw_aDay_L2 F k v8 σ7)) else (bq_lt (x1 + (1 : Int32)) fun v4 => tw_aDay_L2 F k v4 σ))
def tw_aDay_L65 (F : Nat) : Nat → Int32 → bqS → Option (bqS)
  | 0, _, _ => none
  | k + 1, x1, σ =>
    bq_b1 (tw_cells σ) fun v12 => if v12 ≤ x1 then (some (σ)) else (bq_ck x1 30 (if σ 14 x1.toNatClampNeg ≤ σ 4 5 then (bq_lt (bq_up σ 0 41 ((σ 0 41) ||| (0 : Int32))) fun σ16 => bq_lt (x1 + (1 : Int32)) fun v17 => tw_aDay_L65 F k v17 σ16) else (bq_lt (bq_up σ 0 41 ((σ 0 41) ||| ((1 : Int32) <<< (x1 &&& 31)))) fun σ18 => bq_lt (x1 + (1 : Int32)) fun v19 => tw_aDay_L65 F k v19 σ18)))
def tw_aDay_L134 (F : Nat) : Nat → Int32 → bqS → Option (bqS)
  | 0, _, _ => none
  | k + 1, x1, σ =>
    bq_b1 (tw_cells σ) fun v23 => if v23 ≤ x1 then (some (σ)) else (bq_ck x1 30 (bq_ck x1 30 (bq_lt (bq_up σ 14 x1.toNatClampNeg (if (0 : Int32) < ((σ 14 x1.toNatClampNeg) - (σ 4 4)) then ((σ 14 x1.toNatClampNeg) - (σ 4 4)) else (0 : Int32))) fun σ26 => bq_lt (x1 + (1 : Int32)) fun v28 => tw_aDay_L134 F k v28 σ26)))
def tw_aDay_L173 (F : Nat) : Nat → Int32 → bqS → Option (bqS)
  | 0, _, _ => none
  | k + 1, x1, σ =>
    bq_b1 (tw_cells σ) fun v30 => if v30 ≤ x1 then (some (σ)) else (bq_b2 (tw_fadesOf F σ x1) fun v32 σ33 => bq_ck x1 30 (bq_lt (bq_up σ33 19 x1.toNatClampNeg v32) fun σ34 => bq_lt (x1 + (1 : Int32)) fun v36 => tw_aDay_L173 F k v36 σ34))
def tw_aDay_L200 (F : Nat) : Nat → Int32 → bqS → Option (bqS)
  | 0, _, _ => none
  | k + 1, x1, σ =>
    bq_b1 (tw_cells σ) fun v38 => if v38 ≤ x1 then (some (σ)) else (bq_ck x1 30 (bq_ck x1 30 (bq_ck x1 30 (bq_lt (bq_up σ 14 x1.toNatClampNeg ((σ 14 x1.toNatClampNeg) - (σ 19 x1.toNatClampNeg))) fun σ42 => bq_lt (x1 + (1 : Int32)) fun v44 => tw_aDay_L200 F k v44 σ42))))
def tw_aDay (F : Nat) (σ : bqS) : Option (bqS) :=
  bq_b1 (tw_aDay_L2 F F (0 : Int32) σ) fun σ10 => bq_lt (bq_up σ10 0 41 (0 : Int32)) fun σ11 => bq_b1 (tw_aDay_L65 F F (0 : Int32) σ11) fun σ20 => bq_b1 (tw_bitsOf F (σ20 0 41)) fun v21 => bq_lt (bq_up σ20 0 33 (if ((σ20 0 33) + v21) < (9999 : Int32) then ((σ20 0 33) + v21) else (9999 : Int32))) fun σ22 => bq_b1 (tw_aDay_L134 F F (0 : Int32) σ22) fun σ29 => bq_b1 (tw_aDay_L173 F F (0 : Int32) σ29) fun σ37 => bq_b1 (tw_aDay_L200 F F (0 : Int32) σ37) fun σ45 => bq_lt (bq_up σ45 0 31 ((σ45 0 31) + (1 : Int32))) fun σ46 => some (σ46)
def tw_goOn_L2 (F : Nat) : Nat → Int32 → Int32 → bqS → Option (bqS)
  | 0, _, _, _ => none
  | k + 1, x1, x2, σ =>
    if x1 ≤ x2 then (some (σ)) else (bq_b1 (tw_aDay F σ) fun σ2 => bq_lt (x2 + (1 : Int32)) fun v3 => tw_goOn_L2 F k x1 v3 σ2)
def tw_goOn (F : Nat) (σ : bqS) (x1 : Int32) : Option (bqS) :=
  bq_b1 (tw_goOn_L2 F F x1 (0 : Int32) σ) fun σ4 => some (σ4)
def tw_days (F : Nat) (σ : bqS) (x1 : Int32) : Option (Int32 × bqS) :=
  bq_lt (bq_up σ 0 4 (0 : Int32)) fun σ1 => bq_b1 (tw_isIn x1.toInt64 (1 : Int64) (20 : Int64)) fun v2 => if v2 = (0 : Int32) then (bq_b2 (tw_refuse σ1 (1 : Int32)) fun v4 σ5 => some (v4, σ5)) else (if (σ1 0 31) + x1 ≤ (999 : Int32) then (bq_b1 (tw_keep F σ1) fun σ7 => bq_b1 (tw_goOn F σ7 x1) fun σ8 => some (σ8 0 31, σ8)) else (bq_b2 (tw_refuse σ1 (1 : Int32)) fun v9 σ10 => some (v9, σ10)))
def tw_failing (σ : bqS) (x1 : Int32) : Option (Int32 × bqS) :=
  bq_lt (bq_up σ 0 4 x1) fun σ1 => some ((0 : Int32), σ1)
def tw_rest (F : Nat) (σ : bqS) (x1 : Int32) (x2 : Int32) : Option (Int32 × bqS) :=
  bq_lt (bq_up σ 0 4 (0 : Int32)) fun σ1 => bq_b1 (tw_isGirl σ1 x1) fun v2 => if v2 = (0 : Int32) then (bq_b2 (tw_failing σ1 (1 : Int32)) fun v9 σ10 => bq_bb v9 (some (v9, σ10))) else (bq_b1 (tw_isOf (σ1 0 35) x1) fun v4 => if v4 = x2 then (bq_lt (bq_up σ1 11 1 ((σ1 11 1) + (1 : Int32))) fun σ8 => some ((0 : Int32), σ8)) else (bq_b1 (tw_keep F σ1) fun σ6 => bq_lt (bq_up σ6 0 35 ((σ6 0 35) ^^^ ((1 : Int32) <<< (x1 &&& 31)))) fun σ7 => some ((1 : Int32), σ7)))
def tw_go (F : Nat) (σ : bqS) (x1 : Int32) (x2 : Int32) : Option (Int32 × bqS) :=
  bq_lt (bq_up σ 0 4 (0 : Int32)) fun σ1 => bq_b1 (tw_isGirl σ1 x1) fun v2 => if v2 = (0 : Int32) then (bq_b2 (tw_fail σ1 (1 : Int32)) fun v4 σ5 => some (v4, σ5)) else (bq_b1 (tw_isCell σ1 x2) fun v6 => if v6 = (0 : Int32) then (bq_b2 (tw_fail σ1 (1 : Int32)) fun v17 σ18 => some (v17, σ18)) else (bq_ck x1 6 (if σ1 15 x1.toNatClampNeg = x2 then (bq_b2 (tw_refuse σ1 (1 : Int32)) fun v15 σ16 => some (v15, σ16)) else (bq_b1 (tw_keep F σ1) fun σ10 => bq_ck x1 6 (bq_lt (σ10 15 x1.toNatClampNeg) fun v12 => bq_ck x1 6 (bq_lt (bq_up σ10 15 x1.toNatClampNeg x2) fun σ13 => some (v12, σ13)))))))
def tw_bag (F : Nat) (σ : bqS) (x1 : Int32) : Option (Int32 × bqS) :=
  bq_lt (bq_up σ 0 4 (0 : Int32)) fun σ1 => bq_b1 (tw_isIn x1.toInt64 (1 : Int64) (50 : Int64)) fun v2 => if v2 = (0 : Int32) then (bq_b2 (tw_refuse σ1 (1 : Int32)) fun v6 σ7 => some (v6, σ7)) else (bq_b1 (tw_keep F σ1) fun σ4 => bq_lt (bq_up σ4 0 32 (if ((σ4 0 32) + x1) < (99 : Int32) then ((σ4 0 32) + x1) else (99 : Int32))) fun σ5 => some (σ5 0 32, σ5))
def tw_peg (F : Nat) (σ : bqS) (x1 : Int32) (x2 : Int32) : Option (Int32 × bqS) :=
  bq_lt (bq_up σ 0 4 (0 : Int32)) fun σ1 => bq_b1 (tw_isCell σ1 x1) fun v2 => if v2 = (0 : Int32) then (bq_b2 (tw_fail σ1 (1 : Int32)) fun v15 σ16 => some (v15, σ16)) else (bq_b1 (tw_isOf (σ1 0 34) x1) fun v4 => if v4 = x2 then (bq_b2 (tw_refuse σ1 (1 : Int32)) fun v13 σ14 => some (v13, σ14)) else (bq_b1 (tw_keep F σ1) fun σ6 => bq_ck x1 30 (bq_lt (σ6 14 x1.toNatClampNeg) fun v8 => bq_lt (bq_up σ6 0 34 ((σ6 0 34) ^^^ ((1 : Int32) <<< (x1 &&& 31)))) fun σ9 => if x2 = (0 : Int32) then (some (v8, σ9)) else (bq_ck x1 30 (bq_lt (bq_up σ9 14 x1.toNatClampNeg (0 : Int32)) fun σ11 => some (v8, σ11))))))
def tw_unpack_L45 (F : Nat) (q1 : Nat) (n1 : Nat) : Nat → Int32 → Int32 → bqS → Option (bqS)
  | 0, _, _, _ => none
  | k + 1, x2, x3, σ =>
    if (30 : Int32) ≤ x3 then (some (σ)) else (bq_ck ((x2 + (5 : Int32)) + x3) n1 (bq_ck x3 30 (bq_lt (bq_up σ 14 x3.toNatClampNeg (σ q1 ((x2 + (5 : Int32)) + x3).toNatClampNeg)) fun σ13 => bq_lt (x3 + (1 : Int32)) fun v15 => tw_unpack_L45 F q1 n1 k x2 v15 σ13)))
def tw_unpack_L72 (F : Nat) (q1 : Nat) (n1 : Nat) : Nat → Int32 → Int32 → bqS → Option (bqS)
  | 0, _, _, _ => none
  | k + 1, x2, x3, σ =>
    if (6 : Int32) ≤ x3 then (some (σ)) else (bq_ck (((x2 + (5 : Int32)) + (30 : Int32)) + x3) n1 (bq_ck x3 6 (bq_lt (bq_up σ 15 x3.toNatClampNeg (σ q1 (((x2 + (5 : Int32)) + (30 : Int32)) + x3).toNatClampNeg)) fun σ19 => bq_lt (x3 + (1 : Int32)) fun v21 => tw_unpack_L72 F q1 n1 k x2 v21 σ19)))
def tw_unpack (F : Nat) (σ : bqS) (q1 : Nat) (n1 : Nat) (x2 : Int32) : Option (bqS) :=
  bq_ck x2 n1 (bq_lt (bq_up σ 0 31 (σ q1 x2.toNatClampNeg)) fun σ2 => bq_ck (x2 + (1 : Int32)) n1 (bq_lt (bq_up σ2 0 32 (σ2 q1 (x2 + (1 : Int32)).toNatClampNeg)) fun σ4 => bq_ck (x2 + (2 : Int32)) n1 (bq_lt (bq_up σ4 0 33 (σ4 q1 (x2 + (2 : Int32)).toNatClampNeg)) fun σ6 => bq_ck (x2 + (3 : Int32)) n1 (bq_lt (bq_up σ6 0 34 (σ6 q1 (x2 + (3 : Int32)).toNatClampNeg)) fun σ8 => bq_ck (x2 + (4 : Int32)) n1 (bq_lt (bq_up σ8 0 35 (σ8 q1 (x2 + (4 : Int32)).toNatClampNeg)) fun σ10 => bq_b1 (tw_unpack_L45 F q1 n1 F x2 (0 : Int32) σ10) fun σ16 => bq_b1 (tw_unpack_L72 F q1 n1 F x2 (0 : Int32) σ16) fun σ22 => some (σ22))))))
def tw_undo (F : Nat) (σ : bqS) : Option (Int32 × bqS) :=
  bq_lt (bq_up σ 0 4 (0 : Int32)) fun σ1 => if σ1 0 36 = (0 : Int32) then (some ((-1 : Int32), σ1)) else (bq_lt (bq_up σ1 0 36 ((σ1 0 36) - (1 : Int32))) fun σ3 => bq_b1 (tw_unpack F σ3 16 1640 ((41 : Int32) * (σ3 0 36))) fun σ4 => some (σ4 0 36, σ4))
def tw_then (F : Nat) (σ : bqS) (x1 : Int32) (x2 : Int32) : Option (Int32 × bqS) :=
  bq_lt (bq_up σ 0 4 (0 : Int32)) fun σ1 => bq_b1 (tw_isCell σ1 x1) fun v2 => if v2 = (0 : Int32) then (bq_b2 (tw_fail σ1 (1 : Int32)) fun v13 σ14 => some (v13, σ14)) else (bq_b1 (tw_isIn x2.toInt64 (0 : Int64) (40 : Int64)) fun v4 => if v4 = (0 : Int32) then (bq_b2 (tw_fail σ1 (2 : Int32)) fun v11 σ12 => some (v11, σ12)) else (bq_b1 (tw_pack F σ1 20 41 (0 : Int32)) fun σ6 => bq_b1 (tw_goOn F σ6 x2) fun σ7 => bq_ck x1 30 (bq_lt (σ7 14 x1.toNatClampNeg) fun v9 => bq_b1 (tw_unpack F σ7 20 41 (0 : Int32)) fun σ10 => some (v9, σ10))))
def tw_extreme_L4 (F : Nat) (σ : bqS) : Nat → Int32 → Int32 → Int32 → Option (Int32)
  | 0, _, _, _ => none
  | k + 1, x1, x2, x3 =>
    bq_b1 (tw_cells σ) fun v1 => if v1 ≤ x3 then (some (x2)) else (bq_b1 (tw_isOf (σ 0 34) x3) fun v3 => if v3 = (0 : Int32) then (if x2 = (-1 : Int32) then (bq_lt (x3 + (1 : Int32)) fun v6 => tw_extreme_L4 F σ k x1 x3 v6) else (if x1 = (0 : Int32) then (bq_ck x3 30 (bq_ck x2 30 (if σ 14 x2.toNatClampNeg ≤ σ 14 x3.toNatClampNeg then (bq_lt (x3 + (1 : Int32)) fun v11 => tw_extreme_L4 F σ k x1 x2 v11) else (bq_lt (x3 + (1 : Int32)) fun v12 => tw_extreme_L4 F σ k x1 x3 v12)))) else (bq_ck x3 30 (bq_ck x2 30 (if σ 14 x3.toNatClampNeg ≤ σ 14 x2.toNatClampNeg then (bq_lt (x3 + (1 : Int32)) fun v16 => tw_extreme_L4 F σ k x1 x2 v16) else (bq_lt (x3 + (1 : Int32)) fun v17 => tw_extreme_L4 F σ k x1 x3 v17)))))) else (bq_lt (x3 + (1 : Int32)) fun v18 => tw_extreme_L4 F σ k x1 x2 v18))
def tw_extreme (F : Nat) (σ : bqS) (x1 : Int32) : Option (Int32) :=
  bq_b1 (tw_extreme_L4 F σ F x1 (-1 : Int32) (0 : Int32)) fun v19 => some (v19)
def tw_uneven (F : Nat) (σ : bqS) : Option (Int32) :=
  bq_b1 (tw_extreme F σ (1 : Int32)) fun v1 => if v1 = (-1 : Int32) then (some ((-1 : Int32))) else (bq_b1 (tw_extreme F σ (1 : Int32)) fun v3 => bq_ck v3 30 (bq_b1 (tw_extreme F σ (0 : Int32)) fun v5 => bq_ck v5 30 (some ((σ 14 v3.toNatClampNeg) - (σ 14 v5.toNatClampNeg)))))
def tw_sky (F : Nat) (σ : bqS) (x1 : Int32) (x2 : Int32) : Option (Int32 × bqS) :=
  bq_lt (bq_up σ 0 4 (0 : Int32)) fun σ1 => bq_b1 (tw_isIn x2.toInt64 (0 : Int64) (4 : Int64)) fun v2 => if v2 = (0 : Int32) then (bq_b2 (tw_fail σ1 (1 : Int32)) fun v24 σ25 => some (v24, σ25)) else (bq_b1 (tw_isIn x1.toInt64 (0 : Int64) (40 : Int64)) fun v4 => if v4 = (0 : Int32) then (bq_b2 (tw_fail σ1 (2 : Int32)) fun v22 σ23 => some (v22, σ23)) else (bq_b1 (tw_pack F σ1 20 41 (0 : Int32)) fun σ6 => bq_b1 (tw_goOn F σ6 x1) fun σ7 => if x2 = (0 : Int32) then (bq_lt (σ7 0 32) fun v20 => bq_b1 (tw_unpack F σ7 20 41 (0 : Int32)) fun σ21 => some (v20, σ21)) else (if x2 = (1 : Int32) then (bq_lt (σ7 0 33) fun v18 => bq_b1 (tw_unpack F σ7 20 41 (0 : Int32)) fun σ19 => some (v18, σ19)) else (if x2 = (2 : Int32) then (bq_b1 (tw_uneven F σ7) fun v16 => bq_b1 (tw_unpack F σ7 20 41 (0 : Int32)) fun σ17 => some (v16, σ17)) else (if x2 = (3 : Int32) then (bq_b1 (tw_extreme F σ7 (1 : Int32)) fun v14 => bq_b1 (tw_unpack F σ7 20 41 (0 : Int32)) fun σ15 => some (v14, σ15)) else (bq_b1 (tw_extreme F σ7 (0 : Int32)) fun v12 => bq_b1 (tw_unpack F σ7 20 41 (0 : Int32)) fun σ13 => some (v12, σ13)))))))
def tw_overdone (F : Nat) (σ : bqS) (x1 : Int32) : Option (Int32 × bqS) :=
  bq_lt (bq_up σ 0 4 (0 : Int32)) fun σ1 => bq_b1 (tw_isIn x1.toInt64 (1 : Int64) (40 : Int64)) fun v2 => if v2 = (0 : Int32) then (bq_b2 (tw_fail σ1 (1 : Int32)) fun v7 σ8 => some (v7, σ8)) else (bq_b1 (tw_pack F σ1 20 41 (0 : Int32)) fun σ4 => bq_b1 (tw_goOn F σ4 x1) fun σ5 => bq_b1 (tw_unpack F σ5 20 41 (0 : Int32)) fun σ6 => some (σ6 0 41, σ6))
def tw_first_L32 (F : Nat) : Nat → Int32 → Int32 → Int32 → bqS → Option (Int32 × bqS)
  | 0, _, _, _, _ => none
  | k + 1, x1, x2, x3, σ =>
    if (40 : Int32) < x3 then (some (x2, σ)) else (if x2 = (-1 : Int32) then (bq_b1 (tw_aDay F σ) fun σ7 => bq_b1 (tw_isOf (σ7 0 41) x1) fun v8 => if v8 = (0 : Int32) then (bq_lt (x3 + (1 : Int32)) fun v10 => tw_first_L32 F k x1 x2 v10 σ7) else (bq_lt (x3 + (1 : Int32)) fun v11 => tw_first_L32 F k x1 x3 v11 σ7)) else (some (x2, σ)))
def tw_first (F : Nat) (σ : bqS) (x1 : Int32) : Option (Int32 × bqS) :=
  bq_lt (bq_up σ 0 4 (0 : Int32)) fun σ1 => bq_b1 (tw_isCell σ1 x1) fun v2 => if v2 = (0 : Int32) then (bq_b2 (tw_fail σ1 (1 : Int32)) fun v15 σ16 => some (v15, σ16)) else (bq_b1 (tw_pack F σ1 20 41 (0 : Int32)) fun σ4 => bq_b2 (tw_first_L32 F F x1 (-1 : Int32) (1 : Int32) σ4) fun v12 σ13 => bq_b1 (tw_unpack F σ13 20 41 (0 : Int32)) fun σ14 => some (v12, σ14))
def tw_spent_L18 (F : Nat) : Nat → Int32 → Int32 → bqS → Option (Int32 × bqS)
  | 0, _, _, _ => none
  | k + 1, x1, x2, σ =>
    if (40 : Int32) < x2 then (some (x1, σ)) else (if x1 = (-1 : Int32) then (if σ 0 32 = (0 : Int32) then (bq_b1 (tw_aDay F σ) fun σ8 => bq_lt (x2 + (1 : Int32)) fun v9 => tw_spent_L18 F k x2 v9 σ8) else (bq_b1 (tw_aDay F σ) fun σ6 => bq_lt (x2 + (1 : Int32)) fun v7 => tw_spent_L18 F k x1 v7 σ6)) else (some (x1, σ)))
def tw_spent (F : Nat) (σ : bqS) : Option (Int32 × bqS) :=
  bq_lt (bq_up σ 0 4 (0 : Int32)) fun σ1 => bq_b1 (tw_pack F σ1 20 41 (0 : Int32)) fun σ2 => bq_b2 (tw_spent_L18 F F (-1 : Int32) (0 : Int32) σ2) fun v10 σ11 => bq_b1 (tw_unpack F σ11 20 41 (0 : Int32)) fun σ12 => some (v10, σ12)
def tw_band_L61 (F : Nat) (σ : bqS) : Nat → Int32 → Int32 → Int32 → Option (Int32)
  | 0, _, _, _ => none
  | k + 1, x4, x5, x6 =>
    if σ 4 0 ≤ x6 then (some (x5)) else (bq_ck (((σ 4 0) * x4) + x6) 30 (bq_lt (x5 + (σ 14 (((σ 4 0) * x4) + x6).toNatClampNeg)) fun v9 => bq_lt (x6 + (1 : Int32)) fun v10 => tw_band_L61 F σ k x4 v9 v10))
def tw_band_L44 (F : Nat) (σ : bqS) : Nat → Int32 → Int32 → Int32 → Option (Int32)
  | 0, _, _, _ => none
  | k + 1, x2, x3, x4 =>
    if σ 4 1 ≤ x4 then (some (x2)) else (bq_b1 (tw_band_L61 F σ F x4 (0 : Int32) (0 : Int32)) fun v11 => if x3 < v11 then (bq_lt (x4 + (1 : Int32)) fun v13 => tw_band_L44 F σ k x4 v11 v13) else (bq_lt (x4 + (1 : Int32)) fun v14 => tw_band_L44 F σ k x2 x3 v14))
def tw_band (F : Nat) (σ : bqS) (x1 : Int32) : Option (Int32 × bqS) :=
  bq_lt (bq_up σ 0 4 (0 : Int32)) fun σ1 => bq_b1 (tw_isIn x1.toInt64 (0 : Int64) (40 : Int64)) fun v2 => if v2 = (0 : Int32) then (bq_b2 (tw_fail σ1 (1 : Int32)) fun v17 σ18 => some (v17, σ18)) else (bq_b1 (tw_pack F σ1 20 41 (0 : Int32)) fun σ4 => bq_b1 (tw_goOn F σ4 x1) fun σ5 => bq_b1 (tw_band_L44 F σ5 F (0 : Int32) (-1 : Int32) (0 : Int32)) fun v15 => bq_b1 (tw_unpack F σ5 20 41 (0 : Int32)) fun σ16 => some (v15, σ16))
def tw_copyTo_L2 (F : Nat) (q0 : Nat) (n0 : Nat) (q1 : Nat) (n1 : Nat) : Nat → Int32 → bqS → Option (bqS)
  | 0, _, _ => none
  | k + 1, x2, σ =>
    if Int32.ofNat n0 ≤ x2 then (some (σ)) else (bq_ck x2 n1 (bq_ck x2 n0 (bq_lt (bq_up σ q0 x2.toNatClampNeg (σ q1 x2.toNatClampNeg)) fun σ3 => bq_lt (x2 + (1 : Int32)) fun v5 => tw_copyTo_L2 F q0 n0 q1 n1 k v5 σ3)))
def tw_copyTo (F : Nat) (σ : bqS) (q0 : Nat) (n0 : Nat) (q1 : Nat) (n1 : Nat) : Option (bqS) :=
  bq_b1 (tw_copyTo_L2 F q0 n0 q1 n1 F (0 : Int32) σ) fun σ6 => some (σ6)
def tw_steady_L49 (F : Nat) (σ : bqS) : Nat → Int32 → Int32 → Option (Int32)
  | 0, _, _ => none
  | k + 1, x3, x4 =>
    bq_b1 (tw_cells σ) fun v7 => if v7 ≤ x4 then (some (x3)) else (if x3 = (0 : Int32) then (bq_lt (x4 + (1 : Int32)) fun v10 => tw_steady_L49 F σ k (0 : Int32) v10) else (bq_ck x4 30 (bq_ck x4 30 (if σ 14 x4.toNatClampNeg = σ 21 x4.toNatClampNeg then (bq_lt (x4 + (1 : Int32)) fun v15 => tw_steady_L49 F σ k (1 : Int32) v15) else (bq_lt (x4 + (1 : Int32)) fun v14 => tw_steady_L49 F σ k (0 : Int32) v14)))))
def tw_steady_L18 (F : Nat) : Nat → Int32 → Int32 → bqS → Option (Int32 × bqS)
  | 0, _, _, _ => none
  | k + 1, x1, x2, σ =>
    if (40 : Int32) < x2 then (some (x1, σ)) else (if x1 = (-1 : Int32) then (bq_b1 (tw_copyTo F σ 21 30 14 30) fun σ5 => bq_b1 (tw_aDay F σ5) fun σ6 => bq_b1 (tw_steady_L49 F σ6 F (1 : Int32) (0 : Int32)) fun v16 => if v16 = (0 : Int32) then (bq_lt (x2 + (1 : Int32)) fun v18 => tw_steady_L18 F k x1 v18 σ6) else (bq_lt (x2 + (1 : Int32)) fun v19 => tw_steady_L18 F k x2 v19 σ6)) else (some (x1, σ)))
def tw_steady (F : Nat) (σ : bqS) : Option (Int32 × bqS) :=
  bq_lt (bq_up σ 0 4 (0 : Int32)) fun σ1 => bq_b1 (tw_pack F σ1 20 41 (0 : Int32)) fun σ2 => bq_b2 (tw_steady_L18 F F (-1 : Int32) (1 : Int32) σ2) fun v20 σ21 => bq_b1 (tw_unpack F σ21 20 41 (0 : Int32)) fun σ22 => some (v20, σ22)
def tw_streakFrom_L2 (F : Nat) (σ : bqS) : Nat → Int32 → Int32 → Option (Int32)
  | 0, _, _ => none
  | k + 1, x1, x2 =>
    bq_b1 (tw_columnOf σ x1) fun v1 => if σ 4 0 ≤ v1 + x2 then (some (x2)) else (bq_ck (x1 + x2) 30 (bq_ck x1 30 (if σ 14 (x1 + x2).toNatClampNeg = σ 14 x1.toNatClampNeg then (bq_lt (x2 + (1 : Int32)) fun v6 => tw_streakFrom_L2 F σ k x1 v6) else (some (x2)))))
def tw_streakFrom (F : Nat) (σ : bqS) (x1 : Int32) : Option (Int32) :=
  bq_b1 (tw_streakFrom_L2 F σ F x1 (1 : Int32)) fun v7 => some (v7)
def tw_streak_L24 (F : Nat) (σ : bqS) : Nat → Int32 → Int32 → Option (Int32)
  | 0, _, _ => none
  | k + 1, x2, x3 =>
    bq_b1 (tw_cells σ) fun v6 => if v6 ≤ x3 then (some (x2)) else (bq_b1 (tw_streakFrom F σ x3) fun v8 => bq_b1 (tw_streakFrom F σ x2) fun v9 => if v8 ≤ v9 then (bq_lt (x3 + (1 : Int32)) fun v11 => tw_streak_L24 F σ k x2 v11) else (bq_lt (x3 + (1 : Int32)) fun v12 => tw_streak_L24 F σ k x3 v12))
def tw_streak (F : Nat) (σ : bqS) (x1 : Int32) : Option (Int32 × bqS) :=
  bq_lt (bq_up σ 0 4 (0 : Int32)) fun σ1 => if x1 < (0 : Int32) then (bq_b2 (tw_fail σ1 (1 : Int32)) fun v3 σ4 => some (v3, σ4)) else (if x1 ≤ (1 : Int32) then (bq_b1 (tw_streak_L24 F σ1 F (0 : Int32) (1 : Int32)) fun v13 => if x1 = (0 : Int32) then (bq_b1 (tw_streakFrom F σ1 v13) fun v15 => some (v15, σ1)) else (some (v13, σ1))) else (bq_b2 (tw_fail σ1 (1 : Int32)) fun v16 σ17 => some (v16, σ17)))
def tw_patch (F : Nat) (σ : bqS) (x1 : Int32) (x2 : Int32) : Option (Int32 × bqS) :=
  bq_lt (bq_up σ 0 4 (0 : Int32)) fun σ1 => bq_b1 (tw_isCell σ1 x1) fun v2 => if v2 = (0 : Int32) then (bq_b2 (tw_fail σ1 (1 : Int32)) fun v9 σ10 => some (v9, σ10)) else (bq_b1 (tw_isIn x2.toInt64 (0 : Int64) (99 : Int64)) fun v4 => if v4 = (0 : Int32) then (bq_b2 (tw_fail σ1 (2 : Int32)) fun v6 σ7 => some (v6, σ7)) else (bq_b1 (tw_patchOf F σ1 x1 x2) fun v8 => some (v8, σ1)))
def tw_patches_L30 (F : Nat) (σ : bqS) : Nat → Int32 → Int32 → Int32 → Int32 → Option (Int32)
  | 0, _, _, _, _ => none
  | k + 1, x1, x2, x3, x4 =>
    bq_b1 (tw_cells σ) fun v4 => if v4 ≤ x4 then (some (x2)) else (bq_b1 (tw_isOf x3 x4) fun v6 => if v6 = (0 : Int32) then (bq_b1 (tw_patchOf F σ x4 x1) fun v8 => bq_lt (x3 ||| v8) fun v9 => bq_lt (x2 + (1 : Int32)) fun v10 => bq_lt (x4 + (1 : Int32)) fun v11 => tw_patches_L30 F σ k x1 v10 v9 v11) else (bq_lt (x4 + (1 : Int32)) fun v12 => tw_patches_L30 F σ k x1 x2 x3 v12))
def tw_patches (F : Nat) (σ : bqS) (x1 : Int32) : Option (Int32 × bqS) :=
  bq_lt (bq_up σ 0 4 (0 : Int32)) fun σ1 => bq_b1 (tw_isIn x1.toInt64 (0 : Int64) (99 : Int64)) fun v2 => if v2 = (0 : Int32) then (bq_b2 (tw_fail σ1 (1 : Int32)) fun v14 σ15 => some (v14, σ15)) else (bq_b1 (tw_patches_L30 F σ1 F x1 (0 : Int32) (0 : Int32) (0 : Int32)) fun v13 => some (v13, σ1))
def tw_way_L65 (F : Nat) (σ : bqS) : Nat → Int32 → Int32 → Int32 → Option (Int32)
  | 0, _, _, _ => none
  | k + 1, x3, x5, x6 =>
    bq_b1 (tw_cells σ) fun v12 => if v12 ≤ x6 then (some (x5)) else (bq_b1 (tw_isOf x3 x6) fun v14 => if v14 = (0 : Int32) then (bq_lt (x5 ||| (0 : Int32)) fun v16 => bq_lt (x6 + (1 : Int32)) fun v17 => tw_way_L65 F σ k x3 v16 v17) else (bq_b1 (tw_besideOf F σ x6) fun v18 => bq_lt (x5 ||| v18) fun v19 => bq_lt (x6 + (1 : Int32)) fun v20 => tw_way_L65 F σ k x3 v19 v20))
def tw_way_L41 (F : Nat) (σ : bqS) : Nat → Int32 → Int32 → Int32 → Option (Nat × Int32)
  | 0, _, _, _ => none
  | k + 1, x2, x3, x4 =>
    if (30 : Int32) ≤ x4 then (some (1, x4)) else (bq_b1 (tw_isOf x3 x2) fun v10 => if v10 = (0 : Int32) then (bq_b1 (tw_way_L65 F σ F x3 x3 (0 : Int32)) fun v21 => bq_lt (v21 &&& ((σ 0 34) ^^^ (-1 : Int32))) fun v22 => bq_lt (x4 + (1 : Int32)) fun v23 => tw_way_L41 F σ k x2 v22 v23) else (some (0, x4)))
def tw_way (F : Nat) (σ : bqS) (x1 : Int32) (x2 : Int32) : Option (Int32 × bqS) :=
  bq_lt (bq_up σ 0 4 (0 : Int32)) fun σ1 => bq_b1 (tw_isCell σ1 x1) fun v2 => if v2 = (0 : Int32) then (bq_b2 (tw_fail σ1 (1 : Int32)) fun v4 σ5 => some (v4, σ5)) else (bq_b1 (tw_isCell σ1 x2) fun v6 => if v6 = (0 : Int32) then (bq_b2 (tw_fail σ1 (1 : Int32)) fun v26 σ27 => some (v26, σ27)) else (bq_lt (((1 : Int32) <<< (x1 &&& 31)) &&& ((σ1 0 34) ^^^ (-1 : Int32))) fun v8 => bq_b2 (tw_way_L41 F σ1 F x2 v8 (0 : Int32)) fun t24 v25 => if t24 = 0 then (some (v25, σ1)) else (some ((-1 : Int32), σ1))))
def tw_unevenNext (F : Nat) (σ : bqS) : Option (Int32 × bqS) :=
  bq_b1 (tw_pack F σ 20 41 (0 : Int32)) fun σ1 => bq_b1 (tw_aDay F σ1) fun σ2 => bq_b1 (tw_uneven F σ2) fun v3 => bq_b1 (tw_unpack F σ2 20 41 (0 : Int32)) fun σ4 => some (v3, σ4)
def tw_toRest_L20 (F : Nat) : Nat → Int32 → Int32 → Int32 → Int32 → bqS → Option (Int32 × bqS)
  | 0, _, _, _, _, _ => none
  | k + 1, x1, x2, x3, x4, σ =>
    if σ 4 2 ≤ x4 then (some (x1, σ)) else (bq_b1 (tw_isOf x3 x4) fun v6 => if v6 = (0 : Int32) then (bq_lt (bq_up σ 0 35 (x3 ||| ((1 : Int32) <<< (x4 &&& 31)))) fun σ8 => bq_b2 (tw_unevenNext F σ8) fun v9 σ10 => bq_lt (bq_up σ10 0 35 x3) fun σ11 => if v9 < x2 then (bq_lt (x4 + (1 : Int32)) fun v13 => tw_toRest_L20 F k x4 v9 x3 v13 σ11) else (bq_lt (x4 + (1 : Int32)) fun v14 => tw_toRest_L20 F k x1 x2 x3 v14 σ11)) else (bq_lt (x4 + (1 : Int32)) fun v15 => tw_toRest_L20 F k x1 x2 x3 v15 σ))
def tw_toRest (F : Nat) (σ : bqS) : Option (Int32 × bqS) :=
  bq_lt (bq_up σ 0 4 (0 : Int32)) fun σ1 => bq_b2 (tw_unevenNext F σ1) fun v2 σ3 => bq_lt (σ3 0 35) fun v4 => bq_b2 (tw_toRest_L20 F F (-1 : Int32) v2 v4 (0 : Int32) σ3) fun v16 σ17 => some (v16, σ17)
def tw_toStand_L44 (F : Nat) : Nat → Int32 → Int32 → Int32 → Int32 → bqS → Option (Int32 × Int32 × bqS)
  | 0, _, _, _, _, _ => none
  | k + 1, x1, x4, x5, x6, σ =>
    bq_b1 (tw_cells σ) fun v12 => if v12 ≤ x6 then (some (x4, x5, σ)) else (bq_ck x1 6 (bq_lt (bq_up σ 15 x1.toNatClampNeg x6) fun σ14 => bq_b2 (tw_unevenNext F σ14) fun v16 σ17 => if x4 = (-1 : Int32) then (bq_lt (x6 + (1 : Int32)) fun v19 => tw_toStand_L44 F k x1 x6 v16 v19 σ17) else (if v16 < x5 then (bq_lt (x6 + (1 : Int32)) fun v21 => tw_toStand_L44 F k x1 x6 v16 v21 σ17) else (bq_lt (x6 + (1 : Int32)) fun v22 => tw_toStand_L44 F k x1 x4 x5 v22 σ17))))
def tw_toStand (F : Nat) (σ : bqS) (x1 : Int32) (x2 : Int32) : Option (Int32 × bqS) :=
  bq_lt (bq_up σ 0 4 (0 : Int32)) fun σ1 => bq_b1 (tw_isGirl σ1 x1) fun v2 => if v2 = (0 : Int32) then (bq_b2 (tw_fail σ1 (1 : Int32)) fun v4 σ5 => some (v4, σ5)) else (if x2 < (0 : Int32) then (bq_b2 (tw_fail σ1 (1 : Int32)) fun v7 σ8 => some (v7, σ8)) else (if x2 ≤ (1 : Int32) then (bq_ck x1 6 (bq_lt (σ1 15 x1.toNatClampNeg) fun v11 => bq_b3 (tw_toStand_L44 F F x1 (-1 : Int32) (0 : Int32) (0 : Int32) σ1) fun v23 v24 σ25 => bq_ck x1 6 (bq_lt (bq_up σ25 15 x1.toNatClampNeg v11) fun σ26 => if x2 = (0 : Int32) then (some (v23, σ26)) else (some (v24, σ26))))) else (bq_b2 (tw_fail σ1 (1 : Int32)) fun v29 σ30 => some (v29, σ30))))
def tw_toSwish_L48 (F : Nat) : Nat → Int32 → Int32 → Int32 → bqS → Option (Int32 × bqS)
  | 0, _, _, _, _ => none
  | k + 1, x1, x2, x3, σ =>
    if (20 : Int32) < x3 then (some (x3, σ)) else (bq_ck x1 6 (bq_ck (σ 15 x1.toNatClampNeg) 30 (if x2 ≤ σ 14 (σ 15 x1.toNatClampNeg).toNatClampNeg then (some (x3, σ)) else (bq_b1 (tw_swish F σ x1 (σ 0 32)) fun σ11 => bq_lt (x3 + (1 : Int32)) fun v12 => tw_toSwish_L48 F k x1 x2 v12 σ11))))
def tw_toSwish_J84 (F : Nat) (σ : bqS) (x3 : Int32) : Option (Int32 × bqS) :=
  bq_b1 (tw_unpack F σ 20 41 (0 : Int32)) fun σ15 => if x3 ≤ (20 : Int32) then (some (x3, σ15)) else (some ((-1 : Int32), σ15))
def tw_toSwish (F : Nat) (σ : bqS) (x1 : Int32) (x2 : Int32) : Option (Int32 × bqS) :=
  bq_lt (bq_up σ 0 4 (0 : Int32)) fun σ1 => bq_b1 (tw_isGirl σ1 x1) fun v2 => if v2 = (0 : Int32) then (bq_b2 (tw_fail σ1 (1 : Int32)) fun v19 σ20 => some (v19, σ20)) else (bq_b1 (tw_isIn x2.toInt64 (0 : Int64) (99 : Int64)) fun v4 => if v4 = (0 : Int32) then (bq_b2 (tw_fail σ1 (2 : Int32)) fun v17 σ18 => some (v17, σ18)) else (bq_b1 (tw_pack F σ1 20 41 (0 : Int32)) fun σ6 => bq_b2 (tw_toSwish_L48 F F x1 x2 (0 : Int32) σ6) fun v13 σ14 => tw_toSwish_J84 F σ14 v13))
def tw_missed (F : Nat) (σ : bqS) (x1 : Int32) : Option (Int32 × bqS) :=
  bq_lt (bq_up σ 0 4 (0 : Int32)) fun σ1 => bq_b1 (tw_isGirl σ1 x1) fun v2 => if v2 = (0 : Int32) then (bq_b2 (tw_fail σ1 (1 : Int32)) fun v13 σ14 => some (v13, σ14)) else (bq_b1 (tw_pack F σ1 20 41 (0 : Int32)) fun σ4 => bq_lt (bq_up σ4 0 35 ((σ4 0 35) &&& (((1 : Int32) <<< (x1 &&& 31)) ^^^ (-1 : Int32)))) fun σ5 => bq_b1 (tw_aDay F σ5) fun σ6 => bq_b1 (tw_allBlue F σ6) fun v7 => bq_b1 (tw_unpack F σ6 20 41 (0 : Int32)) fun σ8 => bq_lt (bq_up σ8 0 35 ((σ8 0 35) ||| ((1 : Int32) <<< (x1 &&& 31)))) fun σ9 => bq_b1 (tw_aDay F σ9) fun σ10 => bq_b1 (tw_allBlue F σ10) fun v11 => bq_b1 (tw_unpack F σ10 20 41 (0 : Int32)) fun σ12 => some (v7 - v11, σ12))
def tw_steps (σ : bqS) (x1 : Int32) (x2 : Int32) : Option (Int32 × bqS) :=
  bq_lt (bq_up σ 0 4 (0 : Int32)) fun σ1 => bq_b1 (tw_isGirl σ1 x1) fun v2 => if v2 = (0 : Int32) then (bq_b2 (tw_fail σ1 (1 : Int32)) fun v4 σ5 => some (v4, σ5)) else (bq_b1 (tw_isCell σ1 x2) fun v6 => if v6 = (0 : Int32) then (bq_b2 (tw_fail σ1 (1 : Int32)) fun v8 σ9 => some (v8, σ9)) else (bq_ck x1 6 (bq_b1 (tw_farOf σ1 (σ1 15 x1.toNatClampNeg) x2) fun v11 => some (v11, σ1))))
def tw_nearest_L23 (F : Nat) (σ : bqS) : Nat → Int32 → Int32 → Int32 → Option (Int32)
  | 0, _, _, _ => none
  | k + 1, x1, x2, x3 =>
    if σ 4 2 ≤ x3 then (some (x2)) else (if x2 = (-1 : Int32) then (bq_lt (x3 + (1 : Int32)) fun v6 => tw_nearest_L23 F σ k x1 x3 v6) else (bq_ck x3 6 (bq_b1 (tw_farOf σ (σ 15 x3.toNatClampNeg) x1) fun v8 => bq_ck x2 6 (bq_b1 (tw_farOf σ (σ 15 x2.toNatClampNeg) x1) fun v10 => if v10 ≤ v8 then (bq_lt (x3 + (1 : Int32)) fun v12 => tw_nearest_L23 F σ k x1 x2 v12) else (bq_lt (x3 + (1 : Int32)) fun v13 => tw_nearest_L23 F σ k x1 x3 v13)))))
def tw_nearest (F : Nat) (σ : bqS) (x1 : Int32) : Option (Int32 × bqS) :=
  bq_lt (bq_up σ 0 4 (0 : Int32)) fun σ1 => bq_b1 (tw_isCell σ1 x1) fun v2 => if v2 = (0 : Int32) then (bq_b2 (tw_fail σ1 (1 : Int32)) fun v15 σ16 => some (v15, σ16)) else (bq_b1 (tw_nearest_L23 F σ1 F x1 (-1 : Int32) (0 : Int32)) fun v14 => some (v14, σ1))
def tw_with (σ : bqS) (x1 : Int32) (x2 : Int32) (x3 : Int32) : Option (Int32) :=
  bq_ck x3 6 (bq_ck x1 6 (bq_b1 (tw_farOf σ (σ 15 x3.toNatClampNeg) (σ 23 x1.toNatClampNeg)) fun v3 => bq_ck (((x1 + (1 : Int32)) <<< ((6 : Int32) &&& 31)) + (x2 ||| ((1 : Int32) <<< (x3 &&& 31)))) 448 (some (v3 + (σ 22 (((x1 + (1 : Int32)) <<< ((6 : Int32) &&& 31)) + (x2 ||| ((1 : Int32) <<< (x3 &&& 31)))).toNatClampNeg)))))
def tw_tellLeast_L11 (F : Nat) : Nat → Int32 → Int32 → Int32 → bqS → Option (bqS)
  | 0, _, _, _, _ => none
  | k + 1, x1, x2, x3, σ =>
    if x2 ≤ x3 then (some (σ)) else (bq_ck ((x1 <<< ((6 : Int32) &&& 31)) + x3) 448 (bq_lt (bq_up σ 22 (((x1 <<< ((6 : Int32) &&& 31)) + x3).toNatClampNeg) (0 : Int32)) fun σ3 => bq_lt (x3 + (1 : Int32)) fun v5 => tw_tellLeast_L11 F k x1 x2 v5 σ3))
def tw_tellLeast_L58 (F : Nat) (σ : bqS) : Nat → Int32 → Int32 → Int32 → Int32 → Option (Int32)
  | 0, _, _, _, _ => none
  | k + 1, x3, x4, x5, x6 =>
    if σ 4 2 ≤ x6 then (some (x5)) else (bq_b1 (tw_isOf x4 x6) fun v11 => if v11 = (0 : Int32) then (bq_b1 (tw_with σ x3 x4 x6) fun v14 => bq_lt (if v14 < x5 then v14 else x5) fun v15 => bq_lt (x6 + (1 : Int32)) fun v16 => tw_tellLeast_L58 F σ k x3 x4 v15 v16) else (bq_lt (x6 + (1 : Int32)) fun v13 => tw_tellLeast_L58 F σ k x3 x4 x5 v13))
def tw_tellLeast_L45 (F : Nat) : Nat → Int32 → Int32 → Int32 → bqS → Option (bqS)
  | 0, _, _, _, _ => none
  | k + 1, x2, x3, x4, σ =>
    if x2 ≤ x4 then (some (σ)) else (bq_b1 (tw_tellLeast_L58 F σ F x3 x4 (100000 : Int32) (0 : Int32)) fun v17 => bq_ck ((x3 <<< ((6 : Int32) &&& 31)) + x4) 448 (bq_lt (bq_up σ 22 (((x3 <<< ((6 : Int32) &&& 31)) + x4).toNatClampNeg) (if v17 < (100000 : Int32) then v17 else (100000 : Int32))) fun σ18 => bq_lt (x4 + (1 : Int32)) fun v20 => tw_tellLeast_L45 F k x2 x3 v20 σ18))
def tw_tellLeast_L38 (F : Nat) : Nat → Int32 → Int32 → bqS → Option (bqS)
  | 0, _, _, _ => none
  | k + 1, x2, x3, σ =>
    if x3 < (0 : Int32) then (some (σ)) else (bq_b1 (tw_tellLeast_L45 F F x2 x3 (0 : Int32) σ) fun σ21 => bq_lt (x3 + (-1 : Int32)) fun v22 => tw_tellLeast_L38 F k x2 v22 σ21)
def tw_tellLeast (F : Nat) (σ : bqS) (x1 : Int32) : Option (bqS) :=
  bq_lt ((1 : Int32) <<< ((σ 4 2) &&& 31)) fun v1 => bq_b1 (tw_tellLeast_L11 F F x1 v1 (0 : Int32) σ) fun σ6 => bq_lt (x1 - (1 : Int32)) fun v7 => bq_b1 (tw_tellLeast_L38 F F v1 v7 σ6) fun σ23 => some (σ23)
def tw_sent_L69 (F : Nat) : Nat → Int32 → Int32 → Int32 → bqS → Option (Int32 × bqS)
  | 0, _, _, _, _ => none
  | k + 1, x1, x3, x4, σ =>
    bq_b1 (tw_cells σ) fun v10 => if v10 ≤ x4 then (some (x3, σ)) else (bq_b1 (tw_isOf x1 x4) fun v12 => if v12 = (0 : Int32) then (bq_lt (x4 + (1 : Int32)) fun v18 => tw_sent_L69 F k x1 x3 v18 σ) else (bq_ck x3 6 (bq_lt (bq_up σ 23 x3.toNatClampNeg x4) fun σ14 => bq_lt (x3 + (1 : Int32)) fun v16 => bq_lt (x4 + (1 : Int32)) fun v17 => tw_sent_L69 F k x1 v16 v17 σ14)))
def tw_sent_L162 (F : Nat) (σ : bqS) : Nat → Int32 → Int32 → Int32 → Int32 → Option (Int32)
  | 0, _, _, _, _ => none
  | k + 1, x4, x5, x6, x7 =>
    if x7 < (0 : Int32) then (some (x6)) else (bq_b1 (tw_isOf x4 x7) fun v27 => if v27 = (0 : Int32) then (bq_b1 (tw_with σ x5 x4 x7) fun v30 => bq_ck ((x5 <<< ((6 : Int32) &&& 31)) + x4) 448 (if v30 = σ 22 ((x5 <<< ((6 : Int32) &&& 31)) + x4).toNatClampNeg then (bq_lt (x7 + (-1 : Int32)) fun v34 => tw_sent_L162 F σ k x4 x5 x7 v34) else (bq_lt (x7 + (-1 : Int32)) fun v33 => tw_sent_L162 F σ k x4 x5 x6 v33))) else (bq_lt (x7 + (-1 : Int32)) fun v29 => tw_sent_L162 F σ k x4 x5 x6 v29))
def tw_sent_L143 (F : Nat) (σ : bqS) : Nat → Int32 → Int32 → Int32 → Int32 → Option (Nat × Int32)
  | 0, _, _, _, _ => none
  | k + 1, x2, x3, x4, x5 =>
    if x3 ≤ x5 then (some (1, (0 : Int32))) else (bq_lt ((σ 4 2) - (1 : Int32)) fun v25 => bq_b1 (tw_sent_L162 F σ F x4 x5 (-1 : Int32) v25) fun v35 => bq_ck x5 6 (if σ 23 x5.toNatClampNeg = x2 then (some (0, v35)) else (bq_lt (x4 ||| ((1 : Int32) <<< (v35 &&& 31))) fun v38 => bq_lt (x5 + (1 : Int32)) fun v39 => tw_sent_L143 F σ k x2 x3 v38 v39)))
def tw_sent_J64 (F : Nat) (σ : bqS) (x1 : Int32) (x2 : Int32) : Option (Int32 × bqS) :=
  bq_b2 (tw_sent_L69 F F x1 (0 : Int32) (0 : Int32) σ) fun v19 σ20 => if v19 ≤ σ20 4 2 then (bq_b1 (tw_tellLeast F σ20 v19) fun σ22 => if x2 = (-1 : Int32) then (some (σ22 22 0, σ22)) else (bq_b2 (tw_sent_L143 F σ22 F x2 v19 (0 : Int32) (0 : Int32)) fun t40 v41 => if t40 = 0 then (some (v41, σ22)) else (some ((-1 : Int32), σ22)))) else (some ((-2 : Int32), σ20))
def tw_sent (F : Nat) (σ : bqS) (x1 : Int32) (x2 : Int32) : Option (Int32 × bqS) :=
  bq_lt (bq_up σ 0 4 (0 : Int32)) fun σ1 => bq_b1 (tw_cells σ1) fun v2 => bq_b1 (tw_isIn x1.toInt64 (0 : Int64) (((1 : Int64) <<< (v2.toInt64 &&& 63)) - (1 : Int64))) fun v3 => if v3 = (0 : Int32) then (bq_b2 (tw_fail σ1 (2 : Int32)) fun v5 σ6 => some (v5, σ6)) else (bq_b1 (tw_bitsOf F x1) fun v7 => if v7 ≤ (6 : Int32) then (if x2 = (-1 : Int32) then (tw_sent_J64 F σ1 x1 x2) else (bq_b1 (tw_isCell σ1 x2) fun v42 => if v42 = (0 : Int32) then (bq_b2 (tw_fail σ1 (1 : Int32)) fun v44 σ45 => some (v44, σ45)) else (bq_b1 (tw_isOf x1 x2) fun v46 => if v46 = (0 : Int32) then (bq_b2 (tw_fail σ1 (1 : Int32)) fun v48 σ49 => some (v48, σ49)) else (tw_sent_J64 F σ1 x1 x2)))) else (bq_b2 (tw_fail σ1 (2 : Int32)) fun v50 σ51 => some (v50, σ51)))
def tw_see (σ : bqS) (x1 : Int32) (x2 : Int32) (x3 : Int32) : Option (Int32 × bqS) :=
  bq_lt (bq_up σ 0 4 (0 : Int32)) fun σ1 => bq_b1 (tw_isCell σ1 x1) fun v2 => if v2 = (0 : Int32) then (bq_b2 (tw_fail σ1 (1 : Int32)) fun v22 σ23 => some (v22, σ23)) else (if σ1 0 37 = (8 : Int32) then (bq_b2 (tw_refuse σ1 (2 : Int32)) fun v5 σ6 => some (v5, σ6)) else (bq_b1 (tw_isIn x2.toInt64 (0 : Int64) (20 : Int64)) fun v7 => if v7 = (0 : Int32) then (bq_b2 (tw_refuse σ1 (2 : Int32)) fun v9 σ10 => some (v9, σ10)) else (bq_b1 (tw_isIn x3.toInt64 (0 : Int64) (99 : Int64)) fun v11 => if v11 = (0 : Int32) then (bq_b2 (tw_refuse σ1 (2 : Int32)) fun v20 σ21 => some (v20, σ21)) else (bq_ck (σ1 0 37) 8 (bq_lt (bq_up σ1 24 ((σ1 0 37).toNatClampNeg) x1) fun σ13 => bq_ck (σ13 0 37) 8 (bq_lt (bq_up σ13 25 ((σ13 0 37).toNatClampNeg) x2) fun σ15 => bq_ck (σ15 0 37) 8 (bq_lt (bq_up σ15 26 ((σ15 0 37).toNatClampNeg) x3) fun σ17 => bq_lt (bq_up σ17 0 37 ((σ17 0 37) + (1 : Int32))) fun σ19 => some (σ19 0 37, σ19))))))))
def tw_isAsSeen_L13 (F : Nat) (σ : bqS) : Nat → Int32 → Int32 → Option (Int32)
  | 0, _, _ => none
  | k + 1, x1, x2 =>
    if σ 0 37 ≤ x2 then (some (x1)) else (bq_ck x2 8 (bq_lt (if x1 < (σ 25 x2.toNatClampNeg) then (σ 25 x2.toNatClampNeg) else x1) fun v4 => bq_lt (x2 + (1 : Int32)) fun v5 => tw_isAsSeen_L13 F σ k v4 v5))
def tw_isAsSeen_L54 (F : Nat) (σ : bqS) : Nat → Int32 → Int32 → Int32 → Option (Int32)
  | 0, _, _, _ => none
  | k + 1, x2, x3, x4 =>
    if σ 0 37 ≤ x4 then (some (x2)) else (if x2 = (0 : Int32) then (bq_lt (x4 + (1 : Int32)) fun v11 => tw_isAsSeen_L54 F σ k (0 : Int32) x3 v11) else (bq_ck x4 8 (if σ 25 x4.toNatClampNeg = x3 then (bq_ck x4 8 (bq_ck (σ 24 x4.toNatClampNeg) 30 (bq_ck x4 8 (if σ 14 (σ 24 x4.toNatClampNeg).toNatClampNeg = σ 26 x4.toNatClampNeg then (bq_lt (x4 + (1 : Int32)) fun v20 => tw_isAsSeen_L54 F σ k (1 : Int32) x3 v20) else (bq_lt (x4 + (1 : Int32)) fun v19 => tw_isAsSeen_L54 F σ k (0 : Int32) x3 v19))))) else (bq_lt (x4 + (1 : Int32)) fun v14 => tw_isAsSeen_L54 F σ k (1 : Int32) x3 v14))))
def tw_isAsSeen_L42 (F : Nat) : Nat → Int32 → Int32 → Int32 → bqS → Option (Int32 × bqS)
  | 0, _, _, _, _ => none
  | k + 1, x1, x2, x3, σ =>
    if x1 < x3 then (some (x2, σ)) else (if x2 = (0 : Int32) then (some (x2, σ)) else (bq_b1 (tw_isAsSeen_L54 F σ F x2 x3 (0 : Int32)) fun v21 => bq_b1 (tw_aDay F σ) fun σ22 => bq_lt (x3 + (1 : Int32)) fun v23 => tw_isAsSeen_L42 F k x1 v21 v23 σ22))
def tw_isAsSeen (F : Nat) (σ : bqS) : Option (Int32 × bqS) :=
  bq_b1 (tw_pack F σ 27 41 (0 : Int32)) fun σ1 => bq_b1 (tw_isAsSeen_L13 F σ1 F (0 : Int32) (0 : Int32)) fun v6 => bq_b2 (tw_isAsSeen_L42 F F v6 (1 : Int32) (0 : Int32) σ1) fun v24 σ25 => bq_b1 (tw_unpack F σ25 27 41 (0 : Int32)) fun σ26 => bq_bb v24 (some (v24, σ26))
def tw_tellFits_L26 (F : Nat) : Nat → Int32 → Int32 → Int32 → bqS → Option (bqS)
  | 0, _, _, _, _ => none
  | k + 1, x1, x2, x3, σ =>
    if (10 : Int32) ≤ x3 then (some (σ)) else (bq_ck x1 6 (bq_lt (bq_up σ 12 x1.toNatClampNeg x3) fun σ6 => if x3 = x2 then (bq_lt (x3 + (1 : Int32)) fun v9 => tw_tellFits_L26 F k x1 x2 v9 σ6) else (bq_b2 (tw_isAsSeen F σ6) fun v10 σ11 => if v10 = (0 : Int32) then (bq_lt (x3 + (1 : Int32)) fun v17 => tw_tellFits_L26 F k x1 x2 v17 σ11) else (bq_ck (σ11 0 52) 60 (bq_lt (bq_up σ11 28 ((σ11 0 52).toNatClampNeg) (((10 : Int32) * x1) + x3)) fun σ13 => bq_lt (bq_up σ13 0 52 ((σ13 0 52) + (1 : Int32))) fun σ15 => bq_lt (x3 + (1 : Int32)) fun v16 => tw_tellFits_L26 F k x1 x2 v16 σ15)))))
def tw_tellFits_L7 (F : Nat) : Nat → Int32 → bqS → Option (bqS)
  | 0, _, _ => none
  | k + 1, x1, σ =>
    if σ 4 2 ≤ x1 then (some (σ)) else (bq_ck x1 6 (bq_lt (σ 12 x1.toNatClampNeg) fun v4 => bq_b1 (tw_tellFits_L26 F F x1 v4 (0 : Int32) σ) fun σ18 => bq_ck x1 6 (bq_lt (bq_up σ18 12 x1.toNatClampNeg v4) fun σ19 => bq_lt (x1 + (1 : Int32)) fun v21 => tw_tellFits_L7 F k v21 σ19)))
def tw_tellFits (F : Nat) (σ : bqS) : Option (bqS) :=
  bq_lt (bq_up σ 0 52 (0 : Int32)) fun σ1 => bq_b1 (tw_tellFits_L7 F F (0 : Int32) σ1) fun σ22 => some (σ22)
def tw_skilled (F : Nat) (σ : bqS) (x1 : Int32) : Option (Int32 × bqS) :=
  bq_lt (bq_up σ 0 4 (0 : Int32)) fun σ1 => bq_b1 (tw_isIn x1.toInt64 (0 : Int64) (2 : Int64)) fun v2 => if v2 = (0 : Int32) then (bq_b2 (tw_fail σ1 (1 : Int32)) fun v11 σ12 => some (v11, σ12)) else (if x1 = (2 : Int32) then (bq_b2 (tw_isAsSeen F σ1) fun v8 σ9 => if v8 = (0 : Int32) then (some ((0 : Int32), σ9)) else (some ((1 : Int32), σ9))) else (bq_b1 (tw_tellFits F σ1) fun σ5 => if x1 = (0 : Int32) then (some (σ5 0 52, σ5)) else (if σ5 0 52 = (0 : Int32) then (some ((-1 : Int32), σ5)) else (some (σ5 28 0, σ5)))))
def tw_unlike_L18 (F : Nat) (σ : bqS) : Nat → Int32 → Int32 → Int32 → Int32 → Option (Int32)
  | 0, _, _, _, _ => none
  | k + 1, x1, x3, x4, x5 =>
    if x3 ≤ x5 then (some (x4)) else (if x4 = (0 : Int32) then (some (x4)) else (bq_ck (((30 : Int32) * x5) + x1) 1800 (bq_ck (((30 : Int32) * x3) + x1) 1800 (if σ 29 (((30 : Int32) * x5) + x1).toNatClampNeg = σ 29 (((30 : Int32) * x3) + x1).toNatClampNeg then (bq_lt (x5 + (1 : Int32)) fun v7 => tw_unlike_L18 F σ k x1 x3 (0 : Int32) v7) else (bq_lt (x5 + (1 : Int32)) fun v8 => tw_unlike_L18 F σ k x1 x3 (1 : Int32) v8)))))
def tw_unlike_J68 (F : Nat) (rec : Int32 → Int32 → Int32 → Option (Int32)) (σ : bqS) (x1 : Int32) (x2 : Int32) (x3 : Int32) (x4 : Int32) : Option (Int32) :=
  if x4 = (0 : Int32) then (bq_lt (x2 + (0 : Int32)) fun v11 => bq_lt (x3 + (1 : Int32)) fun v12 => rec x1 v11 v12) else (bq_lt (x2 + (1 : Int32)) fun v13 => bq_lt (x3 + (1 : Int32)) fun v14 => rec x1 v13 v14)
def tw_unlike_L4 (F : Nat) (σ : bqS) : Nat → Int32 → Int32 → Int32 → Option (Int32)
  | 0, _, _, _ => none
  | k + 1, x1, x2, x3 =>
    if σ 0 52 ≤ x3 then (some (x2)) else (bq_b1 (tw_unlike_L18 F σ F x1 x3 (1 : Int32) (0 : Int32)) fun v9 => tw_unlike_J68 F (tw_unlike_L4 F σ k) σ x1 x2 x3 v9)
def tw_unlike (F : Nat) (σ : bqS) (x1 : Int32) : Option (Int32) :=
  bq_b1 (tw_unlike_L4 F σ F x1 (0 : Int32) (0 : Int32)) fun v15 => some (v15)
def tw_look_L84 (F : Nat) : Nat → Int32 → Int32 → bqS → Option (bqS)
  | 0, _, _, _ => none
  | k + 1, x2, x5, σ =>
    if (30 : Int32) ≤ x5 then (some (σ)) else (bq_ck x5 30 (bq_ck (((30 : Int32) * x2) + x5) 1800 (bq_lt (bq_up σ 29 ((((30 : Int32) * x2) + x5).toNatClampNeg) (σ 14 x5.toNatClampNeg)) fun σ19 => bq_lt (x5 + (1 : Int32)) fun v21 => tw_look_L84 F k x2 v21 σ19)))
def tw_look_L35 (F : Nat) : Nat → Int32 → bqS → Option (bqS)
  | 0, _, _ => none
  | k + 1, x2, σ =>
    if σ 0 52 ≤ x2 then (some (σ)) else (bq_ck x2 60 (bq_lt ((σ 28 x2.toNatClampNeg) / (10 : Int32)) fun v10 => bq_ck v10 6 (bq_lt (σ 12 v10.toNatClampNeg) fun v12 => bq_ck x2 60 (bq_ck v10 6 (bq_lt (bq_up σ 12 v10.toNatClampNeg ((σ 28 x2.toNatClampNeg) - (σ 28 x2.toNatClampNeg) / (10 : Int32) * (10 : Int32))) fun σ14 => bq_b1 (tw_goOn F σ14 (5 : Int32)) fun σ16 => bq_b1 (tw_look_L84 F F x2 (0 : Int32) σ16) fun σ22 => bq_ck v10 6 (bq_lt (bq_up σ22 12 v10.toNatClampNeg v12) fun σ23 => bq_b1 (tw_unpack F σ23 20 41 (0 : Int32)) fun σ25 => bq_lt (x2 + (1 : Int32)) fun v26 => tw_look_L35 F k v26 σ25))))))
def tw_look_L146 (F : Nat) (σ : bqS) : Nat → Int32 → Int32 → Int32 → Option (Int32 × Int32)
  | 0, _, _, _ => none
  | k + 1, x2, x3, x4 =>
    bq_b1 (tw_cells σ) fun v28 => if v28 ≤ x4 then (some (x2, x3)) else (bq_b1 (tw_unlike F σ x4) fun v30 => if x3 < v30 then (bq_lt (x4 + (1 : Int32)) fun v32 => tw_look_L146 F σ k x4 v30 v32) else (bq_lt (x4 + (1 : Int32)) fun v33 => tw_look_L146 F σ k x2 x3 v33))
def tw_look (F : Nat) (σ : bqS) (x1 : Int32) : Option (Int32 × bqS) :=
  bq_lt (bq_up σ 0 4 (0 : Int32)) fun σ1 => if x1 < (0 : Int32) then (bq_b2 (tw_fail σ1 (1 : Int32)) fun v3 σ4 => some (v3, σ4)) else (if x1 ≤ (1 : Int32) then (bq_b1 (tw_tellFits F σ1) fun σ6 => bq_b1 (tw_pack F σ6 20 41 (0 : Int32)) fun σ7 => bq_b1 (tw_look_L35 F F (0 : Int32) σ7) fun σ27 => bq_b2 (tw_look_L146 F σ27 F (-1 : Int32) (0 : Int32) (0 : Int32)) fun v34 v35 => if x1 = (0 : Int32) then (some (v34, σ27)) else (some (v35, σ27))) else (bq_b2 (tw_fail σ1 (1 : Int32)) fun v37 σ38 => some (v37, σ38)))
def tw_forget (σ : bqS) : Option (bqS) :=
  bq_lt (bq_up σ 0 4 (0 : Int32)) fun σ1 => bq_lt (bq_up σ1 0 37 (0 : Int32)) fun σ2 => some (σ2)
def tw_tellGains_L11 (F : Nat) : Nat → Int32 → Int32 → Int32 → bqS → Option (bqS)
  | 0, _, _, _, _ => none
  | k + 1, x1, x2, x3, σ =>
    if (4 : Int32) ≤ x3 then (some (σ)) else (if x3 / (2 : Int32) = (1 : Int32) then (if x3 - x3 / (2 : Int32) * (2 : Int32) = (1 : Int32) then (bq_lt (bq_up σ 0 35 ((((σ 0 35) &&& ((((1 : Int32) <<< (x1 &&& 31)) ||| ((1 : Int32) <<< (x2 &&& 31))) ^^^ (-1 : Int32))) ||| (0 : Int32)) ||| (0 : Int32))) fun σ48 => bq_b1 (tw_aDay F σ48) fun σ49 => bq_ck x1 6 (bq_ck (σ49 15 x1.toNatClampNeg) 30 (bq_b1 (tw_bitsOf F (σ49 0 41)) fun v52 => bq_ck ((2 : Int32) * x3) 8 (bq_lt (bq_up σ49 30 (((2 : Int32) * x3).toNatClampNeg) (((σ49 14 (σ49 15 x1.toNatClampNeg).toNatClampNeg) - ((10 : Int32) * v52)) - ((2 : Int32) * (x3 / (2 : Int32))))) fun σ53 => bq_ck x2 6 (bq_ck (σ53 15 x2.toNatClampNeg) 30 (bq_b1 (tw_bitsOf F (σ53 0 41)) fun v57 => bq_ck (((2 : Int32) * x3) + (1 : Int32)) 8 (bq_lt (bq_up σ53 30 ((((2 : Int32) * x3) + (1 : Int32)).toNatClampNeg) (((σ53 14 (σ53 15 x2.toNatClampNeg).toNatClampNeg) - ((10 : Int32) * v57)) - ((2 : Int32) * (x3 - x3 / (2 : Int32) * (2 : Int32))))) fun σ58 => bq_b1 (tw_unpack F σ58 20 41 (0 : Int32)) fun σ60 => bq_lt (x3 + (1 : Int32)) fun v61 => tw_tellGains_L11 F k x1 x2 v61 σ60))))))) else (bq_lt (bq_up σ 0 35 ((((σ 0 35) &&& ((((1 : Int32) <<< (x1 &&& 31)) ||| ((1 : Int32) <<< (x2 &&& 31))) ^^^ (-1 : Int32))) ||| (0 : Int32)) ||| ((1 : Int32) <<< (x2 &&& 31)))) fun σ34 => bq_b1 (tw_aDay F σ34) fun σ35 => bq_ck x1 6 (bq_ck (σ35 15 x1.toNatClampNeg) 30 (bq_b1 (tw_bitsOf F (σ35 0 41)) fun v38 => bq_ck ((2 : Int32) * x3) 8 (bq_lt (bq_up σ35 30 (((2 : Int32) * x3).toNatClampNeg) (((σ35 14 (σ35 15 x1.toNatClampNeg).toNatClampNeg) - ((10 : Int32) * v38)) - ((2 : Int32) * (x3 / (2 : Int32))))) fun σ39 => bq_ck x2 6 (bq_ck (σ39 15 x2.toNatClampNeg) 30 (bq_b1 (tw_bitsOf F (σ39 0 41)) fun v43 => bq_ck (((2 : Int32) * x3) + (1 : Int32)) 8 (bq_lt (bq_up σ39 30 ((((2 : Int32) * x3) + (1 : Int32)).toNatClampNeg) (((σ39 14 (σ39 15 x2.toNatClampNeg).toNatClampNeg) - ((10 : Int32) * v43)) - ((2 : Int32) * (x3 - x3 / (2 : Int32) * (2 : Int32))))) fun σ44 => bq_b1 (tw_unpack F σ44 20 41 (0 : Int32)) fun σ46 => bq_lt (x3 + (1 : Int32)) fun v47 => tw_tellGains_L11 F k x1 x2 v47 σ46)))))))) else (if x3 - x3 / (2 : Int32) * (2 : Int32) = (1 : Int32) then (bq_lt (bq_up σ 0 35 ((((σ 0 35) &&& ((((1 : Int32) <<< (x1 &&& 31)) ||| ((1 : Int32) <<< (x2 &&& 31))) ^^^ (-1 : Int32))) ||| ((1 : Int32) <<< (x1 &&& 31))) ||| (0 : Int32))) fun σ19 => bq_b1 (tw_aDay F σ19) fun σ20 => bq_ck x1 6 (bq_ck (σ20 15 x1.toNatClampNeg) 30 (bq_b1 (tw_bitsOf F (σ20 0 41)) fun v23 => bq_ck ((2 : Int32) * x3) 8 (bq_lt (bq_up σ20 30 (((2 : Int32) * x3).toNatClampNeg) (((σ20 14 (σ20 15 x1.toNatClampNeg).toNatClampNeg) - ((10 : Int32) * v23)) - ((2 : Int32) * (x3 / (2 : Int32))))) fun σ24 => bq_ck x2 6 (bq_ck (σ24 15 x2.toNatClampNeg) 30 (bq_b1 (tw_bitsOf F (σ24 0 41)) fun v28 => bq_ck (((2 : Int32) * x3) + (1 : Int32)) 8 (bq_lt (bq_up σ24 30 ((((2 : Int32) * x3) + (1 : Int32)).toNatClampNeg) (((σ24 14 (σ24 15 x2.toNatClampNeg).toNatClampNeg) - ((10 : Int32) * v28)) - ((2 : Int32) * (x3 - x3 / (2 : Int32) * (2 : Int32))))) fun σ29 => bq_b1 (tw_unpack F σ29 20 41 (0 : Int32)) fun σ31 => bq_lt (x3 + (1 : Int32)) fun v32 => tw_tellGains_L11 F k x1 x2 v32 σ31))))))) else (bq_lt (bq_up σ 0 35 ((((σ 0 35) &&& ((((1 : Int32) <<< (x1 &&& 31)) ||| ((1 : Int32) <<< (x2 &&& 31))) ^^^ (-1 : Int32))) ||| ((1 : Int32) <<< (x1 &&& 31))) ||| ((1 : Int32) <<< (x2 &&& 31)))) fun σ5 => bq_b1 (tw_aDay F σ5) fun σ6 => bq_ck x1 6 (bq_ck (σ6 15 x1.toNatClampNeg) 30 (bq_b1 (tw_bitsOf F (σ6 0 41)) fun v9 => bq_ck ((2 : Int32) * x3) 8 (bq_lt (bq_up σ6 30 (((2 : Int32) * x3).toNatClampNeg) (((σ6 14 (σ6 15 x1.toNatClampNeg).toNatClampNeg) - ((10 : Int32) * v9)) - ((2 : Int32) * (x3 / (2 : Int32))))) fun σ10 => bq_ck x2 6 (bq_ck (σ10 15 x2.toNatClampNeg) 30 (bq_b1 (tw_bitsOf F (σ10 0 41)) fun v14 => bq_ck (((2 : Int32) * x3) + (1 : Int32)) 8 (bq_lt (bq_up σ10 30 ((((2 : Int32) * x3) + (1 : Int32)).toNatClampNeg) (((σ10 14 (σ10 15 x2.toNatClampNeg).toNatClampNeg) - ((10 : Int32) * v14)) - ((2 : Int32) * (x3 - x3 / (2 : Int32) * (2 : Int32))))) fun σ15 => bq_b1 (tw_unpack F σ15 20 41 (0 : Int32)) fun σ17 => bq_lt (x3 + (1 : Int32)) fun v18 => tw_tellGains_L11 F k x1 x2 v18 σ17)))))))))
def tw_tellGains (F : Nat) (σ : bqS) (x1 : Int32) (x2 : Int32) : Option (bqS) :=
  bq_b1 (tw_pack F σ 20 41 (0 : Int32)) fun σ1 => bq_b1 (tw_tellGains_L11 F F x1 x2 (0 : Int32) σ1) fun σ62 => some (σ62)
def tw_game_L62 (F : Nat) (σ : bqS) : Nat → Int32 → Int32 → Int32 → Option (Int32 × Int32)
  | 0, _, _, _ => none
  | k + 1, x4, x5, x6 =>
    if (4 : Int32) ≤ x6 then (some (x4, x5)) else (bq_ck ((2 : Int32) * (x6 ^^^ (2 : Int32))) 8 (bq_ck ((2 : Int32) * x6) 8 (if σ 30 ((2 : Int32) * x6).toNatClampNeg < σ 30 ((2 : Int32) * (x6 ^^^ (2 : Int32))).toNatClampNeg then (bq_lt (x6 + (1 : Int32)) fun v20 => tw_game_L62 F σ k x4 x5 v20) else (bq_ck (((2 : Int32) * (x6 ^^^ (1 : Int32))) + (1 : Int32)) 8 (bq_ck (((2 : Int32) * x6) + (1 : Int32)) 8 (if σ 30 (((2 : Int32) * (x6 ^^^ (1 : Int32))) + (1 : Int32)).toNatClampNeg ≤ σ 30 (((2 : Int32) * x6) + (1 : Int32)).toNatClampNeg then (bq_lt (x4 + (1 : Int32)) fun v24 => if x5 = (-1 : Int32) then (bq_lt (((10 : Int32) * (x6 / (2 : Int32))) + (x6 - x6 / (2 : Int32) * (2 : Int32))) fun v27 => bq_lt (x6 + (1 : Int32)) fun v28 => tw_game_L62 F σ k v24 v27 v28) else (bq_lt (x6 + (1 : Int32)) fun v26 => tw_game_L62 F σ k v24 x5 v26)) else (bq_lt (x6 + (1 : Int32)) fun v29 => tw_game_L62 F σ k x4 x5 v29)))))))
def tw_game (F : Nat) (σ : bqS) (x1 : Int32) (x2 : Int32) (x3 : Int32) : Option (Int32 × bqS) :=
  bq_lt (bq_up σ 0 4 (0 : Int32)) fun σ1 => bq_b1 (tw_isGirl σ1 x1) fun v2 => if v2 = (0 : Int32) then (bq_b2 (tw_fail σ1 (1 : Int32)) fun v4 σ5 => some (v4, σ5)) else (bq_b1 (tw_isGirl σ1 x2) fun v6 => if v6 = (0 : Int32) then (bq_b2 (tw_fail σ1 (1 : Int32)) fun v8 σ9 => some (v8, σ9)) else (if x3 < (0 : Int32) then (bq_b2 (tw_fail σ1 (1 : Int32)) fun v11 σ12 => some (v11, σ12)) else (if x3 ≤ (1 : Int32) then (if x1 = x2 then (bq_b2 (tw_fail σ1 (2 : Int32)) fun v33 σ34 => some (v33, σ34)) else (bq_b1 (tw_tellGains F σ1 x1 x2) fun σ15 => bq_b2 (tw_game_L62 F σ15 F (0 : Int32) (-1 : Int32) (0 : Int32)) fun v30 v31 => if x3 = (0 : Int32) then (some (v30, σ15)) else (some (v31, σ15)))) else (bq_b2 (tw_fail σ1 (1 : Int32)) fun v35 σ36 => some (v35, σ36)))))
def tw_drawOf (σ : bqS) (x1 : Int32) : Option (Int32 × bqS) :=
  bq_lt (bq_up σ 0 54 (((σ 0 54) * (1103515245 : Int32)) + (12345 : Int32))) fun σ1 => bq_nz x1 (some ((((σ1 0 54) >>> ((16 : Int32) &&& 31)) &&& (32767 : Int32)) - (((σ1 0 54) >>> ((16 : Int32) &&& 31)) &&& (32767 : Int32)) / x1 * x1, σ1))
def tw_something_J63 (σ : bqS) (x1 : Int32) : Option (bqS) :=
  if x1 = (2 : Int32) then (bq_lt (bq_up σ 0 32 (if ((σ 0 32) + (5 : Int32)) < (99 : Int32) then ((σ 0 32) + (5 : Int32)) else (99 : Int32))) fun σ6 => some (σ6)) else (some (σ))
def tw_something_J24 (σ : bqS) (x1 : Int32) : Option (bqS) :=
  if x1 = (1 : Int32) then (if σ 4 2 ≤ (0 : Int32) then (tw_something_J63 σ x1) else (bq_b2 (tw_drawOf σ (σ 4 2)) fun v8 σ9 => bq_b1 (tw_cells σ9) fun v10 => bq_b2 (tw_drawOf σ9 v10) fun v11 σ12 => bq_ck v8 6 (bq_lt (bq_up σ12 15 v8.toNatClampNeg v11) fun σ13 => tw_something_J63 σ13 x1))) else (tw_something_J63 σ x1)
def tw_something (σ : bqS) : Option (bqS) :=
  bq_b2 (tw_drawOf σ (5 : Int32)) fun v1 σ2 => if v1 = (0 : Int32) then (bq_b1 (tw_cells σ2) fun v15 => bq_b2 (tw_drawOf σ2 v15) fun v16 σ17 => bq_b1 (tw_dye σ17 v16 (20 : Int32)) fun σ18 => tw_something_J24 σ18 v1) else (tw_something_J24 σ2 v1)
def tw_skies_L61 (F : Nat) : Nat → Int32 → Int32 → Int32 → bqS → Option (Int32 × bqS)
  | 0, _, _, _, _ => none
  | k + 1, x2, x4, x5, σ =>
    if x2 ≤ x5 then (some (x4, σ)) else (bq_b1 (tw_something σ) fun σ9 => bq_b1 (tw_aDay F σ9) fun σ10 => bq_b1 (tw_bitsOf F (σ10 0 41)) fun v11 => bq_lt (x4 + v11) fun v12 => bq_lt (x5 + (1 : Int32)) fun v13 => tw_skies_L61 F k x2 v12 v13 σ10)
def tw_skies (F : Nat) (σ : bqS) (x1 : Int32) (x2 : Int32) (x3 : Int32) : Option (Int32 × bqS) :=
  bq_lt (bq_up σ 0 4 (0 : Int32)) fun σ1 => bq_b1 (tw_isIn x3.toInt64 (0 : Int64) (2 : Int64)) fun v2 => if v2 = (0 : Int32) then (bq_b2 (tw_fail σ1 (1 : Int32)) fun v25 σ26 => some (v25, σ26)) else (bq_b1 (tw_isIn x2.toInt64 (0 : Int64) (40 : Int64)) fun v4 => if v4 = (0 : Int32) then (bq_b2 (tw_fail σ1 (2 : Int32)) fun v23 σ24 => some (v23, σ24)) else (bq_b1 (tw_pack F σ1 20 41 (0 : Int32)) fun σ6 => bq_lt (bq_up σ6 0 54 x1) fun σ7 => bq_b2 (tw_skies_L61 F F x2 (0 : Int32) (0 : Int32) σ7) fun v14 σ15 => if x3 = (0 : Int32) then (bq_b1 (tw_unpack F σ15 20 41 (0 : Int32)) fun σ22 => some (v14, σ22)) else (if x3 = (1 : Int32) then (bq_b1 (tw_allBlue F σ15) fun v20 => bq_b1 (tw_unpack F σ15 20 41 (0 : Int32)) fun σ21 => some (v20, σ21)) else (bq_lt (σ15 0 32) fun v18 => bq_b1 (tw_unpack F σ15 20 41 (0 : Int32)) fun σ19 => some (v18, σ19)))))
def tw_image (F : Nat) (σ : bqS) : Option (bqS) :=
  bq_lt (bq_up σ 0 4 (0 : Int32)) fun σ1 => bq_lt (bq_up σ1 0 55 (1 : Int32)) fun σ2 => bq_lt (bq_up σ2 0 56 (σ2 0 36)) fun σ3 => bq_lt (bq_up σ3 0 57 (σ3 0 37)) fun σ4 => bq_b1 (tw_pack F σ4 31 41 (0 : Int32)) fun σ5 => bq_b1 (tw_copyTo F σ5 32 1640 16 1640) fun σ6 => bq_b1 (tw_copyTo F σ6 33 8 24 8) fun σ7 => bq_b1 (tw_copyTo F σ7 34 8 25 8) fun σ8 => bq_b1 (tw_copyTo F σ8 35 8 26 8) fun σ9 => bq_b1 (tw_copyTo F σ9 36 3 11 3) fun σ10 => some (σ10)
def tw_restore (F : Nat) (σ : bqS) : Option (Int32 × bqS) :=
  bq_lt (bq_up σ 0 4 (0 : Int32)) fun σ1 => if σ1 0 55 = (0 : Int32) then (some ((0 : Int32), σ1)) else (bq_lt (bq_up σ1 0 36 (σ1 0 56)) fun σ3 => bq_lt (bq_up σ3 0 37 (σ3 0 57)) fun σ4 => bq_b1 (tw_unpack F σ4 31 41 (0 : Int32)) fun σ5 => bq_b1 (tw_copyTo F σ5 16 1640 32 1640) fun σ6 => bq_b1 (tw_copyTo F σ6 24 8 33 8) fun σ7 => bq_b1 (tw_copyTo F σ7 25 8 34 8) fun σ8 => bq_b1 (tw_copyTo F σ8 26 8 35 8) fun σ9 => bq_b1 (tw_copyTo F σ9 11 3 36 3) fun σ10 => some ((1 : Int32), σ10))
def tw_readPart_J56 (F : Nat) (G : bqS → Int32 → Option bqS) (σ : bqS) (x2 : Int32) : Option (bqS) :=
  bq_b1 (tw_lay σ ((-1 : Int32) - x2)) fun σ9 => if σ9 0 22 = (0 : Int32) then (bq_b1 (tw_stepOn F σ9) fun σ11 => some (σ11)) else (some (σ9))
def tw_readPart (F : Nat) (G : bqS → Int32 → Option bqS) (σ : bqS) (x1 : Int32) : Option (bqS) :=
  if σ 0 22 = (0 : Int32) then (if σ 0 18 = (2 : Int32) then (bq_b2 (tw_readNumber F σ (0 : Int32) (9999 : Int32)) fun v13 σ14 => bq_b1 (tw_lay σ14 v13) fun σ15 => some (σ15)) else (if σ 0 18 = (1 : Int32) then (bq_b1 (tw_which F σ ((σ 0 3).toNatClampNeg)) fun v7 => if v7 = (-1 : Int32) then (bq_b1 (tw_wrong σ (3 : Int32)) fun σ12 => tw_readPart_J56 F G σ12 v7) else (tw_readPart_J56 F G σ v7)) else (bq_b1 (tw_mark F σ (40 : Int32)) fun σ4 => bq_b1 (G σ4 (x1 + (1 : Int32))) fun σ5 => bq_b1 (tw_mark F σ5 (41 : Int32)) fun σ6 => some (σ6)))) else (some (σ))
def tw_readProduct_J23 (F : Nat) (G : bqS → Int32 → Option bqS) (rec : Int32 → bqS → Option (bqS)) (σ : bqS) (x1 : Int32) : Option (bqS) :=
  bq_b1 (tw_isMarked σ (42 : Int32)) fun v4 => if v4 = (0 : Int32) then (bq_b1 (tw_stepOn F σ) fun σ6 => bq_b1 (tw_readPart F G σ6 x1) fun σ7 => bq_b1 (tw_lay σ7 (-23 : Int32)) fun σ8 => rec x1 σ8) else (bq_b1 (tw_stepOn F σ) fun σ9 => bq_b1 (tw_readPart F G σ9 x1) fun σ10 => bq_b1 (tw_lay σ10 (-22 : Int32)) fun σ11 => rec x1 σ11)
def tw_readProduct_L5 (F : Nat) (G : bqS → Int32 → Option bqS) : Nat → Int32 → bqS → Option (bqS)
  | 0, _, _ => none
  | k + 1, x1, σ =>
    bq_b1 (tw_isMarked σ (42 : Int32)) fun v2 => if v2 = (0 : Int32) then (bq_b1 (tw_isMarked σ (47 : Int32)) fun v12 => if v12 = (0 : Int32) then (some (σ)) else (tw_readProduct_J23 F G (tw_readProduct_L5 F G k) σ x1)) else (tw_readProduct_J23 F G (tw_readProduct_L5 F G k) σ x1)
def tw_readProduct (F : Nat) (G : bqS → Int32 → Option bqS) (σ : bqS) (x1 : Int32) : Option (bqS) :=
  bq_b1 (tw_readPart F G σ x1) fun σ1 => bq_b1 (tw_readProduct_L5 F G F x1 σ1) fun σ14 => some (σ14)
def tw_readSum_J23 (F : Nat) (G : bqS → Int32 → Option bqS) (rec : Int32 → bqS → Option (bqS)) (σ : bqS) (x1 : Int32) : Option (bqS) :=
  bq_b1 (tw_isMarked σ (43 : Int32)) fun v4 => if v4 = (0 : Int32) then (bq_b1 (tw_stepOn F σ) fun σ6 => bq_b1 (tw_readProduct F G σ6 x1) fun σ7 => bq_b1 (tw_lay σ7 (-21 : Int32)) fun σ8 => rec x1 σ8) else (bq_b1 (tw_stepOn F σ) fun σ9 => bq_b1 (tw_readProduct F G σ9 x1) fun σ10 => bq_b1 (tw_lay σ10 (-20 : Int32)) fun σ11 => rec x1 σ11)
def tw_readSum_L5 (F : Nat) (G : bqS → Int32 → Option bqS) : Nat → Int32 → bqS → Option (bqS)
  | 0, _, _ => none
  | k + 1, x1, σ =>
    bq_b1 (tw_isMarked σ (43 : Int32)) fun v2 => if v2 = (0 : Int32) then (bq_b1 (tw_isMarked σ (45 : Int32)) fun v12 => if v12 = (0 : Int32) then (some (σ)) else (tw_readSum_J23 F G (tw_readSum_L5 F G k) σ x1)) else (tw_readSum_J23 F G (tw_readSum_L5 F G k) σ x1)
def tw_readSum (F : Nat) (G : bqS → Int32 → Option bqS) (σ : bqS) (x1 : Int32) : Option (bqS) :=
  bq_b1 (tw_readProduct F G σ x1) fun σ1 => bq_b1 (tw_readSum_L5 F G F x1 σ1) fun σ14 => some (σ14)
def tw_readNot_L2 (F : Nat) (G : bqS → Int32 → Option bqS) : Nat → Int32 → bqS → Option (Int32 × bqS)
  | 0, _, _ => none
  | k + 1, x2, σ =>
    bq_b1 (tw_is F σ 22) fun v1 => if v1 = (0 : Int32) then (some (x2, σ)) else (if x2 = (6 : Int32) then (bq_b1 (tw_wrong σ (2 : Int32)) fun σ7 => bq_lt (x2 + (1 : Int32)) fun v8 => if σ7 0 22 = (0 : Int32) then (bq_b1 (tw_stepOn F σ7) fun σ10 => tw_readNot_L2 F G k v8 σ10) else (tw_readNot_L2 F G k v8 σ7)) else (bq_lt (x2 + (1 : Int32)) fun v4 => if σ 0 22 = (0 : Int32) then (bq_b1 (tw_stepOn F σ) fun σ6 => tw_readNot_L2 F G k v4 σ6) else (tw_readNot_L2 F G k v4 σ)))
def tw_readNot_L96 (F : Nat) (G : bqS → Int32 → Option bqS) : Nat → Int32 → Int32 → bqS → Option (bqS)
  | 0, _, _, _ => none
  | k + 1, x2, x3, σ =>
    if x2 ≤ x3 then (some (σ)) else (bq_b1 (tw_lay σ (-28 : Int32)) fun σ22 => bq_lt (x3 + (1 : Int32)) fun v23 => tw_readNot_L96 F G k x2 v23 σ22)
def tw_readNot_J94 (F : Nat) (G : bqS → Int32 → Option bqS) (σ : bqS) (x2 : Int32) : Option (bqS) :=
  bq_b1 (tw_readNot_L96 F G F x2 (0 : Int32) σ) fun σ24 => some (σ24)
def tw_readNot_J63 (F : Nat) (G : bqS → Int32 → Option bqS) (σ : bqS) (x1 : Int32) (x2 : Int32) : Option (bqS) :=
  bq_b1 (tw_isMarked σ (60 : Int32)) fun v16 => if v16 = (0 : Int32) then (bq_b1 (tw_stepOn F σ) fun σ18 => bq_b1 (tw_readSum F G σ18 x1) fun σ19 => bq_b1 (tw_lay σ19 (-25 : Int32)) fun σ20 => tw_readNot_J94 F G σ20 x2) else (bq_b1 (tw_stepOn F σ) fun σ25 => bq_b1 (tw_readSum F G σ25 x1) fun σ26 => bq_b1 (tw_lay σ26 (-24 : Int32)) fun σ27 => tw_readNot_J94 F G σ27 x2)
def tw_readNot (F : Nat) (G : bqS → Int32 → Option bqS) (σ : bqS) (x1 : Int32) : Option (bqS) :=
  bq_b2 (tw_readNot_L2 F G F (0 : Int32) σ) fun v11 σ12 => bq_b1 (tw_readSum F G σ12 x1) fun σ13 => bq_b1 (tw_isMarked σ13 (60 : Int32)) fun v14 => if v14 = (0 : Int32) then (bq_b1 (tw_isMarked σ13 (61 : Int32)) fun v28 => if v28 = (0 : Int32) then (tw_readNot_J94 F G σ13 v11) else (tw_readNot_J63 F G σ13 x1 v11)) else (tw_readNot_J63 F G σ13 x1 v11)
def tw_readAnd_L5 (F : Nat) (G : bqS → Int32 → Option bqS) : Nat → Int32 → bqS → Option (bqS)
  | 0, _, _ => none
  | k + 1, x1, σ =>
    bq_b1 (tw_is F σ 12) fun v2 => if v2 = (0 : Int32) then (some (σ)) else (bq_b1 (tw_stepOn F σ) fun σ4 => bq_b1 (tw_readNot F G σ4 x1) fun σ5 => bq_b1 (tw_lay σ5 (-26 : Int32)) fun σ6 => tw_readAnd_L5 F G k x1 σ6)
def tw_readAnd (F : Nat) (G : bqS → Int32 → Option bqS) (σ : bqS) (x1 : Int32) : Option (bqS) :=
  bq_b1 (tw_readNot F G σ x1) fun σ1 => bq_b1 (tw_readAnd_L5 F G F x1 σ1) fun σ7 => some (σ7)
def tw_readExprB_L67 (F : Nat) (G : bqS → Int32 → Option bqS) : Nat → Int32 → bqS → Option (bqS)
  | 0, _, _ => none
  | k + 1, x1, σ =>
    bq_b1 (tw_is F σ 24) fun v6 => if v6 = (0 : Int32) then (some (σ)) else (bq_b1 (tw_stepOn F σ) fun σ8 => bq_b1 (tw_readAnd F G σ8 x1) fun σ9 => bq_b1 (tw_lay σ9 (-27 : Int32)) fun σ10 => tw_readExprB_L67 F G k x1 σ10)
def tw_readExprB_J62 (F : Nat) (G : bqS → Int32 → Option bqS) (σ : bqS) (x1 : Int32) : Option (bqS) :=
  bq_b1 (tw_readAnd F G σ x1) fun σ5 => bq_b1 (tw_readExprB_L67 F G F x1 σ5) fun σ11 => some (σ11)
def tw_readExprB_J33 (F : Nat) (G : bqS → Int32 → Option bqS) (σ : bqS) (x1 : Int32) : Option (bqS) :=
  if (1 : Int32) = (0 : Int32) then (bq_b1 (tw_wrong σ (1 : Int32)) fun σ13 => tw_readExprB_J62 F G σ13 x1) else (if x1 = (6 : Int32) then (bq_b1 (tw_wrong σ (2 : Int32)) fun σ12 => tw_readExprB_J62 F G σ12 x1) else (tw_readExprB_J62 F G σ x1))
def tw_readExprB (F : Nat) (G : bqS → Int32 → Option bqS) (σ : bqS) (x1 : Int32) : Option (bqS) :=
  if σ 0 22 = (0 : Int32) then (if σ 0 18 = (2 : Int32) then (tw_readExprB_J33 F G σ x1) else (if σ 0 18 = (1 : Int32) then (tw_readExprB_J33 F G σ x1) else (bq_b1 (tw_isMarked σ (40 : Int32)) fun v15 => if v15 = (0 : Int32) then (if (0 : Int32) = (0 : Int32) then (bq_b1 (tw_wrong σ (1 : Int32)) fun σ20 => tw_readExprB_J62 F G σ20 x1) else (if x1 = (6 : Int32) then (bq_b1 (tw_wrong σ (2 : Int32)) fun σ19 => tw_readExprB_J62 F G σ19 x1) else (tw_readExprB_J62 F G σ x1))) else (tw_readExprB_J33 F G σ x1)))) else (some (σ))
def tw_readExpression (F : Nat) : Nat → bqS → Int32 → Option bqS
  | 0, _, _ => none
  | k + 1, σ, x => tw_readExprB F (tw_readExpression F k) σ x
def tw_sayRule (F : Nat) (σ : bqS) (x1 : Int32) : Option (bqS) :=
  bq_b1 (tw_stepOn F σ) fun σ1 => bq_bb x1 (bq_lt (bq_up σ1 0 27 x1) fun σ2 => if x1 = (0 : Int32) then (bq_lt (bq_up σ2 0 3 (2 : Int32)) fun σ5 => bq_b1 (tw_readExpression F 8 σ5 (0 : Int32)) fun σ6 => some (σ6)) else (bq_lt (bq_up σ2 0 3 (3 : Int32)) fun σ7 => bq_b1 (tw_readExpression F 8 σ7 (0 : Int32)) fun σ8 => some (σ8)))
def tw_sayOnce_J74 (F : Nat) (σ : bqS) (x1 : Int32) : Option (bqS) :=
  if x1 = (8 : Int32) then (bq_b2 (tw_readNumber F σ (1 : Int32) (99 : Int32)) fun v7 σ8 => bq_lt (bq_up σ8 4 14 v7) fun σ9 => some (σ9)) else (some (σ))
def tw_sayOnce_J55 (F : Nat) (σ : bqS) (x1 : Int32) : Option (bqS) :=
  if x1 = (4 : Int32) then (bq_b2 (tw_readNumber F σ (0 : Int32) (20 : Int32)) fun v10 σ11 => bq_lt (bq_up σ11 4 13 v10) fun σ12 => tw_sayOnce_J74 F σ12 x1) else (tw_sayOnce_J74 F σ x1)
def tw_sayOnce (F : Nat) (σ : bqS) (x1 : Int32) : Option (bqS) :=
  if x1 = (1 : Int32) then (bq_b1 (tw_saySky F σ) fun σ19 => some (σ19)) else (if x1 ≤ (8 : Int32) then (bq_b1 (tw_stepOn F σ) fun σ3 => if x1 = (2 : Int32) then (bq_b2 (tw_readNumber F σ3 (0 : Int32) (99 : Int32)) fun v13 σ14 => bq_lt (bq_up σ14 4 12 v13) fun σ15 => tw_sayOnce_J55 F σ15 x1) else (tw_sayOnce_J55 F σ3 x1)) else (if x1 = (32 : Int32) then (bq_b1 (tw_sayRule F σ (1 : Int32)) fun σ18 => some (σ18)) else (bq_b1 (tw_sayRule F σ (0 : Int32)) fun σ17 => some (σ17))))
def tw_readLine_J145 (F : Nat) (σ : bqS) (x1 : Int32) (x2 : Int32) (x3 : Int32) : Option (Int32 × bqS) :=
  if x2 = (-1 : Int32) then (bq_b1 (tw_is F σ 14) fun v18 => if v18 = (0 : Int32) then (bq_b1 (tw_is F σ 25) fun v20 => if v20 = (0 : Int32) then (bq_b1 (tw_wrong σ (1 : Int32)) fun σ22 => bq_b1 (tw_mark F σ22 (59 : Int32)) fun σ23 => some (x1 ||| x3, σ23)) else (bq_b1 (tw_sayPegs F σ) fun σ24 => bq_b1 (tw_mark F σ24 (59 : Int32)) fun σ25 => some (x1 ||| x3, σ25))) else (bq_b1 (tw_sayBlue F σ) fun σ26 => bq_b1 (tw_mark F σ26 (59 : Int32)) fun σ27 => some (x1 ||| x3, σ27))) else (bq_b1 (tw_sayWoman F σ x2) fun σ28 => bq_b1 (tw_mark F σ28 (59 : Int32)) fun σ29 => some (x1 ||| x3, σ29))
def tw_readLine_J126 (F : Nat) (σ : bqS) (x1 : Int32) (x2 : Int32) (x3 : Int32) : Option (Int32 × bqS) :=
  if x3 ≤ (0 : Int32) then (tw_readLine_J145 F σ x1 x2 x3) else (if σ 0 22 = (0 : Int32) then (bq_b1 (tw_sayOnce F σ x3) fun σ31 => bq_b1 (tw_mark F σ31 (59 : Int32)) fun σ32 => some (x1 ||| x3, σ32)) else (tw_readLine_J145 F σ x1 x2 x3))
def tw_readLine_J115 (F : Nat) (σ : bqS) (x1 : Int32) (x2 : Int32) (x3 : Int32) : Option (Int32 × bqS) :=
  if x3 &&& x1 = (0 : Int32) then (tw_readLine_J126 F σ x1 x2 x3) else (bq_b1 (tw_wrong σ (5 : Int32)) fun σ33 => tw_readLine_J126 F σ33 x1 x2 x3)
def tw_readLine (F : Nat) (σ : bqS) (x1 : Int32) : Option (Int32 × bqS) :=
  bq_b1 (tw_which F σ 1) fun v1 => bq_b1 (tw_is F σ 29) fun v2 => if v2 = (0 : Int32) then (bq_b1 (tw_is F σ 20) fun v4 => if v4 = (0 : Int32) then (bq_b1 (tw_is F σ 26) fun v6 => if v6 = (0 : Int32) then (bq_b1 (tw_is F σ 15) fun v8 => if v8 = (0 : Int32) then (bq_b1 (tw_is F σ 17) fun v10 => if v10 = (0 : Int32) then (bq_b1 (tw_is F σ 18) fun v12 => if v12 = (0 : Int32) then (if (0 : Int32) = (1 : Int32) then (if σ 0 26 = (0 : Int32) then (tw_readLine_J115 F σ x1 v1 (0 : Int32)) else (bq_b1 (tw_wrong σ (4 : Int32)) fun σ35 => tw_readLine_J115 F σ35 x1 v1 (0 : Int32))) else (tw_readLine_J115 F σ x1 v1 (0 : Int32))) else (if (32 : Int32) = (1 : Int32) then (if σ 0 26 = (0 : Int32) then (tw_readLine_J115 F σ x1 v1 (32 : Int32)) else (bq_b1 (tw_wrong σ (4 : Int32)) fun σ38 => tw_readLine_J115 F σ38 x1 v1 (32 : Int32))) else (tw_readLine_J115 F σ x1 v1 (32 : Int32)))) else (if (16 : Int32) = (1 : Int32) then (if σ 0 26 = (0 : Int32) then (tw_readLine_J115 F σ x1 v1 (16 : Int32)) else (bq_b1 (tw_wrong σ (4 : Int32)) fun σ41 => tw_readLine_J115 F σ41 x1 v1 (16 : Int32))) else (tw_readLine_J115 F σ x1 v1 (16 : Int32)))) else (if (8 : Int32) = (1 : Int32) then (if σ 0 26 = (0 : Int32) then (tw_readLine_J115 F σ x1 v1 (8 : Int32)) else (bq_b1 (tw_wrong σ (4 : Int32)) fun σ44 => tw_readLine_J115 F σ44 x1 v1 (8 : Int32))) else (tw_readLine_J115 F σ x1 v1 (8 : Int32)))) else (if (4 : Int32) = (1 : Int32) then (if σ 0 26 = (0 : Int32) then (tw_readLine_J115 F σ x1 v1 (4 : Int32)) else (bq_b1 (tw_wrong σ (4 : Int32)) fun σ47 => tw_readLine_J115 F σ47 x1 v1 (4 : Int32))) else (tw_readLine_J115 F σ x1 v1 (4 : Int32)))) else (if (2 : Int32) = (1 : Int32) then (if σ 0 26 = (0 : Int32) then (tw_readLine_J115 F σ x1 v1 (2 : Int32)) else (bq_b1 (tw_wrong σ (4 : Int32)) fun σ50 => tw_readLine_J115 F σ50 x1 v1 (2 : Int32))) else (tw_readLine_J115 F σ x1 v1 (2 : Int32)))) else (if (1 : Int32) = (1 : Int32) then (if σ 0 26 = (0 : Int32) then (tw_readLine_J115 F σ x1 v1 (1 : Int32)) else (bq_b1 (tw_wrong σ (4 : Int32)) fun σ53 => tw_readLine_J115 F σ53 x1 v1 (1 : Int32))) else (tw_readLine_J115 F σ x1 v1 (1 : Int32)))
def tw_coast_L66 (F : Nat) : Nat → Int32 → bqS → Option (bqS)
  | 0, _, _ => none
  | k + 1, x2, σ =>
    if (30 : Int32) ≤ x2 then (some (σ)) else (bq_ck ((30 : Int32) + x2) 60 (bq_lt (bq_up σ 5 (((30 : Int32) + x2).toNatClampNeg) (0 : Int32)) fun σ15 => bq_lt (x2 + (1 : Int32)) fun v17 => tw_coast_L66 F k v17 σ15))
def tw_coast_L94 (F : Nat) : Nat → Int32 → bqS → Option (bqS)
  | 0, _, _ => none
  | k + 1, x2, σ =>
    if σ 0 22 = (0 : Int32) then (if σ 0 18 = (0 : Int32) then (some (σ)) else (bq_b2 (tw_readLine F σ x2) fun v22 σ23 => tw_coast_L94 F k v22 σ23)) else (some (σ))
def tw_coast_J117 (F : Nat) (σ : bqS) : Option (Int32 × bqS) :=
  if σ 0 22 = (0 : Int32) then (bq_b1 (tw_takeOver F σ) fun σ26 => some ((0 : Int32), σ26)) else (bq_lt (bq_up σ 0 24 (σ 0 23)) fun σ27 => bq_lt (bq_up σ27 11 0 ((σ27 11 0) + (1 : Int32))) fun σ28 => some (σ28 0 22, σ28))
def tw_coast (F : Nat) (σ : bqS) (x1 : Int32) : Option (Int32 × bqS) :=
  bq_lt (bq_up σ 0 4 (0 : Int32)) fun σ1 => if x1 < (0 : Int32) then (bq_b2 (tw_fail σ1 (1 : Int32)) fun v3 σ4 => some (v3, σ4)) else (if x1 ≤ σ1 0 15 then (bq_lt (bq_up σ1 0 15 (0 : Int32)) fun σ6 => bq_lt (bq_up σ6 0 17 x1) fun σ7 => bq_lt (bq_up σ7 0 16 (0 : Int32)) fun σ8 => bq_lt (bq_up σ8 0 22 (0 : Int32)) fun σ9 => bq_lt (bq_up σ9 0 24 (-1 : Int32)) fun σ10 => bq_lt (bq_up σ10 0 25 (0 : Int32)) fun σ11 => bq_lt (bq_up σ11 0 26 (0 : Int32)) fun σ12 => bq_b1 (tw_begin F σ12 (9 : Int32)) fun σ13 => bq_b1 (tw_coast_L66 F F (0 : Int32) σ13) fun σ18 => bq_b1 (tw_stepOn F σ18) fun σ19 => bq_b1 (tw_coast_L94 F F (0 : Int32) σ19) fun σ24 => tw_coast_J117 F σ24) else (bq_b2 (tw_fail σ1 (1 : Int32)) fun v29 σ30 => some (v29, σ30)))
theorem hd_X7_begin : yX7_begin.cls = "BlueBagModel" ∧ yX7_begin.cls ≠ "java/lang/invoke/MethodHandle" ∧ yX7_begin.cls ≠ "java/lang/invoke/VarHandle" ∧ (parseMethodDescriptor yX7_begin.desc).map (fun d => d.parameters.length) = some 1 := by decide +kernel
theorem hd_X7_thrown : yX7_thrown.cls = "BlueBagModel" ∧ yX7_thrown.cls ≠ "java/lang/invoke/MethodHandle" ∧ yX7_thrown.cls ≠ "java/lang/invoke/VarHandle" ∧ (parseMethodDescriptor yX7_thrown.desc).map (fun d => d.parameters.length) = some 0 := by decide +kernel
theorem hd_X7_feed : yX7_feed.cls = "BlueBagModel" ∧ yX7_feed.cls ≠ "java/lang/invoke/MethodHandle" ∧ yX7_feed.cls ≠ "java/lang/invoke/VarHandle" ∧ (parseMethodDescriptor yX7_feed.desc).map (fun d => d.parameters.length) = some 5 := by decide +kernel
theorem hd_X7_fail : yX7_fail.cls = "BlueBagModel" ∧ yX7_fail.cls ≠ "java/lang/invoke/MethodHandle" ∧ yX7_fail.cls ≠ "java/lang/invoke/VarHandle" ∧ (parseMethodDescriptor yX7_fail.desc).map (fun d => d.parameters.length) = some 1 := by decide +kernel
theorem hd_X7_byteAt : yX7_byteAt.cls = "BlueBagModel" ∧ yX7_byteAt.cls ≠ "java/lang/invoke/MethodHandle" ∧ yX7_byteAt.cls ≠ "java/lang/invoke/VarHandle" ∧ (parseMethodDescriptor yX7_byteAt.desc).map (fun d => d.parameters.length) = some 1 := by decide +kernel
theorem hd_X7_isLetter : yX7_isLetter.cls ≠ "java/lang/invoke/MethodHandle" ∧ yX7_isLetter.cls ≠ "java/lang/invoke/VarHandle" ∧ (parseMethodDescriptor yX7_isLetter.desc).map (fun d => d.parameters.length) = some 1 := by decide +kernel
theorem hd_X7_isDigit : yX7_isDigit.cls ≠ "java/lang/invoke/MethodHandle" ∧ yX7_isDigit.cls ≠ "java/lang/invoke/VarHandle" ∧ (parseMethodDescriptor yX7_isDigit.desc).map (fun d => d.parameters.length) = some 1 := by decide +kernel
theorem hd_X7_isMark : yX7_isMark.cls ≠ "java/lang/invoke/MethodHandle" ∧ yX7_isMark.cls ≠ "java/lang/invoke/VarHandle" ∧ (parseMethodDescriptor yX7_isMark.desc).map (fun d => d.parameters.length) = some 1 := by decide +kernel
theorem hd_X7_stepOn : yX7_stepOn.cls = "BlueBagModel" ∧ yX7_stepOn.cls ≠ "java/lang/invoke/MethodHandle" ∧ yX7_stepOn.cls ≠ "java/lang/invoke/VarHandle" ∧ (parseMethodDescriptor yX7_stepOn.desc).map (fun d => d.parameters.length) = some 0 := by decide +kernel
theorem hd_X7_is : yX7_is.cls = "BlueBagModel" ∧ yX7_is.cls ≠ "java/lang/invoke/MethodHandle" ∧ yX7_is.cls ≠ "java/lang/invoke/VarHandle" ∧ (parseMethodDescriptor yX7_is.desc).map (fun d => d.parameters.length) = some 1 := by decide +kernel
theorem hd_X7_which : yX7_which.cls = "BlueBagModel" ∧ yX7_which.cls ≠ "java/lang/invoke/MethodHandle" ∧ yX7_which.cls ≠ "java/lang/invoke/VarHandle" ∧ (parseMethodDescriptor yX7_which.desc).map (fun d => d.parameters.length) = some 1 := by decide +kernel
theorem hd_X7_wrong : yX7_wrong.cls = "BlueBagModel" ∧ yX7_wrong.cls ≠ "java/lang/invoke/MethodHandle" ∧ yX7_wrong.cls ≠ "java/lang/invoke/VarHandle" ∧ (parseMethodDescriptor yX7_wrong.desc).map (fun d => d.parameters.length) = some 1 := by decide +kernel
theorem hd_X7_numberNow : yX7_numberNow.cls = "BlueBagModel" ∧ yX7_numberNow.cls ≠ "java/lang/invoke/MethodHandle" ∧ yX7_numberNow.cls ≠ "java/lang/invoke/VarHandle" ∧ (parseMethodDescriptor yX7_numberNow.desc).map (fun d => d.parameters.length) = some 2 := by decide +kernel
theorem hd_X7_readNumber : yX7_readNumber.cls = "BlueBagModel" ∧ yX7_readNumber.cls ≠ "java/lang/invoke/MethodHandle" ∧ yX7_readNumber.cls ≠ "java/lang/invoke/VarHandle" ∧ (parseMethodDescriptor yX7_readNumber.desc).map (fun d => d.parameters.length) = some 2 := by decide +kernel
theorem hd_X7_saySky : yX7_saySky.cls = "BlueBagModel" ∧ yX7_saySky.cls ≠ "java/lang/invoke/MethodHandle" ∧ yX7_saySky.cls ≠ "java/lang/invoke/VarHandle" ∧ (parseMethodDescriptor yX7_saySky.desc).map (fun d => d.parameters.length) = some 0 := by decide +kernel
theorem hd_X7_isMarked : yX7_isMarked.cls = "BlueBagModel" ∧ yX7_isMarked.cls ≠ "java/lang/invoke/MethodHandle" ∧ yX7_isMarked.cls ≠ "java/lang/invoke/VarHandle" ∧ (parseMethodDescriptor yX7_isMarked.desc).map (fun d => d.parameters.length) = some 1 := by decide +kernel
theorem hd_X7_lay : yX7_lay.cls = "BlueBagModel" ∧ yX7_lay.cls ≠ "java/lang/invoke/MethodHandle" ∧ yX7_lay.cls ≠ "java/lang/invoke/VarHandle" ∧ (parseMethodDescriptor yX7_lay.desc).map (fun d => d.parameters.length) = some 1 := by decide +kernel
theorem hd_X7_mark : yX7_mark.cls = "BlueBagModel" ∧ yX7_mark.cls ≠ "java/lang/invoke/MethodHandle" ∧ yX7_mark.cls ≠ "java/lang/invoke/VarHandle" ∧ (parseMethodDescriptor yX7_mark.desc).map (fun d => d.parameters.length) = some 1 := by decide +kernel
theorem hd_X7_isOf : yX7_isOf.cls ≠ "java/lang/invoke/MethodHandle" ∧ yX7_isOf.cls ≠ "java/lang/invoke/VarHandle" ∧ (parseMethodDescriptor yX7_isOf.desc).map (fun d => d.parameters.length) = some 2 := by decide +kernel
theorem hd_X7_cellNow : yX7_cellNow.cls = "BlueBagModel" ∧ yX7_cellNow.cls ≠ "java/lang/invoke/MethodHandle" ∧ yX7_cellNow.cls ≠ "java/lang/invoke/VarHandle" ∧ (parseMethodDescriptor yX7_cellNow.desc).map (fun d => d.parameters.length) = some 1 := by decide +kernel
theorem hd_X7_sayWoman : yX7_sayWoman.cls = "BlueBagModel" ∧ yX7_sayWoman.cls ≠ "java/lang/invoke/MethodHandle" ∧ yX7_sayWoman.cls ≠ "java/lang/invoke/VarHandle" ∧ (parseMethodDescriptor yX7_sayWoman.desc).map (fun d => d.parameters.length) = some 1 := by decide +kernel
theorem hd_X7_sayBlue : yX7_sayBlue.cls = "BlueBagModel" ∧ yX7_sayBlue.cls ≠ "java/lang/invoke/MethodHandle" ∧ yX7_sayBlue.cls ≠ "java/lang/invoke/VarHandle" ∧ (parseMethodDescriptor yX7_sayBlue.desc).map (fun d => d.parameters.length) = some 0 := by decide +kernel
theorem hd_X7_sayPegs : yX7_sayPegs.cls = "BlueBagModel" ∧ yX7_sayPegs.cls ≠ "java/lang/invoke/MethodHandle" ∧ yX7_sayPegs.cls ≠ "java/lang/invoke/VarHandle" ∧ (parseMethodDescriptor yX7_sayPegs.desc).map (fun d => d.parameters.length) = some 0 := by decide +kernel
theorem hd_X7_takeHalf : yX7_takeHalf.cls ≠ "java/lang/invoke/MethodHandle" ∧ yX7_takeHalf.cls ≠ "java/lang/invoke/VarHandle" ∧ (parseMethodDescriptor yX7_takeHalf.desc).map (fun d => d.parameters.length) = some 1 := by decide +kernel
theorem hd_X7_takeOver : yX7_takeOver.cls = "BlueBagModel" ∧ yX7_takeOver.cls ≠ "java/lang/invoke/MethodHandle" ∧ yX7_takeOver.cls ≠ "java/lang/invoke/VarHandle" ∧ (parseMethodDescriptor yX7_takeOver.desc).map (fun d => d.parameters.length) = some 0 := by decide +kernel
theorem hd_X7_fault : yX7_fault.cls = "BlueBagModel" ∧ yX7_fault.cls ≠ "java/lang/invoke/MethodHandle" ∧ yX7_fault.cls ≠ "java/lang/invoke/VarHandle" ∧ (parseMethodDescriptor yX7_fault.desc).map (fun d => d.parameters.length) = some 0 := by decide +kernel
theorem hd_X7_cells : yX7_cells.cls = "BlueBagModel" ∧ yX7_cells.cls ≠ "java/lang/invoke/MethodHandle" ∧ yX7_cells.cls ≠ "java/lang/invoke/VarHandle" ∧ (parseMethodDescriptor yX7_cells.desc).map (fun d => d.parameters.length) = some 0 := by decide +kernel
theorem hd_X7_allBlue : yX7_allBlue.cls = "BlueBagModel" ∧ yX7_allBlue.cls ≠ "java/lang/invoke/MethodHandle" ∧ yX7_allBlue.cls ≠ "java/lang/invoke/VarHandle" ∧ (parseMethodDescriptor yX7_allBlue.desc).map (fun d => d.parameters.length) = some 0 := by decide +kernel
theorem hd_X7_count : yX7_count.cls = "BlueBagModel" ∧ yX7_count.cls ≠ "java/lang/invoke/MethodHandle" ∧ yX7_count.cls ≠ "java/lang/invoke/VarHandle" ∧ (parseMethodDescriptor yX7_count.desc).map (fun d => d.parameters.length) = some 1 := by decide +kernel
theorem hd_X7_isIn : yX7_isIn.cls ≠ "java/lang/invoke/MethodHandle" ∧ yX7_isIn.cls ≠ "java/lang/invoke/VarHandle" ∧ (parseMethodDescriptor yX7_isIn.desc).map (fun d => d.parameters.length) = some 3 := by decide +kernel
theorem hd_X7_isCell : yX7_isCell.cls = "BlueBagModel" ∧ yX7_isCell.cls ≠ "java/lang/invoke/MethodHandle" ∧ yX7_isCell.cls ≠ "java/lang/invoke/VarHandle" ∧ (parseMethodDescriptor yX7_isCell.desc).map (fun d => d.parameters.length) = some 1 := by decide +kernel
theorem hd_X7_columnOf : yX7_columnOf.cls = "BlueBagModel" ∧ yX7_columnOf.cls ≠ "java/lang/invoke/MethodHandle" ∧ yX7_columnOf.cls ≠ "java/lang/invoke/VarHandle" ∧ (parseMethodDescriptor yX7_columnOf.desc).map (fun d => d.parameters.length) = some 1 := by decide +kernel
theorem hd_X7_rowOf : yX7_rowOf.cls = "BlueBagModel" ∧ yX7_rowOf.cls ≠ "java/lang/invoke/MethodHandle" ∧ yX7_rowOf.cls ≠ "java/lang/invoke/VarHandle" ∧ (parseMethodDescriptor yX7_rowOf.desc).map (fun d => d.parameters.length) = some 1 := by decide +kernel
theorem hd_X7_farOf : yX7_farOf.cls = "BlueBagModel" ∧ yX7_farOf.cls ≠ "java/lang/invoke/MethodHandle" ∧ yX7_farOf.cls ≠ "java/lang/invoke/VarHandle" ∧ (parseMethodDescriptor yX7_farOf.desc).map (fun d => d.parameters.length) = some 2 := by decide +kernel
theorem hd_X7_besideOf : yX7_besideOf.cls = "BlueBagModel" ∧ yX7_besideOf.cls ≠ "java/lang/invoke/MethodHandle" ∧ yX7_besideOf.cls ≠ "java/lang/invoke/VarHandle" ∧ (parseMethodDescriptor yX7_besideOf.desc).map (fun d => d.parameters.length) = some 1 := by decide +kernel
theorem hd_X7_girlsAt : yX7_girlsAt.cls = "BlueBagModel" ∧ yX7_girlsAt.cls ≠ "java/lang/invoke/MethodHandle" ∧ yX7_girlsAt.cls ≠ "java/lang/invoke/VarHandle" ∧ (parseMethodDescriptor yX7_girlsAt.desc).map (fun d => d.parameters.length) = some 1 := by decide +kernel
theorem hd_X7_patchOf : yX7_patchOf.cls = "BlueBagModel" ∧ yX7_patchOf.cls ≠ "java/lang/invoke/MethodHandle" ∧ yX7_patchOf.cls ≠ "java/lang/invoke/VarHandle" ∧ (parseMethodDescriptor yX7_patchOf.desc).map (fun d => d.parameters.length) = some 2 := by decide +kernel
theorem hd_X7_cell : yX7_cell.cls = "BlueBagModel" ∧ yX7_cell.cls ≠ "java/lang/invoke/MethodHandle" ∧ yX7_cell.cls ≠ "java/lang/invoke/VarHandle" ∧ (parseMethodDescriptor yX7_cell.desc).map (fun d => d.parameters.length) = some 2 := by decide +kernel
theorem hd_X7_isGirl : yX7_isGirl.cls = "BlueBagModel" ∧ yX7_isGirl.cls ≠ "java/lang/invoke/MethodHandle" ∧ yX7_isGirl.cls ≠ "java/lang/invoke/VarHandle" ∧ (parseMethodDescriptor yX7_isGirl.desc).map (fun d => d.parameters.length) = some 1 := by decide +kernel
theorem hd_X7_blueBeside : yX7_blueBeside.cls = "BlueBagModel" ∧ yX7_blueBeside.cls ≠ "java/lang/invoke/MethodHandle" ∧ yX7_blueBeside.cls ≠ "java/lang/invoke/VarHandle" ∧ (parseMethodDescriptor yX7_blueBeside.desc).map (fun d => d.parameters.length) = some 1 := by decide +kernel
theorem hd_X7_ask : yX7_ask.cls = "BlueBagModel" ∧ yX7_ask.cls ≠ "java/lang/invoke/MethodHandle" ∧ yX7_ask.cls ≠ "java/lang/invoke/VarHandle" ∧ (parseMethodDescriptor yX7_ask.desc).map (fun d => d.parameters.length) = some 1 := by decide +kernel
theorem hd_X7_reckon : yX7_reckon.cls ≠ "java/lang/invoke/MethodHandle" ∧ yX7_reckon.cls ≠ "java/lang/invoke/VarHandle" ∧ (parseMethodDescriptor yX7_reckon.desc).map (fun d => d.parameters.length) = some 3 := by decide +kernel
theorem hd_X7_valueNow : yX7_valueNow.cls = "BlueBagModel" ∧ yX7_valueNow.cls ≠ "java/lang/invoke/MethodHandle" ∧ yX7_valueNow.cls ≠ "java/lang/invoke/VarHandle" ∧ (parseMethodDescriptor yX7_valueNow.desc).map (fun d => d.parameters.length) = some 2 := by decide +kernel
theorem hd_X7_dyesOf : yX7_dyesOf.cls = "BlueBagModel" ∧ yX7_dyesOf.cls ≠ "java/lang/invoke/MethodHandle" ∧ yX7_dyesOf.cls ≠ "java/lang/invoke/VarHandle" ∧ (parseMethodDescriptor yX7_dyesOf.desc).map (fun d => d.parameters.length) = some 2 := by decide +kernel
theorem hd_X7_girl : yX7_girl.cls = "BlueBagModel" ∧ yX7_girl.cls ≠ "java/lang/invoke/MethodHandle" ∧ yX7_girl.cls ≠ "java/lang/invoke/VarHandle" ∧ (parseMethodDescriptor yX7_girl.desc).map (fun d => d.parameters.length) = some 2 := by decide +kernel
theorem hd_X7_refuse : yX7_refuse.cls = "BlueBagModel" ∧ yX7_refuse.cls ≠ "java/lang/invoke/MethodHandle" ∧ yX7_refuse.cls ≠ "java/lang/invoke/VarHandle" ∧ (parseMethodDescriptor yX7_refuse.desc).map (fun d => d.parameters.length) = some 1 := by decide +kernel
theorem hd_X7_pack : yX7_pack.cls = "BlueBagModel" ∧ yX7_pack.cls ≠ "java/lang/invoke/MethodHandle" ∧ yX7_pack.cls ≠ "java/lang/invoke/VarHandle" ∧ (parseMethodDescriptor yX7_pack.desc).map (fun d => d.parameters.length) = some 2 := by decide +kernel
theorem hd_X7_keep : yX7_keep.cls = "BlueBagModel" ∧ yX7_keep.cls ≠ "java/lang/invoke/MethodHandle" ∧ yX7_keep.cls ≠ "java/lang/invoke/VarHandle" ∧ (parseMethodDescriptor yX7_keep.desc).map (fun d => d.parameters.length) = some 0 := by decide +kernel
theorem hd_X7_dye : yX7_dye.cls = "BlueBagModel" ∧ yX7_dye.cls ≠ "java/lang/invoke/MethodHandle" ∧ yX7_dye.cls ≠ "java/lang/invoke/VarHandle" ∧ (parseMethodDescriptor yX7_dye.desc).map (fun d => d.parameters.length) = some 2 := by decide +kernel
theorem hd_X7_swish : yX7_swish.cls = "BlueBagModel" ∧ yX7_swish.cls ≠ "java/lang/invoke/MethodHandle" ∧ yX7_swish.cls ≠ "java/lang/invoke/VarHandle" ∧ (parseMethodDescriptor yX7_swish.desc).map (fun d => d.parameters.length) = some 2 := by decide +kernel
theorem hd_X7_bitsOf : yX7_bitsOf.cls ≠ "java/lang/invoke/MethodHandle" ∧ yX7_bitsOf.cls ≠ "java/lang/invoke/VarHandle" ∧ (parseMethodDescriptor yX7_bitsOf.desc).map (fun d => d.parameters.length) = some 1 := by decide +kernel
theorem hd_X7_fadesOf : yX7_fadesOf.cls = "BlueBagModel" ∧ yX7_fadesOf.cls ≠ "java/lang/invoke/MethodHandle" ∧ yX7_fadesOf.cls ≠ "java/lang/invoke/VarHandle" ∧ (parseMethodDescriptor yX7_fadesOf.desc).map (fun d => d.parameters.length) = some 1 := by decide +kernel
theorem hd_X7_aDay : yX7_aDay.cls = "BlueBagModel" ∧ yX7_aDay.cls ≠ "java/lang/invoke/MethodHandle" ∧ yX7_aDay.cls ≠ "java/lang/invoke/VarHandle" ∧ (parseMethodDescriptor yX7_aDay.desc).map (fun d => d.parameters.length) = some 0 := by decide +kernel
theorem hd_X7_goOn : yX7_goOn.cls = "BlueBagModel" ∧ yX7_goOn.cls ≠ "java/lang/invoke/MethodHandle" ∧ yX7_goOn.cls ≠ "java/lang/invoke/VarHandle" ∧ (parseMethodDescriptor yX7_goOn.desc).map (fun d => d.parameters.length) = some 1 := by decide +kernel
theorem hd_X7_days : yX7_days.cls = "BlueBagModel" ∧ yX7_days.cls ≠ "java/lang/invoke/MethodHandle" ∧ yX7_days.cls ≠ "java/lang/invoke/VarHandle" ∧ (parseMethodDescriptor yX7_days.desc).map (fun d => d.parameters.length) = some 1 := by decide +kernel
theorem hd_X7_failing : yX7_failing.cls = "BlueBagModel" ∧ yX7_failing.cls ≠ "java/lang/invoke/MethodHandle" ∧ yX7_failing.cls ≠ "java/lang/invoke/VarHandle" ∧ (parseMethodDescriptor yX7_failing.desc).map (fun d => d.parameters.length) = some 1 := by decide +kernel
theorem hd_X7_rest : yX7_rest.cls = "BlueBagModel" ∧ yX7_rest.cls ≠ "java/lang/invoke/MethodHandle" ∧ yX7_rest.cls ≠ "java/lang/invoke/VarHandle" ∧ (parseMethodDescriptor yX7_rest.desc).map (fun d => d.parameters.length) = some 2 := by decide +kernel
theorem hd_X7_go : yX7_go.cls = "BlueBagModel" ∧ yX7_go.cls ≠ "java/lang/invoke/MethodHandle" ∧ yX7_go.cls ≠ "java/lang/invoke/VarHandle" ∧ (parseMethodDescriptor yX7_go.desc).map (fun d => d.parameters.length) = some 2 := by decide +kernel
theorem hd_X7_bag : yX7_bag.cls = "BlueBagModel" ∧ yX7_bag.cls ≠ "java/lang/invoke/MethodHandle" ∧ yX7_bag.cls ≠ "java/lang/invoke/VarHandle" ∧ (parseMethodDescriptor yX7_bag.desc).map (fun d => d.parameters.length) = some 1 := by decide +kernel
theorem hd_X7_peg : yX7_peg.cls = "BlueBagModel" ∧ yX7_peg.cls ≠ "java/lang/invoke/MethodHandle" ∧ yX7_peg.cls ≠ "java/lang/invoke/VarHandle" ∧ (parseMethodDescriptor yX7_peg.desc).map (fun d => d.parameters.length) = some 2 := by decide +kernel
theorem hd_X7_unpack : yX7_unpack.cls = "BlueBagModel" ∧ yX7_unpack.cls ≠ "java/lang/invoke/MethodHandle" ∧ yX7_unpack.cls ≠ "java/lang/invoke/VarHandle" ∧ (parseMethodDescriptor yX7_unpack.desc).map (fun d => d.parameters.length) = some 2 := by decide +kernel
theorem hd_X7_undo : yX7_undo.cls = "BlueBagModel" ∧ yX7_undo.cls ≠ "java/lang/invoke/MethodHandle" ∧ yX7_undo.cls ≠ "java/lang/invoke/VarHandle" ∧ (parseMethodDescriptor yX7_undo.desc).map (fun d => d.parameters.length) = some 0 := by decide +kernel
theorem hd_X7_then : yX7_then.cls = "BlueBagModel" ∧ yX7_then.cls ≠ "java/lang/invoke/MethodHandle" ∧ yX7_then.cls ≠ "java/lang/invoke/VarHandle" ∧ (parseMethodDescriptor yX7_then.desc).map (fun d => d.parameters.length) = some 2 := by decide +kernel
theorem hd_X7_extreme : yX7_extreme.cls = "BlueBagModel" ∧ yX7_extreme.cls ≠ "java/lang/invoke/MethodHandle" ∧ yX7_extreme.cls ≠ "java/lang/invoke/VarHandle" ∧ (parseMethodDescriptor yX7_extreme.desc).map (fun d => d.parameters.length) = some 1 := by decide +kernel
theorem hd_X7_uneven : yX7_uneven.cls = "BlueBagModel" ∧ yX7_uneven.cls ≠ "java/lang/invoke/MethodHandle" ∧ yX7_uneven.cls ≠ "java/lang/invoke/VarHandle" ∧ (parseMethodDescriptor yX7_uneven.desc).map (fun d => d.parameters.length) = some 0 := by decide +kernel
theorem hd_X7_sky : yX7_sky.cls = "BlueBagModel" ∧ yX7_sky.cls ≠ "java/lang/invoke/MethodHandle" ∧ yX7_sky.cls ≠ "java/lang/invoke/VarHandle" ∧ (parseMethodDescriptor yX7_sky.desc).map (fun d => d.parameters.length) = some 2 := by decide +kernel
theorem hd_X7_overdone : yX7_overdone.cls = "BlueBagModel" ∧ yX7_overdone.cls ≠ "java/lang/invoke/MethodHandle" ∧ yX7_overdone.cls ≠ "java/lang/invoke/VarHandle" ∧ (parseMethodDescriptor yX7_overdone.desc).map (fun d => d.parameters.length) = some 1 := by decide +kernel
theorem hd_X7_first : yX7_first.cls = "BlueBagModel" ∧ yX7_first.cls ≠ "java/lang/invoke/MethodHandle" ∧ yX7_first.cls ≠ "java/lang/invoke/VarHandle" ∧ (parseMethodDescriptor yX7_first.desc).map (fun d => d.parameters.length) = some 1 := by decide +kernel
theorem hd_X7_spent : yX7_spent.cls = "BlueBagModel" ∧ yX7_spent.cls ≠ "java/lang/invoke/MethodHandle" ∧ yX7_spent.cls ≠ "java/lang/invoke/VarHandle" ∧ (parseMethodDescriptor yX7_spent.desc).map (fun d => d.parameters.length) = some 0 := by decide +kernel
theorem hd_X7_band : yX7_band.cls = "BlueBagModel" ∧ yX7_band.cls ≠ "java/lang/invoke/MethodHandle" ∧ yX7_band.cls ≠ "java/lang/invoke/VarHandle" ∧ (parseMethodDescriptor yX7_band.desc).map (fun d => d.parameters.length) = some 1 := by decide +kernel
theorem hd_X7_copyTo : yX7_copyTo.cls ≠ "java/lang/invoke/MethodHandle" ∧ yX7_copyTo.cls ≠ "java/lang/invoke/VarHandle" ∧ (parseMethodDescriptor yX7_copyTo.desc).map (fun d => d.parameters.length) = some 2 := by decide +kernel
theorem hd_X7_steady : yX7_steady.cls = "BlueBagModel" ∧ yX7_steady.cls ≠ "java/lang/invoke/MethodHandle" ∧ yX7_steady.cls ≠ "java/lang/invoke/VarHandle" ∧ (parseMethodDescriptor yX7_steady.desc).map (fun d => d.parameters.length) = some 0 := by decide +kernel
theorem hd_X7_streakFrom : yX7_streakFrom.cls = "BlueBagModel" ∧ yX7_streakFrom.cls ≠ "java/lang/invoke/MethodHandle" ∧ yX7_streakFrom.cls ≠ "java/lang/invoke/VarHandle" ∧ (parseMethodDescriptor yX7_streakFrom.desc).map (fun d => d.parameters.length) = some 1 := by decide +kernel
theorem hd_X7_streak : yX7_streak.cls = "BlueBagModel" ∧ yX7_streak.cls ≠ "java/lang/invoke/MethodHandle" ∧ yX7_streak.cls ≠ "java/lang/invoke/VarHandle" ∧ (parseMethodDescriptor yX7_streak.desc).map (fun d => d.parameters.length) = some 1 := by decide +kernel
theorem hd_X7_patch : yX7_patch.cls = "BlueBagModel" ∧ yX7_patch.cls ≠ "java/lang/invoke/MethodHandle" ∧ yX7_patch.cls ≠ "java/lang/invoke/VarHandle" ∧ (parseMethodDescriptor yX7_patch.desc).map (fun d => d.parameters.length) = some 2 := by decide +kernel
theorem hd_X7_patches : yX7_patches.cls = "BlueBagModel" ∧ yX7_patches.cls ≠ "java/lang/invoke/MethodHandle" ∧ yX7_patches.cls ≠ "java/lang/invoke/VarHandle" ∧ (parseMethodDescriptor yX7_patches.desc).map (fun d => d.parameters.length) = some 1 := by decide +kernel
theorem hd_X7_way : yX7_way.cls = "BlueBagModel" ∧ yX7_way.cls ≠ "java/lang/invoke/MethodHandle" ∧ yX7_way.cls ≠ "java/lang/invoke/VarHandle" ∧ (parseMethodDescriptor yX7_way.desc).map (fun d => d.parameters.length) = some 2 := by decide +kernel
theorem hd_X7_unevenNext : yX7_unevenNext.cls = "BlueBagModel" ∧ yX7_unevenNext.cls ≠ "java/lang/invoke/MethodHandle" ∧ yX7_unevenNext.cls ≠ "java/lang/invoke/VarHandle" ∧ (parseMethodDescriptor yX7_unevenNext.desc).map (fun d => d.parameters.length) = some 0 := by decide +kernel
theorem hd_X7_toRest : yX7_toRest.cls = "BlueBagModel" ∧ yX7_toRest.cls ≠ "java/lang/invoke/MethodHandle" ∧ yX7_toRest.cls ≠ "java/lang/invoke/VarHandle" ∧ (parseMethodDescriptor yX7_toRest.desc).map (fun d => d.parameters.length) = some 0 := by decide +kernel
theorem hd_X7_toStand : yX7_toStand.cls = "BlueBagModel" ∧ yX7_toStand.cls ≠ "java/lang/invoke/MethodHandle" ∧ yX7_toStand.cls ≠ "java/lang/invoke/VarHandle" ∧ (parseMethodDescriptor yX7_toStand.desc).map (fun d => d.parameters.length) = some 2 := by decide +kernel
theorem hd_X7_toSwish : yX7_toSwish.cls = "BlueBagModel" ∧ yX7_toSwish.cls ≠ "java/lang/invoke/MethodHandle" ∧ yX7_toSwish.cls ≠ "java/lang/invoke/VarHandle" ∧ (parseMethodDescriptor yX7_toSwish.desc).map (fun d => d.parameters.length) = some 2 := by decide +kernel
theorem hd_X7_missed : yX7_missed.cls = "BlueBagModel" ∧ yX7_missed.cls ≠ "java/lang/invoke/MethodHandle" ∧ yX7_missed.cls ≠ "java/lang/invoke/VarHandle" ∧ (parseMethodDescriptor yX7_missed.desc).map (fun d => d.parameters.length) = some 1 := by decide +kernel
theorem hd_X7_steps : yX7_steps.cls = "BlueBagModel" ∧ yX7_steps.cls ≠ "java/lang/invoke/MethodHandle" ∧ yX7_steps.cls ≠ "java/lang/invoke/VarHandle" ∧ (parseMethodDescriptor yX7_steps.desc).map (fun d => d.parameters.length) = some 2 := by decide +kernel
theorem hd_X7_nearest : yX7_nearest.cls = "BlueBagModel" ∧ yX7_nearest.cls ≠ "java/lang/invoke/MethodHandle" ∧ yX7_nearest.cls ≠ "java/lang/invoke/VarHandle" ∧ (parseMethodDescriptor yX7_nearest.desc).map (fun d => d.parameters.length) = some 1 := by decide +kernel
theorem hd_X7_with : yX7_with.cls = "BlueBagModel" ∧ yX7_with.cls ≠ "java/lang/invoke/MethodHandle" ∧ yX7_with.cls ≠ "java/lang/invoke/VarHandle" ∧ (parseMethodDescriptor yX7_with.desc).map (fun d => d.parameters.length) = some 3 := by decide +kernel
theorem hd_X7_tellLeast : yX7_tellLeast.cls = "BlueBagModel" ∧ yX7_tellLeast.cls ≠ "java/lang/invoke/MethodHandle" ∧ yX7_tellLeast.cls ≠ "java/lang/invoke/VarHandle" ∧ (parseMethodDescriptor yX7_tellLeast.desc).map (fun d => d.parameters.length) = some 1 := by decide +kernel
theorem hd_X7_sent : yX7_sent.cls = "BlueBagModel" ∧ yX7_sent.cls ≠ "java/lang/invoke/MethodHandle" ∧ yX7_sent.cls ≠ "java/lang/invoke/VarHandle" ∧ (parseMethodDescriptor yX7_sent.desc).map (fun d => d.parameters.length) = some 2 := by decide +kernel
theorem hd_X7_see : yX7_see.cls = "BlueBagModel" ∧ yX7_see.cls ≠ "java/lang/invoke/MethodHandle" ∧ yX7_see.cls ≠ "java/lang/invoke/VarHandle" ∧ (parseMethodDescriptor yX7_see.desc).map (fun d => d.parameters.length) = some 3 := by decide +kernel
theorem hd_X7_isAsSeen : yX7_isAsSeen.cls = "BlueBagModel" ∧ yX7_isAsSeen.cls ≠ "java/lang/invoke/MethodHandle" ∧ yX7_isAsSeen.cls ≠ "java/lang/invoke/VarHandle" ∧ (parseMethodDescriptor yX7_isAsSeen.desc).map (fun d => d.parameters.length) = some 0 := by decide +kernel
theorem hd_X7_tellFits : yX7_tellFits.cls = "BlueBagModel" ∧ yX7_tellFits.cls ≠ "java/lang/invoke/MethodHandle" ∧ yX7_tellFits.cls ≠ "java/lang/invoke/VarHandle" ∧ (parseMethodDescriptor yX7_tellFits.desc).map (fun d => d.parameters.length) = some 0 := by decide +kernel
theorem hd_X7_skilled : yX7_skilled.cls = "BlueBagModel" ∧ yX7_skilled.cls ≠ "java/lang/invoke/MethodHandle" ∧ yX7_skilled.cls ≠ "java/lang/invoke/VarHandle" ∧ (parseMethodDescriptor yX7_skilled.desc).map (fun d => d.parameters.length) = some 1 := by decide +kernel
theorem hd_X7_unlike : yX7_unlike.cls = "BlueBagModel" ∧ yX7_unlike.cls ≠ "java/lang/invoke/MethodHandle" ∧ yX7_unlike.cls ≠ "java/lang/invoke/VarHandle" ∧ (parseMethodDescriptor yX7_unlike.desc).map (fun d => d.parameters.length) = some 1 := by decide +kernel
theorem hd_X7_look : yX7_look.cls = "BlueBagModel" ∧ yX7_look.cls ≠ "java/lang/invoke/MethodHandle" ∧ yX7_look.cls ≠ "java/lang/invoke/VarHandle" ∧ (parseMethodDescriptor yX7_look.desc).map (fun d => d.parameters.length) = some 1 := by decide +kernel
theorem hd_X7_forget : yX7_forget.cls = "BlueBagModel" ∧ yX7_forget.cls ≠ "java/lang/invoke/MethodHandle" ∧ yX7_forget.cls ≠ "java/lang/invoke/VarHandle" ∧ (parseMethodDescriptor yX7_forget.desc).map (fun d => d.parameters.length) = some 0 := by decide +kernel
theorem hd_X7_tellGains : yX7_tellGains.cls = "BlueBagModel" ∧ yX7_tellGains.cls ≠ "java/lang/invoke/MethodHandle" ∧ yX7_tellGains.cls ≠ "java/lang/invoke/VarHandle" ∧ (parseMethodDescriptor yX7_tellGains.desc).map (fun d => d.parameters.length) = some 2 := by decide +kernel
theorem hd_X7_game : yX7_game.cls = "BlueBagModel" ∧ yX7_game.cls ≠ "java/lang/invoke/MethodHandle" ∧ yX7_game.cls ≠ "java/lang/invoke/VarHandle" ∧ (parseMethodDescriptor yX7_game.desc).map (fun d => d.parameters.length) = some 3 := by decide +kernel
theorem hd_X7_drawOf : yX7_drawOf.cls = "BlueBagModel" ∧ yX7_drawOf.cls ≠ "java/lang/invoke/MethodHandle" ∧ yX7_drawOf.cls ≠ "java/lang/invoke/VarHandle" ∧ (parseMethodDescriptor yX7_drawOf.desc).map (fun d => d.parameters.length) = some 1 := by decide +kernel
theorem hd_X7_something : yX7_something.cls = "BlueBagModel" ∧ yX7_something.cls ≠ "java/lang/invoke/MethodHandle" ∧ yX7_something.cls ≠ "java/lang/invoke/VarHandle" ∧ (parseMethodDescriptor yX7_something.desc).map (fun d => d.parameters.length) = some 0 := by decide +kernel
theorem hd_X7_skies : yX7_skies.cls = "BlueBagModel" ∧ yX7_skies.cls ≠ "java/lang/invoke/MethodHandle" ∧ yX7_skies.cls ≠ "java/lang/invoke/VarHandle" ∧ (parseMethodDescriptor yX7_skies.desc).map (fun d => d.parameters.length) = some 3 := by decide +kernel
theorem hd_X7_image : yX7_image.cls = "BlueBagModel" ∧ yX7_image.cls ≠ "java/lang/invoke/MethodHandle" ∧ yX7_image.cls ≠ "java/lang/invoke/VarHandle" ∧ (parseMethodDescriptor yX7_image.desc).map (fun d => d.parameters.length) = some 0 := by decide +kernel
theorem hd_X7_restore : yX7_restore.cls = "BlueBagModel" ∧ yX7_restore.cls ≠ "java/lang/invoke/MethodHandle" ∧ yX7_restore.cls ≠ "java/lang/invoke/VarHandle" ∧ (parseMethodDescriptor yX7_restore.desc).map (fun d => d.parameters.length) = some 0 := by decide +kernel
theorem hd_X7_readPart : yX7_readPart.cls = "BlueBagModel" ∧ yX7_readPart.cls ≠ "java/lang/invoke/MethodHandle" ∧ yX7_readPart.cls ≠ "java/lang/invoke/VarHandle" ∧ (parseMethodDescriptor yX7_readPart.desc).map (fun d => d.parameters.length) = some 1 := by decide +kernel
theorem hd_X7_readProduct : yX7_readProduct.cls = "BlueBagModel" ∧ yX7_readProduct.cls ≠ "java/lang/invoke/MethodHandle" ∧ yX7_readProduct.cls ≠ "java/lang/invoke/VarHandle" ∧ (parseMethodDescriptor yX7_readProduct.desc).map (fun d => d.parameters.length) = some 1 := by decide +kernel
theorem hd_X7_readSum : yX7_readSum.cls = "BlueBagModel" ∧ yX7_readSum.cls ≠ "java/lang/invoke/MethodHandle" ∧ yX7_readSum.cls ≠ "java/lang/invoke/VarHandle" ∧ (parseMethodDescriptor yX7_readSum.desc).map (fun d => d.parameters.length) = some 1 := by decide +kernel
theorem hd_X7_readNot : yX7_readNot.cls = "BlueBagModel" ∧ yX7_readNot.cls ≠ "java/lang/invoke/MethodHandle" ∧ yX7_readNot.cls ≠ "java/lang/invoke/VarHandle" ∧ (parseMethodDescriptor yX7_readNot.desc).map (fun d => d.parameters.length) = some 1 := by decide +kernel
theorem hd_X7_readAnd : yX7_readAnd.cls = "BlueBagModel" ∧ yX7_readAnd.cls ≠ "java/lang/invoke/MethodHandle" ∧ yX7_readAnd.cls ≠ "java/lang/invoke/VarHandle" ∧ (parseMethodDescriptor yX7_readAnd.desc).map (fun d => d.parameters.length) = some 1 := by decide +kernel
theorem hd_X7_readExpression : yX7_readExpression.cls = "BlueBagModel" ∧ yX7_readExpression.cls ≠ "java/lang/invoke/MethodHandle" ∧ yX7_readExpression.cls ≠ "java/lang/invoke/VarHandle" ∧ (parseMethodDescriptor yX7_readExpression.desc).map (fun d => d.parameters.length) = some 1 := by decide +kernel
theorem hd_X7_sayRule : yX7_sayRule.cls = "BlueBagModel" ∧ yX7_sayRule.cls ≠ "java/lang/invoke/MethodHandle" ∧ yX7_sayRule.cls ≠ "java/lang/invoke/VarHandle" ∧ (parseMethodDescriptor yX7_sayRule.desc).map (fun d => d.parameters.length) = some 1 := by decide +kernel
theorem hd_X7_sayOnce : yX7_sayOnce.cls = "BlueBagModel" ∧ yX7_sayOnce.cls ≠ "java/lang/invoke/MethodHandle" ∧ yX7_sayOnce.cls ≠ "java/lang/invoke/VarHandle" ∧ (parseMethodDescriptor yX7_sayOnce.desc).map (fun d => d.parameters.length) = some 1 := by decide +kernel
theorem hd_X7_readLine : yX7_readLine.cls = "BlueBagModel" ∧ yX7_readLine.cls ≠ "java/lang/invoke/MethodHandle" ∧ yX7_readLine.cls ≠ "java/lang/invoke/VarHandle" ∧ (parseMethodDescriptor yX7_readLine.desc).map (fun d => d.parameters.length) = some 1 := by decide +kernel
theorem hd_X7_coast : yX7_coast.cls = "BlueBagModel" ∧ yX7_coast.cls ≠ "java/lang/invoke/MethodHandle" ∧ yX7_coast.cls ≠ "java/lang/invoke/VarHandle" ∧ (parseMethodDescriptor yX7_coast.desc).map (fun d => d.parameters.length) = some 1 := by decide +kernel
theorem hd_J9_length : yJ9_length.cls = "java/lang/String" ∧ yJ9_length.cls ≠ "java/lang/invoke/MethodHandle" ∧ yJ9_length.cls ≠ "java/lang/invoke/VarHandle" ∧ (parseMethodDescriptor yJ9_length.desc).map (fun d => d.parameters.length) = some 0 := by decide +kernel
theorem hd_J9_charAt : yJ9_charAt.cls = "java/lang/String" ∧ yJ9_charAt.cls ≠ "java/lang/invoke/MethodHandle" ∧ yJ9_charAt.cls ≠ "java/lang/invoke/VarHandle" ∧ (parseMethodDescriptor yJ9_charAt.desc).map (fun d => d.parameters.length) = some 1 := by decide +kernel
/-! String.length and charAt of the texts that stand from the start -/
section BQSTR
variable {l : Launch} {D : va_G} {cl : List vw_C} {tys : List (ClassId × FieldType)} {am : bqAm} {X : Nat → Nat} {w : va_W}
theorem met_pre_ckT (hok : bq_Ok am) {i : Int32} {n : Nat} {o : Option Nat} (hn : n < 2147483648) (hi : vp_in i n) : bq_M l yJ14_checkIndex cJ14_checkIndex 3 (some .int) 0 0 D cl tys am [.int i, .int (Int32.ofNat n), va_rf o] w (some (.int i)) w := by
  refine bq_of hok (by decide +kernel) (by cases o <;> exact Nat.le_of_ble_eq_true rfl) ?_
  intro p e s m below meth c A ls C hr hP hD hS hl
  have C0 := C
  obtain ⟨hx, hb, hown, hts, hml, hlocks, hA, hK, hm, hRf, hRl, hok⟩ := C
  have hl : lv_has ls 3 [(0, .int i), (1, .int (Int32.ofNat n)), (2, va_rf o)] := hl
  obtain ⟨j, hj, rfl⟩ := vp_in_of hi (by omega)
  refine lv_iload_n hx hb dJ14_checkIndex_0 rfl (lv_at hl 0 rfl) ?_
  refine lv_if_lt (tgt := 9) hx hb dJ14_checkIndex_1 (by decide) (fun c1 => absurd c1 (nI_pos (by omega))) (fun c1 => ?_)
  refine lv_iload_n hx hb dJ14_checkIndex_4 rfl (lv_at hl 0 rfl) ?_
  refine lv_iload_n hx hb dJ14_checkIndex_5 rfl (lv_at hl 1 rfl) ?_
  refine lv_icmp_lt (tgt := 16) hx hb dJ14_checkIndex_6 (by decide) (fun c2 => ?_) (fun c2 => absurd (nI_lt hj (by omega)) c2)
  refine lv_iload_n hx hb dJ14_checkIndex_16 rfl (lv_at hl 0 rfl) ?_
  exact bq_iret C0 hr hP hD hS dJ14_checkIndex_17
theorem met_str_ck (hok : bq_Ok am) (hstr : bq_Str am X) {i : Int32} {n : Nat} (hn : n < 2147483648) (hi : vp_in i n) : bq_M l yJ9_checkIndex cJ9_checkIndex 2 none 1 22 D cl tys am [.int i, .int (Int32.ofNat n)] w none w := by
  refine bq_of hok (by decide +kernel) (Nat.le_of_ble_eq_true rfl) ?_
  intro p e s m below meth c A ls C hr hP hD hS hl
  have C0 := C
  obtain ⟨hx, hb, hown, hts, hml, hlocks, hA, hK, hm, hRf, hRl, hok⟩ := C
  have hl : lv_has ls 2 [(0, .int i), (1, .int (Int32.ofNat n))] := hl
  obtain ⟨Y, hY⟩ := hstr
  have hZ := (hY A s hm).2.2.2
  refine lv_iload_n hx hb dJ9_checkIndex_0 rfl (lv_at hl 0 rfl) ?_
  refine lv_iload_n hx hb dJ9_checkIndex_1 rfl (lv_at hl 1 rfl) ?_
  have fin : ∀ o : Option Nat, W p l e { frames := 1, cells := 0, slots := 0, locals := 22 } s m ([.int i, .int (Int32.ofNat n)] : List Value).toArray below meth c s.heap [] 0 0 (MQ below (bq_Q D cl none w A) ([.int i, .int (Int32.ofNat n)] : List Value).toArray s 0 0 A) (F0 m 5 ls [va_rf o, .int (Int32.ofNat n), .int i]) := by
    intro o
    refine bq_callSi (n := 3) (As := [.int i, .int (Int32.ofNat n), va_rf o]) (rest := []) C0 (met_pre_ckT hok hn hi) (lw_S q1079 q748 q130 q749) (by decide +kernel) (Nat.le_of_ble_eq_true rfl) (Nat.le_of_ble_eq_true rfl) rfl hl.1 rfl (Nat.le_of_ble_eq_true rfl) dJ9_checkIndex_5 hP hD hS (fun H locs hP hD hS => ?_)
    refine lv_pop hx hb dJ9_checkIndex_8 rfl ?_
    exact bq_vret C0 hr hP hD hS dJ9_checkIndex_9
  rcases hZ with hZ | ⟨t, hZ⟩
  · refine va_gets hx hb hZ hS hown (hts _ q320) (fun _ h => h) dJ9_checkIndex_2 ?_
    exact fin none
  · refine va_gets hx hb hZ hS hown (hts _ q320) (fun _ h => h) dJ9_checkIndex_2 ?_
    exact fin (some t)
theorem met_str_coder (hok : bq_Ok am) (hstr : bq_Str am X) {j : Nat} (hj : j < bqNS) : bq_M l yJ9_coder cJ9_coder 1 (some .byte) 0 0 D cl tys am [.ref (X j)] w (some (.int 0)) w := by
  refine bq_of hok (by decide +kernel) (Nat.le_of_ble_eq_true rfl) ?_
  intro p e s m below meth c A ls C hr hP hD hS hl
  have C0 := C
  obtain ⟨hx, hb, hown, hts, hml, hlocks, hA, hK, hm, hRf, hRl, hok⟩ := C
  have hl : lv_has ls 1 [(0, .ref (X j))] := hl
  obtain ⟨Y, hY⟩ := hstr
  obtain ⟨hks, -, hZ, -⟩ := hY A s hm
  refine va_gets hx hb hZ hS hown (hts _ q342) (fun _ h => h) dJ9_coder_0 ?_
  refine lv_if_eq (tgt := 13) hx hb dJ9_coder_3 (by decide) (fun c1 => absurd c1 (by decide)) (fun c1 => ?_)
  refine lv_aload_n hx hb dJ9_coder_6 rfl (lv_at hl 0 rfl) ?_
  refine vk_getf hx hb (hks j hj).2.1 hS hown (hts _ q484) (fun _ h => h) dJ9_coder_7 ?_
  refine lv_goto (tgt := 14) hx hb dJ9_coder_10 (by decide) ?_
  exact W.zret hx hb hr rfl (fun t ht hW => ⟨⟨rfl, by rw [ht]; exact hP, hD⟩, hS.F ht⟩) hS.2.2 dJ9_coder_14 hlocks
theorem met_str_l1 (hok : bq_Ok am) (hstr : bq_Str am X) {j : Nat} (hj : j < bqNS) : bq_M l yJ9_isLatin1 cJ9_isLatin1 1 (some .boolean) 0 0 D cl tys am [.ref (X j)] w (some (.int 1)) w := by
  refine bq_of hok (by decide +kernel) (Nat.le_of_ble_eq_true rfl) ?_
  intro p e s m below meth c A ls C hr hP hD hS hl
  have C0 := C
  obtain ⟨hx, hb, hown, hts, hml, hlocks, hA, hK, hm, hRf, hRl, hok⟩ := C
  have hl : lv_has ls 1 [(0, .ref (X j))] := hl
  obtain ⟨Y, hY⟩ := hstr
  obtain ⟨hks, -, hZ, -⟩ := hY A s hm
  refine va_gets hx hb hZ hS hown (hts _ q342) (fun _ h => h) dJ9_isLatin1_0 ?_
  refine lv_if_eq (tgt := 17) hx hb dJ9_isLatin1_3 (by decide) (fun c1 => absurd c1 (by decide)) (fun c1 => ?_)
  refine lv_aload_n hx hb dJ9_isLatin1_6 rfl (lv_at hl 0 rfl) ?_
  refine vk_getf hx hb (hks j hj).2.1 hS hown (hts _ q484) (fun _ h => h) dJ9_isLatin1_7 ?_
  refine lv_if_ne (tgt := 17) hx hb dJ9_isLatin1_10 (by decide) (fun c1 => absurd rfl c1) (fun c1 => ?_)
  refine lv_iconst (v := 1) hx hb dJ9_isLatin1_13 (by decide) ?_
  refine lv_goto (tgt := 18) hx hb dJ9_isLatin1_14 (by decide) ?_
  exact bq_zret C0 hr (by decide) hP hD hS dJ9_isLatin1_18
theorem bqSL_lt (j : Nat) : bqSL j < 100 := by
  unfold bqSL
  by_cases h : j < bqSBs.length
  · have : ∀ l ∈ bqSBs, l.length < 100 := by decide +kernel
    rw [List.getD_eq_getElem?_getD, List.getElem?_eq_getElem h]
    exact this _ (List.getElem_mem h)
  · rw [List.getD_eq_getElem?_getD, List.getElem?_eq_none (by omega)]
    decide
theorem bqSB_ok (j k : Nat) : ((bqSB j k &&& 255).toUInt32 % 65536).toInt32 = bqSB j k ∧ narrow .char (.int (bqSB j k)) = .int (bqSB j k) := by
  have key : ∀ l ∈ bqSBs, ∀ b ∈ l, ((b &&& 255).toUInt32 % 65536).toInt32 = b ∧ narrow .char (.int b) = .int b := by decide +kernel
  unfold bqSB
  by_cases h : j < bqSBs.length
  · have e : bqSBs.getD j [] = bqSBs[j] := by rw [List.getD_eq_getElem?_getD, List.getElem?_eq_getElem h]; rfl
    rw [e]
    by_cases h2 : k < bqSBs[j].length
    · have e2 : bqSBs[j].getD k 0 = bqSBs[j][k] := by rw [List.getD_eq_getElem?_getD, List.getElem?_eq_getElem h2]; rfl
      rw [e2]
      exact key _ (List.getElem_mem h) _ (List.getElem_mem h2)
    · have e2 : bqSBs[j].getD k 0 = 0 := by rw [List.getD_eq_getElem?_getD, List.getElem?_eq_none (by omega)]; rfl
      rw [e2]
      decide
  · have e : bqSBs.getD j [] = [] := by rw [List.getD_eq_getElem?_getD, List.getElem?_eq_none (by omega)]; rfl
    rw [e]
    show (((0 : Int32) &&& 255).toUInt32 % 65536).toInt32 = 0 ∧ narrow .char (.int 0) = .int 0
    decide
theorem met_slen (hok : bq_Ok am) (hstr : bq_Str am X) {j : Nat} (hj : j < bqNS) : bq_M l yJ9_length cJ9_length 1 (some .int) 4 200 D cl tys am [.ref (X j)] w (some (.int (bq_slen j))) w := by
  refine bq_of hok (by decide +kernel) (Nat.le_of_ble_eq_true rfl) ?_
  intro p e s m below meth c A ls C hr hP hD hS hl
  have C0 := C
  obtain ⟨hx, hb, hown, hts, hml, hlocks, hA, hK, hm, hRf, hRl, hok⟩ := C
  have hl : lv_has ls 1 [(0, .ref (X j))] := hl
  have hstr0 := hstr
  obtain ⟨Y, hY⟩ := hstr
  obtain ⟨hks, -, hZ, -⟩ := hY A s hm
  refine lv_aload_n hx hb dJ9_length_0 rfl (lv_at hl 0 rfl) ?_
  refine vk_getf hx hb (hks j hj).2.2.1 hS hown (hts _ q483) (fun _ h => h) dJ9_length_1 ?_
  refine va_tlen hx hb (hks j hj).2.2.2 hS rfl dJ9_length_4 ?_
  refine lv_aload_n hx hb dJ9_length_5 rfl (lv_at hl 0 rfl) ?_
  refine bq_callVi (n := 0) (As := []) (rest := [.int (Int32.ofNat (bqSL j))]) C0 (met_str_coder hok hstr0 hj) (lw_V q338 q339 q340 q124 q341) (by decide +kernel) (Nat.le_of_ble_eq_true rfl) (Nat.le_of_ble_eq_true rfl) (bq_srcv hstr0 hm hj hS) rfl hl.1 rfl (Nat.le_of_ble_eq_true rfl) dJ9_length_6 hP hD hS (fun H locs hP hD hS => ?_)
  refine lv_ishr hx hb dJ9_length_9 ?_
  refine bq_tope (y := bq_slen j) ?_ ?_
  · unfold bq_slen
    exact (sb_shr0 _).symm
  exact bq_iret C0 hr hP hD hS dJ9_length_10
theorem met_l1_charAt (hok : bq_Ok am) (hstr : bq_Str am X) {j : Nat} (hj : j < bqNS) {Y : Nat → Nat} (hY : ∀ (A : Nat → Prop) (U : State), am A U U.heap → bq_ks X Y A U U.heap) {i : Int32} (hi : vp_in i (bqSL j)) : bq_M l yJ15_charAt cJ15_charAt 2 (some .char) 2 60 D cl tys am [.ref (Y j), .int i] w (some (.int (bq_schr j i.toNatClampNeg))) w := by
  refine bq_of hok (by decide +kernel) (Nat.le_of_ble_eq_true rfl) ?_
  intro p e s m below meth c A ls C hr hP hD hS hl
  have C0 := C
  obtain ⟨hx, hb, hown, hts, hml, hlocks, hA, hK, hm, hRf, hRl, hok⟩ := C
  have hl : lv_has ls 2 [(0, .ref (Y j)), (1, .int i)] := hl
  have hks := hY A s hm
  refine lv_iload_n hx hb dJ15_charAt_0 rfl (lv_at hl 1 rfl) ?_
  refine lv_aload_n hx hb dJ15_charAt_1 rfl (lv_at hl 0 rfl) ?_
  refine va_tlen hx hb (hks j hj).2.2.2 hS rfl dJ15_charAt_2 ?_
  refine bq_callSv (n := 2) (As := [.int i, .int (Int32.ofNat (bqSL j))]) (rest := []) C0 (met_str_ck hok hstr (by have := bqSL_lt j; omega) hi) (lw_S q1297 q1077 q124 q1078) (by decide +kernel) (Nat.le_of_ble_eq_true rfl) (Nat.le_of_ble_eq_true rfl) rfl hl.1 rfl (Nat.le_of_ble_eq_true rfl) dJ15_charAt_3 hP hD hS (fun H locs hP hD hS => ?_)
  refine lv_aload_n hx hb dJ15_charAt_6 rfl (lv_at hl 0 rfl) ?_
  refine lv_iload_n hx hb dJ15_charAt_7 rfl (lv_at hl 1 rfl) ?_
  refine va_tb hx hb (hks j hj).2.2.2 hS hi rfl dJ15_charAt_8 ?_
  refine lv_sipush (v := 255) hx hb dJ15_charAt_9 (by decide) ?_
  refine lv_iand hx hb dJ15_charAt_12 ?_
  refine lv_i2c (v := bq_schr j i.toNatClampNeg) hx hb dJ15_charAt_13 (bqSB_ok j _).1 ?_
  exact W.zret hx hb hr (bqSB_ok j _).2 (fun t ht hW => ⟨⟨rfl, by rw [ht]; exact hP, hD⟩, hS.F ht⟩) hS.2.2 dJ15_charAt_14 hlocks
theorem met_schr (hok : bq_Ok am) (hstr : bq_Str am X) {j : Nat} (hj : j < bqNS) {i : Int32} (hi : vp_in i (bqSL j)) : bq_M l yJ9_charAt cJ9_charAt 2 (some .char) 4 200 D cl tys am [.ref (X j), .int i] w (some (.int (bq_schr j i.toNatClampNeg))) w := by
  refine bq_of hok (by decide +kernel) (Nat.le_of_ble_eq_true rfl) ?_
  intro p e s m below meth c A ls C hr hP hD hS hl
  have C0 := C
  obtain ⟨hx, hb, hown, hts, hml, hlocks, hA, hK, hm, hRf, hRl, hok⟩ := C
  have hl : lv_has ls 2 [(0, .ref (X j)), (1, .int i)] := hl
  have hstr0 := hstr
  obtain ⟨Y, hY⟩ := hstr
  obtain ⟨hks, -, hZ, -⟩ := hY A s hm
  refine lv_aload_n hx hb dJ9_charAt_0 rfl (lv_at hl 0 rfl) ?_
  refine bq_callVi (n := 0) (As := []) (rest := []) C0 (met_str_l1 hok hstr0 hj) (lw_V q1290 q1291 q1292 q124 q1293) (by decide +kernel) (Nat.le_of_ble_eq_true rfl) (Nat.le_of_ble_eq_true rfl) (bq_srcv hstr0 hm hj hS) rfl hl.1 rfl (Nat.le_of_ble_eq_true rfl) dJ9_charAt_1 hP hD hS (fun H locs hP hD hS => ?_)
  refine lv_if_eq (tgt := 16) hx hb dJ9_charAt_4 (by decide) (fun c1 => absurd c1 (by decide)) (fun c1 => ?_)
  refine lv_aload_n hx hb dJ9_charAt_7 rfl (lv_at hl 0 rfl) ?_
  refine vk_getf hx hb (hks j hj).2.2.1 hS hown (hts _ q483) (fun _ h => h) dJ9_charAt_8 ?_
  refine lv_iload_n hx hb dJ9_charAt_11 rfl (lv_at hl 1 rfl) ?_
  refine bq_callSi (n := 2) (As := [.ref (Y j), .int i]) (rest := []) C0 (met_l1_charAt hok hstr0 hj (fun A U h => (hY A U h).1) hi) (lw_S q1294 q1295 q131 q1296) (by decide +kernel) (Nat.le_of_ble_eq_true rfl) (Nat.le_of_ble_eq_true rfl) rfl hl.1 rfl (Nat.le_of_ble_eq_true rfl) dJ9_charAt_12 hP hD hS (fun H locs hP hD hS => ?_)
  exact W.zret hx hb hr (bqSB_ok j _).2 (fun t ht hW => ⟨⟨rfl, by rw [ht]; exact hP, hD⟩, hS.F ht⟩) hS.2.2 dJ9_charAt_15 hlocks
end BQSTR
