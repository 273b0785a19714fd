set_option maxRecDepth 100000
def jd_bits (x0 : Int32) : Option (Int32) :=
  bq_lt (x0 - (((x0.toUInt32 >>> ((1 : Int32).toUInt32 &&& Int32.toUInt32 31)).toInt32) &&& (1431655765 : Int32))) fun v1 => bq_lt ((v1 &&& (858993459 : Int32)) + (((v1.toUInt32 >>> ((2 : Int32).toUInt32 &&& Int32.toUInt32 31)).toInt32) &&& (858993459 : Int32))) fun v2 => bq_lt ((v2 + ((v2.toUInt32 >>> ((4 : Int32).toUInt32 &&& Int32.toUInt32 31)).toInt32)) &&& (252645135 : Int32)) fun v3 => bq_lt (v3 + ((v3.toUInt32 >>> ((8 : Int32).toUInt32 &&& Int32.toUInt32 31)).toInt32)) fun v4 => bq_lt (v4 + ((v4.toUInt32 >>> ((16 : Int32).toUInt32 &&& Int32.toUInt32 31)).toInt32)) fun v5 => some (v5 &&& (63 : Int32))
def jd_ntz_J62 (x0 : Int32) (x1 : Int32) : Option (Int32) :=
  if x0 ≤ (4 : Int32) then (some (x1 + ((x0.toUInt32 >>> ((1 : Int32).toUInt32 &&& Int32.toUInt32 31)).toInt32))) else (bq_lt (x1 + (2 : Int32)) fun v7 => bq_lt ((x0.toUInt32 >>> ((2 : Int32).toUInt32 &&& Int32.toUInt32 31)).toInt32) fun v8 => some (v7 + ((v8.toUInt32 >>> ((1 : Int32).toUInt32 &&& Int32.toUInt32 31)).toInt32)))
def jd_ntz_J49 (x0 : Int32) (x1 : Int32) : Option (Int32) :=
  if x0 ≤ (16 : Int32) then (jd_ntz_J62 x0 x1) else (bq_lt (x1 + (4 : Int32)) fun v9 => bq_lt ((x0.toUInt32 >>> ((4 : Int32).toUInt32 &&& Int32.toUInt32 31)).toInt32) fun v10 => jd_ntz_J62 v10 v9)
def jd_ntz_J34 (x0 : Int32) (x1 : Int32) : Option (Int32) :=
  if x0 ≤ (256 : Int32) then (jd_ntz_J49 x0 x1) else (bq_lt (x1 + (8 : Int32)) fun v11 => bq_lt ((x0.toUInt32 >>> ((8 : Int32).toUInt32 &&& Int32.toUInt32 31)).toInt32) fun v12 => jd_ntz_J49 v12 v11)
def jd_ntz (x0 : Int32) : Option (Int32) :=
  bq_lt ((x0 ^^^ (-1 : Int32)) &&& (x0 - (1 : Int32))) fun v1 => if (0 : Int32) < v1 then (if v1 ≤ (65536 : Int32) then (jd_ntz_J34 v1 (1 : Int32)) else (bq_lt ((1 : Int32) + (16 : Int32)) fun v13 => bq_lt ((v1.toUInt32 >>> ((16 : Int32).toUInt32 &&& Int32.toUInt32 31)).toInt32) fun v14 => jd_ntz_J34 v14 v13)) else (some (v1 &&& (32 : Int32)))
def co_cells (κ : bqS) : Option (Int32) :=
  some ((κ 0 0) * (κ 0 1))
def co_steps (κ : bqS) (x1 : Int32) (x2 : Int32) : Option (Int32) :=
  bq_nz (κ 0 0) (bq_nz (κ 0 0) (bq_nz (κ 0 0) (bq_nz (κ 0 0) (some ((if 0 ≤ ((x1 - x1 / (κ 0 0) * (κ 0 0)) - (x2 - x2 / (κ 0 0) * (κ 0 0))) then ((x1 - x1 / (κ 0 0) * (κ 0 0)) - (x2 - x2 / (κ 0 0) * (κ 0 0))) else 0 - ((x1 - x1 / (κ 0 0) * (κ 0 0)) - (x2 - x2 / (κ 0 0) * (κ 0 0)))) + (if 0 ≤ ((x1 / (κ 0 0)) - (x2 / (κ 0 0))) then ((x1 / (κ 0 0)) - (x2 / (κ 0 0))) else 0 - ((x1 / (κ 0 0)) - (x2 / (κ 0 0)))))))))
def vi_sees (ν : bqS) (j : Nat) (x2 : Int32) : Option (bqS) :=
  bq_ck (Int32.ofNat j) 6 (bq_lt (bq_up ν 1 ((Int32.ofNat j).toNatClampNeg) x2) fun ν2 => some (ν2))
def st_isPeg (σ : bqS) (x1 : Int32) : Option (Int32) :=
  if ((σ 0 7) >>> (x1 &&& 31)) &&& (1 : Int32) = (1 : Int32) then (some ((1 : Int32))) else (some ((0 : Int32)))
def st_isResting (σ : bqS) (x1 : Int32) : Option (Int32) :=
  if ((σ 0 6) >>> (x1 &&& 31)) &&& (1 : Int32) = (1 : Int32) then (some ((1 : Int32))) else (some ((0 : Int32)))
def st_takes (σ : bqS) (x1 : Int32) (x2 : Int32) : Option (bqS) :=
  bq_b1 (st_isPeg σ x1) fun v1 => if v1 = (0 : Int32) then (bq_ck x1 30 (bq_ck x1 30 (bq_lt (bq_up σ 1 x1.toNatClampNeg (if ((σ 1 x1.toNatClampNeg) + x2) < (99 : Int32) then ((σ 1 x1.toNatClampNeg) + x2) else (99 : Int32))) fun σ5 => some (σ5)))) else (some (σ))
def st_all_L4 (F : Nat) (σ : bqS) : Nat → Int32 → Int32 → Int32 → Option (Int32)
  | 0, _, _, _ => none
  | k + 1, x1, x2, x3 =>
    if x1 ≤ x3 then (some (x2)) else (bq_ck x3 30 (bq_lt (x2 + (σ 1 x3.toNatClampNeg)) fun v3 => bq_lt (x3 + (1 : Int32)) fun v4 => st_all_L4 F σ k x1 v3 v4))
def st_all (F : Nat) (σ : bqS) (x1 : Int32) : Option (Int32) :=
  bq_b1 (st_all_L4 F σ F x1 (0 : Int32) (0 : Int32)) fun v5 => some (v5)
def girl_spreads_L3 (F : Nat) (κ : bqS) : Nat → Int32 → Int32 → Int32 → bqS → Option (bqS)
  | 0, _, _, _, _ => none
  | k + 1, x3, x4, x5, σ =>
    bq_b1 (co_cells κ) fun v1 => if v1 ≤ x5 then (some (σ)) else (bq_b1 (co_steps κ x3 x5) fun v3 => if v3 = (1 : Int32) then (bq_b1 (st_takes σ x5 (x4 / (2 : Int32))) fun σ6 => bq_lt (x5 + (1 : Int32)) fun v7 => girl_spreads_L3 F κ k x3 x4 v7 σ6) else (bq_lt (x5 + (1 : Int32)) fun v5 => girl_spreads_L3 F κ k x3 x4 v5 σ))
def girl_spreads (F : Nat) (σ : bqS) (κ : bqS) (x3 : Int32) (x4 : Int32) : Option (bqS) :=
  bq_b1 (girl_spreads_L3 F κ F x3 x4 (0 : Int32) σ) fun σ8 => some (σ8)
def old_spreads_L12 (F : Nat) (κ : bqS) : Nat → Int32 → Int32 → bqS → Option (bqS)
  | 0, _, _, _ => none
  | k + 1, x5, x6, σ =>
    bq_b1 (co_cells κ) fun v2 => if v2 ≤ x6 then (some (σ)) else (bq_lt (x5 / (2 : Int32)) fun v4 => bq_b1 (st_takes σ x6 v4) fun σ5 => bq_lt (x6 + (κ 0 0)) fun v6 => old_spreads_L12 F κ k v4 v6 σ5)
def old_spreads (F : Nat) (σ : bqS) (κ : bqS) (x3 : Int32) (x4 : Int32) : Option (bqS) :=
  bq_lt (x3 + (κ 0 0)) fun v1 => bq_b1 (old_spreads_L12 F κ F x4 v1 σ) fun σ7 => some (σ7)
def st_like (σ : bqS) (τ : bqS) : Option (bqS) :=
  bq_lt (va_up σ 1 (va_cpy (τ 1) (σ 1) 0 0 30)) fun σ1 => bq_lt (va_up σ1 2 (va_cpy (τ 2) (σ1 2) 0 0 6)) fun σ2 => bq_lt (va_up σ2 3 (va_cpy (τ 3) (σ2 3) 0 0 6)) fun σ3 => bq_lt (bq_up σ3 0 3 (τ 0 3)) fun σ4 => bq_lt (bq_up σ4 0 4 (τ 0 4)) fun σ5 => bq_lt (bq_up σ5 0 5 (τ 0 5)) fun σ6 => bq_lt (bq_up σ6 0 6 (τ 0 6)) fun σ7 => bq_lt (bq_up σ7 0 7 (τ 0 7)) fun σ8 => some (σ8)
def st_sees_L5 (F : Nat) (σ : bqS) (ν : bqS) (κ : bqS) : Nat → Int32 → Int32 → Int32 → Option (Int32)
  | 0, _, _, _ => none
  | k + 1, x2, x3, x4 =>
    bq_b1 (co_cells κ) fun v1 => if v1 ≤ x4 then (some (x3)) else (bq_b1 (co_steps κ x2 x4) fun v3 => if v3 = (1 : Int32) then (bq_ck x4 30 (bq_lt (x3 + (σ 1 x4.toNatClampNeg)) fun v7 => bq_lt (x4 + (1 : Int32)) fun v8 => st_sees_L5 F σ ν κ k x2 v7 v8)) else (bq_lt (x4 + (1 : Int32)) fun v5 => st_sees_L5 F σ ν κ k x2 x3 v5))
def st_sees (F : Nat) (σ : bqS) (ν : bqS) (κ : bqS) (x2 : Int32) : Option (bqS) :=
  bq_b1 (st_sees_L5 F σ ν κ F x2 (0 : Int32) (0 : Int32)) fun v9 => bq_ck x2 30 (bq_b1 (vi_sees ν 0 (σ 1 x2.toNatClampNeg)) fun ν11 => bq_b1 (vi_sees ν11 1 v9) fun ν12 => bq_nz (κ 0 0) (bq_b1 (vi_sees ν12 2 (x2 / (κ 0 0))) fun ν14 => bq_b1 (vi_sees ν14 3 (σ 0 3)) fun ν15 => some (ν15)))
def st_dyes (F : Nat) (E : bqE) (σ : bqS) (ν : bqS) (κ : bqS) (x2 : Int32) (x3 : Int32) : Option (Int32 × bqS) :=
  bq_ck x2 6 (bq_lt (((2 : Int32) * (σ 3 x2.toNatClampNeg)) + (3 : Int32)) fun v2 => bq_om E.2.1 (some (if (0 : Int32) < (if v2 < (30 : Int32) then v2 else (30 : Int32)) then (if v2 < (30 : Int32) then v2 else (30 : Int32)) else (0 : Int32), ν)) (fun f3 => bq_ck x2 6 (bq_b1 (st_sees F σ ν κ (σ 2 x2.toNatClampNeg)) fun ν6 => bq_ck x2 6 (bq_b1 (vi_sees ν6 4 (σ 3 x2.toNatClampNeg)) fun ν8 => bq_b1 (vi_sees ν8 5 x3) fun ν9 => bq_lt (f3 (ν9 1)) fun v10 => some (if (0 : Int32) < (if v10 < (30 : Int32) then v10 else (30 : Int32)) then (if v10 < (30 : Int32) then v10 else (30 : Int32)) else (0 : Int32), ν9)))))
def st_fades (F : Nat) (E : bqE) (σ : bqS) (ν : bqS) (κ : bqS) (x2 : Int32) : Option (Int32 × bqS) :=
  bq_om E.2.2 (bq_ck x2 30 (bq_lt ((σ 1 x2.toNatClampNeg) / (5 : Int32)) fun v4 => bq_ck x2 30 (some (if (0 : Int32) < (if v4 < (σ 1 x2.toNatClampNeg) then v4 else (σ 1 x2.toNatClampNeg)) then (if v4 < (σ 1 x2.toNatClampNeg) then v4 else (σ 1 x2.toNatClampNeg)) else (0 : Int32), ν)))) (fun f1 => bq_b1 (st_sees F σ ν κ x2) fun ν6 => bq_lt (f1 (ν6 1)) fun v7 => bq_ck x2 30 (some (if (0 : Int32) < (if v7 < (σ 1 x2.toNatClampNeg) then v7 else (σ 1 x2.toNatClampNeg)) then (if v7 < (σ 1 x2.toNatClampNeg) then v7 else (σ 1 x2.toNatClampNeg)) else (0 : Int32), ν6)))
def st_extreme_L5 (F : Nat) (σ : bqS) (κ : bqS) : Nat → Int32 → Int32 → Int32 → Option (Int32)
  | 0, _, _, _ => none
  | k + 1, x2, x3, x4 =>
    bq_b1 (co_cells κ) fun v1 => if v1 ≤ x4 then (some (x3)) else (bq_b1 (st_isPeg σ x4) fun v3 => if v3 = (0 : Int32) then (if x3 = (-1 : Int32) then (bq_lt (x4 + (1 : Int32)) fun v7 => st_extreme_L5 F σ κ k x2 x4 v7) else (if x2 = (0 : Int32) then (bq_ck x4 30 (bq_ck x3 30 (if σ 1 x3.toNatClampNeg ≤ σ 1 x4.toNatClampNeg then (bq_lt (x4 + (1 : Int32)) fun v12 => st_extreme_L5 F σ κ k x2 x3 v12) else (bq_lt (x4 + (1 : Int32)) fun v13 => st_extreme_L5 F σ κ k x2 x4 v13)))) else (bq_ck x4 30 (bq_ck x3 30 (if σ 1 x4.toNatClampNeg ≤ σ 1 x3.toNatClampNeg then (bq_lt (x4 + (1 : Int32)) fun v17 => st_extreme_L5 F σ κ k x2 x3 v17) else (bq_lt (x4 + (1 : Int32)) fun v18 => st_extreme_L5 F σ κ k x2 x4 v18)))))) else (bq_lt (x4 + (1 : Int32)) fun v5 => st_extreme_L5 F σ κ k x2 x3 v5))
def st_extreme (F : Nat) (σ : bqS) (κ : bqS) (x2 : Int32) : Option (Int32) :=
  bq_b1 (st_extreme_L5 F σ κ F x2 (-1 : Int32) (0 : Int32)) fun v19 => some (v19)
def st_uneven (F : Nat) (σ : bqS) (κ : bqS) : Option (Int32) :=
  bq_b1 (st_extreme F σ κ (1 : Int32)) fun v1 => if v1 = (-1 : Int32) then (some ((-1 : Int32))) else (bq_b1 (st_extreme F σ κ (1 : Int32)) fun v3 => bq_ck v3 30 (bq_b1 (st_extreme F σ κ (0 : Int32)) fun v5 => bq_ck v5 30 (some ((σ 1 v3.toNatClampNeg) - (σ 1 v5.toNatClampNeg)))))
def st_begins_L33 (F : Nat) (E : bqE) (κ : bqS) : Nat → Int32 → bqS → Option (bqS)
  | 0, _, _ => none
  | k + 1, x2, σ =>
    if (30 : Int32) ≤ x2 then (some (σ)) else (bq_b1 (st_isPeg σ x2) fun v7 => if v7 = (0 : Int32) then (bq_ck x2 30 (bq_ck x2 30 (bq_lt (bq_up σ 1 x2.toNatClampNeg (κ 1 x2.toNatClampNeg)) fun σ11 => bq_lt (x2 + (1 : Int32)) fun v12 => st_begins_L33 F E κ k v12 σ11))) else (bq_ck x2 30 (bq_lt (bq_up σ 1 x2.toNatClampNeg (0 : Int32)) fun σ14 => bq_lt (x2 + (1 : Int32)) fun v15 => st_begins_L33 F E κ k v15 σ14)))
def st_begins_L71 (F : Nat) (E : bqE) (κ : bqS) : Nat → Int32 → bqS → Option (bqS)
  | 0, _, _ => none
  | k + 1, x2, σ =>
    if Int32.ofNat E.1 ≤ x2 then (some (σ)) else (bq_ck x2 E.1 (bq_ck x2 6 (bq_lt (bq_up σ 2 x2.toNatClampNeg (κ 3 (x2.toNatClampNeg))) fun σ20 => bq_ck x2 E.1 (bq_ck x2 6 (bq_lt (bq_up σ20 3 x2.toNatClampNeg (κ 2 (x2.toNatClampNeg))) fun σ23 => bq_lt (x2 + (1 : Int32)) fun v24 => st_begins_L71 F E κ k v24 σ23)))))
def st_begins (F : Nat) (E : bqE) (σ : bqS) (κ : bqS) : Option (bqS) :=
  bq_lt (bq_up σ 0 3 (0 : Int32)) fun σ1 => bq_lt (bq_up σ1 0 5 (0 : Int32)) fun σ2 => bq_lt (bq_up σ2 0 6 (0 : Int32)) fun σ3 => bq_lt (bq_up σ3 0 4 (κ 0 2)) fun σ4 => bq_lt (bq_up σ4 0 7 (κ 0 5)) fun σ5 => bq_b1 (st_begins_L33 F E κ F (0 : Int32) σ5) fun σ16 => bq_b1 (st_begins_L71 F E κ F (0 : Int32) σ16) fun σ25 => some (σ25)
def st_swishes (F : Nat) (E : bqE) (σ : bqS) (ν : bqS) (κ : bqS) (x2 : Int32) : Option (bqS × bqS) :=
  bq_b2 (st_dyes F E σ ν κ x2 (σ 0 4)) fun v1 ν2 => bq_ck x2 6 (bq_b1 (st_takes σ (σ 2 x2.toNatClampNeg) v1) fun σ4 => bq_ck x2 E.1 (bq_ck x2 6 (bq_b1 (if κ 4 (x2.toNatClampNeg) = 0 then girl_spreads F σ4 κ (σ4 2 x2.toNatClampNeg) v1 else old_spreads F σ4 κ (σ4 2 x2.toNatClampNeg) v1) fun σ7 => some (σ7, ν2))))
def st_goes_L7 (F : Nat) (E : bqE) (κ : bqS) : Nat → Int32 → bqS → bqS → Option (bqS × bqS)
  | 0, _, _, _ => none
  | k + 1, x2, σ, ν =>
    if Int32.ofNat E.1 ≤ x2 then (some (σ, ν)) else (bq_b1 (st_isResting σ x2) fun v3 => if v3 = (0 : Int32) then (if σ 0 4 = (0 : Int32) then (bq_lt (x2 + (1 : Int32)) fun v11 => st_goes_L7 F E κ k v11 σ ν) else (bq_lt (bq_up σ 0 4 ((σ 0 4) - (1 : Int32))) fun σ7 => bq_b2 (st_swishes F E σ7 ν κ x2) fun σ8 ν9 => bq_lt (x2 + (1 : Int32)) fun v10 => st_goes_L7 F E κ k v10 σ8 ν9)) else (bq_lt (x2 + (1 : Int32)) fun v5 => st_goes_L7 F E κ k v5 σ ν))
def st_goes_L60 (F : Nat) (E : bqE) (ν : bqS) (κ : bqS) : Nat → Int32 → bqS → Option (bqS)
  | 0, _, _ => none
  | k + 1, x2, σ =>
    bq_b1 (co_cells κ) fun v14 => if v14 ≤ x2 then (some (σ)) else (bq_ck x2 30 (if σ 1 x2.toNatClampNeg ≤ κ 0 4 then (bq_lt (x2 + (1 : Int32)) fun v18 => st_goes_L60 F E ν κ k v18 σ) else (bq_lt (bq_up σ 0 8 ((σ 0 8) ||| ((1 : Int32) <<< (x2 &&& 31)))) fun σ19 => bq_lt (x2 + (1 : Int32)) fun v20 => st_goes_L60 F E ν κ k v20 σ19)))
def st_goes_L123 (F : Nat) (E : bqE) (ν : bqS) (κ : bqS) : Nat → Int32 → bqS → Option (bqS)
  | 0, _, _ => none
  | k + 1, x2, σ =>
    bq_b1 (co_cells κ) fun v24 => if v24 ≤ x2 then (some (σ)) else (bq_ck x2 30 (bq_ck x2 30 (bq_lt (bq_up σ 1 x2.toNatClampNeg (if (0 : Int32) < ((σ 1 x2.toNatClampNeg) - (κ 0 3)) then ((σ 1 x2.toNatClampNeg) - (κ 0 3)) else (0 : Int32))) fun σ28 => bq_lt (x2 + (1 : Int32)) fun v29 => st_goes_L123 F E ν κ k v29 σ28)))
def st_goes_L160 (F : Nat) (E : bqE) (κ : bqS) : Nat → Int32 → bqS → bqS → Option (bqS × bqS)
  | 0, _, _, _ => none
  | k + 1, x2, σ, ν =>
    bq_b1 (co_cells κ) fun v31 => if v31 ≤ x2 then (some (σ, ν)) else (bq_b2 (st_fades F E σ ν κ x2) fun v33 ν34 => bq_ck x2 30 (bq_lt (bq_up σ 4 x2.toNatClampNeg v33) fun σ36 => bq_lt (x2 + (1 : Int32)) fun v37 => st_goes_L160 F E κ k v37 σ36 ν34))
def st_goes_L188 (F : Nat) (E : bqE) (ν : bqS) (κ : bqS) : Nat → Int32 → bqS → Option (bqS)
  | 0, _, _ => none
  | k + 1, x2, σ =>
    bq_b1 (co_cells κ) fun v40 => if v40 ≤ x2 then (some (σ)) else (bq_ck x2 30 (bq_ck x2 30 (bq_ck x2 30 (bq_lt (bq_up σ 1 x2.toNatClampNeg ((σ 1 x2.toNatClampNeg) - (σ 4 x2.toNatClampNeg))) fun σ45 => bq_lt (x2 + (1 : Int32)) fun v46 => st_goes_L188 F E ν κ k v46 σ45))))
def st_goes (F : Nat) (E : bqE) (σ : bqS) (ν : bqS) (κ : bqS) : Option (bqS × bqS) :=
  bq_lt (bq_up σ 0 8 (0 : Int32)) fun σ1 => bq_b2 (st_goes_L7 F E κ F (0 : Int32) σ1 ν) fun σ12 ν13 => bq_b1 (st_goes_L60 F E ν13 κ F (0 : Int32) σ12) fun σ21 => bq_b1 (jd_bits (σ21 0 8)) fun v22 => bq_lt (bq_up σ21 0 5 (if ((σ21 0 5) + v22) < (9999 : Int32) then ((σ21 0 5) + v22) else (9999 : Int32))) fun σ23 => bq_b1 (st_goes_L123 F E ν13 κ F (0 : Int32) σ23) fun σ30 => bq_b2 (st_goes_L160 F E κ F (0 : Int32) σ30 ν13) fun σ38 ν39 => bq_b1 (st_goes_L188 F E ν39 κ F (0 : Int32) σ38) fun σ47 => bq_lt (bq_up σ47 0 3 ((σ47 0 3) + (1 : Int32))) fun σ48 => some (σ48, ν39)
theorem hd_J16_bitCount : yJ16_bitCount.cls ≠ "java/lang/invoke/MethodHandle" ∧ yJ16_bitCount.cls ≠ "java/lang/invoke/VarHandle" ∧ (parseMethodDescriptor yJ16_bitCount.desc).map (fun d => d.parameters.length) = some 1 := by decide +kernel
theorem hd_J16_numberOfTrailingZeros : yJ16_numberOfTrailingZeros.cls ≠ "java/lang/invoke/MethodHandle" ∧ yJ16_numberOfTrailingZeros.cls ≠ "java/lang/invoke/VarHandle" ∧ (parseMethodDescriptor yJ16_numberOfTrailingZeros.desc).map (fun d => d.parameters.length) = some 1 := by decide +kernel
theorem hd_X2_cells : yX2_cells.cls = "BlueBag$Coast" ∧ yX2_cells.cls ≠ "java/lang/invoke/MethodHandle" ∧ yX2_cells.cls ≠ "java/lang/invoke/VarHandle" ∧ (parseMethodDescriptor yX2_cells.desc).map (fun d => d.parameters.length) = some 0 := by decide +kernel
theorem hd_X2_steps : yX2_steps.cls = "BlueBag$Coast" ∧ yX2_steps.cls ≠ "java/lang/invoke/MethodHandle" ∧ yX2_steps.cls ≠ "java/lang/invoke/VarHandle" ∧ (parseMethodDescriptor yX2_steps.desc).map (fun d => d.parameters.length) = some 2 := by decide +kernel
theorem hd_X3_sees : yX3_sees.cls = "BlueBag$View" ∧ yX3_sees.cls ≠ "java/lang/invoke/MethodHandle" ∧ yX3_sees.cls ≠ "java/lang/invoke/VarHandle" ∧ (parseMethodDescriptor yX3_sees.desc).map (fun d => d.parameters.length) = some 2 := by decide +kernel
theorem hd_X6_isPeg : yX6_isPeg.cls = "BlueBag$State" ∧ yX6_isPeg.cls ≠ "java/lang/invoke/MethodHandle" ∧ yX6_isPeg.cls ≠ "java/lang/invoke/VarHandle" ∧ (parseMethodDescriptor yX6_isPeg.desc).map (fun d => d.parameters.length) = some 1 := by decide +kernel
theorem hd_X6_isResting : yX6_isResting.cls = "BlueBag$State" ∧ yX6_isResting.cls ≠ "java/lang/invoke/MethodHandle" ∧ yX6_isResting.cls ≠ "java/lang/invoke/VarHandle" ∧ (parseMethodDescriptor yX6_isResting.desc).map (fun d => d.parameters.length) = some 1 := by decide +kernel
theorem hd_X6_takes : yX6_takes.cls = "BlueBag$State" ∧ yX6_takes.cls ≠ "java/lang/invoke/MethodHandle" ∧ yX6_takes.cls ≠ "java/lang/invoke/VarHandle" ∧ (parseMethodDescriptor yX6_takes.desc).map (fun d => d.parameters.length) = some 2 := by decide +kernel
theorem hd_X6_all : yX6_all.cls = "BlueBag$State" ∧ yX6_all.cls ≠ "java/lang/invoke/MethodHandle" ∧ yX6_all.cls ≠ "java/lang/invoke/VarHandle" ∧ (parseMethodDescriptor yX6_all.desc).map (fun d => d.parameters.length) = some 1 := by decide +kernel
theorem hd_X15_spreads : yX15_spreads.cls = "BlueBag$Girl" ∧ yX15_spreads.cls ≠ "java/lang/invoke/MethodHandle" ∧ yX15_spreads.cls ≠ "java/lang/invoke/VarHandle" ∧ (parseMethodDescriptor yX15_spreads.desc).map (fun d => d.parameters.length) = some 4 := by decide +kernel
theorem hd_X16_spreads : yX16_spreads.cls = "BlueBag$Old" ∧ yX16_spreads.cls ≠ "java/lang/invoke/MethodHandle" ∧ yX16_spreads.cls ≠ "java/lang/invoke/VarHandle" ∧ (parseMethodDescriptor yX16_spreads.desc).map (fun d => d.parameters.length) = some 4 := by decide +kernel
theorem hd_X6_like : yX6_like.cls = "BlueBag$State" ∧ yX6_like.cls ≠ "java/lang/invoke/MethodHandle" ∧ yX6_like.cls ≠ "java/lang/invoke/VarHandle" ∧ (parseMethodDescriptor yX6_like.desc).map (fun d => d.parameters.length) = some 1 := by decide +kernel
theorem hd_X6_sees : yX6_sees.cls = "BlueBag$State" ∧ yX6_sees.cls ≠ "java/lang/invoke/MethodHandle" ∧ yX6_sees.cls ≠ "java/lang/invoke/VarHandle" ∧ (parseMethodDescriptor yX6_sees.desc).map (fun d => d.parameters.length) = some 2 := by decide +kernel
theorem hd_X6_dyes : yX6_dyes.cls = "BlueBag$State" ∧ yX6_dyes.cls ≠ "java/lang/invoke/MethodHandle" ∧ yX6_dyes.cls ≠ "java/lang/invoke/VarHandle" ∧ (parseMethodDescriptor yX6_dyes.desc).map (fun d => d.parameters.length) = some 3 := by decide +kernel
theorem hd_X6_fades : yX6_fades.cls = "BlueBag$State" ∧ yX6_fades.cls ≠ "java/lang/invoke/MethodHandle" ∧ yX6_fades.cls ≠ "java/lang/invoke/VarHandle" ∧ (parseMethodDescriptor yX6_fades.desc).map (fun d => d.parameters.length) = some 2 := by decide +kernel
theorem hd_X6_extreme : yX6_extreme.cls = "BlueBag$State" ∧ yX6_extreme.cls ≠ "java/lang/invoke/MethodHandle" ∧ yX6_extreme.cls ≠ "java/lang/invoke/VarHandle" ∧ (parseMethodDescriptor yX6_extreme.desc).map (fun d => d.parameters.length) = some 2 := by decide +kernel
theorem hd_X6_uneven : yX6_uneven.cls = "BlueBag$State" ∧ yX6_uneven.cls ≠ "java/lang/invoke/MethodHandle" ∧ yX6_uneven.cls ≠ "java/lang/invoke/VarHandle" ∧ (parseMethodDescriptor yX6_uneven.desc).map (fun d => d.parameters.length) = some 1 := by decide +kernel
theorem hd_X6_begins : yX6_begins.cls = "BlueBag$State" ∧ yX6_begins.cls ≠ "java/lang/invoke/MethodHandle" ∧ yX6_begins.cls ≠ "java/lang/invoke/VarHandle" ∧ (parseMethodDescriptor yX6_begins.desc).map (fun d => d.parameters.length) = some 1 := by decide +kernel
theorem hd_X6_swishes : yX6_swishes.cls = "BlueBag$State" ∧ yX6_swishes.cls ≠ "java/lang/invoke/MethodHandle" ∧ yX6_swishes.cls ≠ "java/lang/invoke/VarHandle" ∧ (parseMethodDescriptor yX6_swishes.desc).map (fun d => d.parameters.length) = some 2 := by decide +kernel
theorem hd_X6_goes : yX6_goes.cls = "BlueBag$State" ∧ yX6_goes.cls ≠ "java/lang/invoke/MethodHandle" ∧ yX6_goes.cls ≠ "java/lang/invoke/VarHandle" ∧ (parseMethodDescriptor yX6_goes.desc).map (fun d => d.parameters.length) = some 1 := by decide +kernel
