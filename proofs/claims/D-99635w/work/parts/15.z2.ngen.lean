set_option maxRecDepth 100000
abbrev bqZ : bqS := fun _ _ => 0
/-- a coast as it is made -/
def bqK0 : bqS := fun r k => if r = 0 then (match k with | 0 => 3 | 1 => 3 | 2 => 20 | 3 => 2 | 4 => 60 | _ => 0) else 0
set_option maxHeartbeats 4000000 in
theorem nw_X10_told {l : Launch} {D : va_G} {am : bqAm} {X vE sE : Nat → Nat} {d : Nat → ClassId} {h0 : Nat} (hok : bq_Ok am) (hamb : bq_Amb am X vE sE) : bq_N l yX10_init cX10_init 1 none 1 20 0 0 D bqCl (bqTy d) am [.ref (h0)] (List.flatten ([[(h0, .inr (8, [.int 0]))]] : List va_W)) (fun o w' => o = none ∧ w' = (List.flatten ([[(h0, .inr (8, [.int 0]))]] : List va_W))) := by
  refine bq_ofN hok (by decide +kernel) (Nat.le_of_ble_eq_true rfl) ?_
  intro p e s m below meth c A ls C hr hin hP hD hS hl
  have C0 := C
  obtain ⟨hx, hb, hown, hts, hml, hlocks, hA, hK, hm, hRf, hRl, hok⟩ := C
  have C := C0
  have hl : lv_has ls 1 [(0, .ref (h0))] := hl
  refine lv_aload_n hx hb dX10_init_0 rfl (lv_at hl 0 rfl) ?_
  refine bq_obj C q1247 (Nat.le_of_ble_eq_true rfl) (Nat.le_of_ble_eq_true rfl) hl.1 (Nat.le_of_ble_eq_true rfl) dX10_init_1 ?_
  exact bq_vretN C hr (Nat.le_of_ble_eq_true rfl) (Nat.le_of_ble_eq_true rfl) ⟨rfl, rfl⟩ hP hD hS dX10_init_4
set_option maxHeartbeats 4000000 in
theorem nw_X11 {l : Launch} {D : va_G} {am : bqAm} {X vE sE : Nat → Nat} {d : Nat → ClassId} {h0 : Nat} {x1 : Int32} (hok : bq_Ok am) (hamb : bq_Amb am X vE sE) : bq_N l yX11_init cX11_init 2 none 2 40 0 0 D bqCl (bqTy d) am [.ref (h0), .int x1] (List.flatten ([[(h0, .inr (8, [.int 0]))]] : List va_W)) (fun o w' => o = none ∧ w' = (List.flatten ([[(h0, .inr (8, [.int x1]))]] : List va_W))) := by
  refine bq_ofN hok (by decide +kernel) (Nat.le_of_ble_eq_true rfl) ?_
  intro p e s m below meth c A ls C hr hin hP hD hS hl
  have C0 := C
  obtain ⟨hx, hb, hown, hts, hml, hlocks, hA, hK, hm, hRf, hRl, hok⟩ := C
  have C := C0
  have hl : lv_has ls 2 [(0, .ref (h0)), (1, .int x1)] := hl
  refine lv_aload_n hx hb dX11_init_0 rfl (lv_at hl 0 rfl) ?_
  refine bq_cINn (n := 0) (bs := [[(h0, .inr (8, [.int 0]))]]) (bc := [[(h0, .inr (8, [.int 0]))]]) (br := []) (As := []) (rest := []) C (Nat.le_of_ble_eq_true rfl) (Nat.le_of_ble_eq_true rfl) (nw_X10_told hok hamb) (bq_pm [0] rfl rfl rfl) (bq_nMw hamb hm 8 rfl) q1245 q144 q1246 rfl (by decide +kernel) (Nat.le_of_ble_eq_true rfl) (Nat.le_of_ble_eq_true rfl) rfl hl.1 rfl (Nat.le_of_ble_eq_true rfl) dX11_init_1 hP hD hS (fun o w hp_ H locs hP_ hD_ hS_ => ?_)
  clear hP hD hS
  obtain ⟨rfl, rfl⟩ := hp_
  have hP := hP_
  have hD := hD_
  have hS := hS_
  have hP : va_P D bqCl (List.flatten ([[(h0, .inr (8, [.int 0]))]] : List va_W)) H := hP
  have hD : va_D A (List.flatten ([[(h0, .inr (8, [.int 0]))]] : List va_W)) := hD
  refine lv_aload_n hx hb dX11_init_4 rfl (lv_at hl 0 rfl) ?_
  refine lv_iload_n hx hb dX11_init_5 rfl (lv_at hl 1 rfl) ?_
  refine va_putF (D := D) (ci := 8) (C := RX11) (T := TX11) (N := 1) (ref := "BlueBag$Told") (fs := [.int 0]) (ty := .int) hx hb hts in_X11 tyX11 tyX11_ok nmX11 hown hK hP hD hS 0 rfl rfl 0 (Nat.le_of_ble_eq_true rfl) (hts _ q1248) (fun x h => h) rfl hin rfl rfl rfl rfl (Nat.le_of_ble_eq_true rfl) dX11_init_6 (fun H locs hP hD hS => ?_)
  have hP : va_P D bqCl (List.flatten ([[(h0, .inr (8, [.int x1]))]] : List va_W)) H := hP
  have hD : va_D A (List.flatten ([[(h0, .inr (8, [.int x1]))]] : List va_W)) := hD
  exact bq_vretN C hr (Nat.le_of_ble_eq_true rfl) (Nat.le_of_ble_eq_true rfl) ⟨rfl, rfl⟩ hP hD hS dX11_init_9
set_option maxHeartbeats 4000000 in
theorem nw_X10_seen {l : Launch} {D : va_G} {am : bqAm} {X vE sE : Nat → Nat} {d : Nat → ClassId} {h0 : Nat} (hok : bq_Ok am) (hamb : bq_Amb am X vE sE) : bq_N l yX10_init cX10_init 1 none 1 20 0 0 D bqCl (bqTy d) am [.ref (h0)] (List.flatten ([[(h0, .inr (9, [.null]))]] : List va_W)) (fun o w' => o = none ∧ w' = (List.flatten ([[(h0, .inr (9, [.null]))]] : List va_W))) := by
  refine bq_ofN hok (by decide +kernel) (Nat.le_of_ble_eq_true rfl) ?_
  intro p e s m below meth c A ls C hr hin hP hD hS hl
  have C0 := C
  obtain ⟨hx, hb, hown, hts, hml, hlocks, hA, hK, hm, hRf, hRl, hok⟩ := C
  have C := C0
  have hl : lv_has ls 1 [(0, .ref (h0))] := hl
  refine lv_aload_n hx hb dX10_init_0 rfl (lv_at hl 0 rfl) ?_
  refine bq_obj C q1247 (Nat.le_of_ble_eq_true rfl) (Nat.le_of_ble_eq_true rfl) hl.1 (Nat.le_of_ble_eq_true rfl) dX10_init_1 ?_
  exact bq_vretN C hr (Nat.le_of_ble_eq_true rfl) (Nat.le_of_ble_eq_true rfl) ⟨rfl, rfl⟩ hP hD hS dX10_init_4
set_option maxHeartbeats 4000000 in
theorem nw_X12 {l : Launch} {D : va_G} {am : bqAm} {X vE sE : Nat → Nat} {d : Nat → ClassId} {h0 : Nat} {r1 : Nat} (hok : bq_Ok am) (hamb : bq_Amb am X vE sE) : bq_N l yX12_init cX12_init 2 none 2 40 0 0 D bqCl (bqTy d) am [.ref (h0), .ref (r1)] (List.flatten ([[(h0, .inr (9, [.null]))]] : List va_W)) (fun o w' => o = none ∧ w' = (List.flatten ([[(h0, .inr (9, [.ref (r1)]))]] : List va_W))) := by
  refine bq_ofN hok (by decide +kernel) (Nat.le_of_ble_eq_true rfl) ?_
  intro p e s m below meth c A ls C hr hin hP hD hS hl
  have C0 := C
  obtain ⟨hx, hb, hown, hts, hml, hlocks, hA, hK, hm, hRf, hRl, hok⟩ := C
  have C := C0
  have hl : lv_has ls 2 [(0, .ref (h0)), (1, .ref (r1))] := hl
  refine lv_aload_n hx hb dX12_init_0 rfl (lv_at hl 0 rfl) ?_
  refine bq_cINn (n := 0) (bs := [[(h0, .inr (9, [.null]))]]) (bc := [[(h0, .inr (9, [.null]))]]) (br := []) (As := []) (rest := []) C (Nat.le_of_ble_eq_true rfl) (Nat.le_of_ble_eq_true rfl) (nw_X10_seen hok hamb) (bq_pm [0] rfl rfl rfl) (bq_nMw hamb hm 7 rfl) q1245 q144 q1246 rfl (by decide +kernel) (Nat.le_of_ble_eq_true rfl) (Nat.le_of_ble_eq_true rfl) rfl hl.1 rfl (Nat.le_of_ble_eq_true rfl) dX12_init_1 hP hD hS (fun o w hp_ H locs hP_ hD_ hS_ => ?_)
  clear hP hD hS
  obtain ⟨rfl, rfl⟩ := hp_
  have hP := hP_
  have hD := hD_
  have hS := hS_
  have hP : va_P D bqCl (List.flatten ([[(h0, .inr (9, [.null]))]] : List va_W)) H := hP
  have hD : va_D A (List.flatten ([[(h0, .inr (9, [.null]))]] : List va_W)) := hD
  refine lv_aload_n hx hb dX12_init_4 rfl (lv_at hl 0 rfl) ?_
  refine lv_aload_n hx hb dX12_init_5 rfl (lv_at hl 1 rfl) ?_
  refine va_putF (D := D) (ci := 9) (C := RX12) (T := TX12) (N := 1) (ref := "BlueBag$Seen") (fs := [.null]) (ty := _) hx hb hts in_X12 tyX12 tyX12_ok nmX12 hown hK hP hD hS 0 rfl rfl 0 (Nat.le_of_ble_eq_true rfl) (hts _ q1280) (fun x h => h) rfl hin rfl rfl rfl rfl (Nat.le_of_ble_eq_true rfl) dX12_init_6 (fun H locs hP hD hS => ?_)
  have hP : va_P D bqCl (List.flatten ([[(h0, .inr (9, [.ref (r1)]))]] : List va_W)) H := hP
  have hD : va_D A (List.flatten ([[(h0, .inr (9, [.ref (r1)]))]] : List va_W)) := hD
  exact bq_vretN C hr (Nat.le_of_ble_eq_true rfl) (Nat.le_of_ble_eq_true rfl) ⟨rfl, rfl⟩ hP hD hS dX12_init_9
set_option maxHeartbeats 4000000 in
theorem nw_X10_both {l : Launch} {D : va_G} {am : bqAm} {X vE sE : Nat → Nat} {d : Nat → ClassId} {h0 : Nat} (hok : bq_Ok am) (hamb : bq_Amb am X vE sE) : bq_N l yX10_init cX10_init 1 none 1 20 0 0 D bqCl (bqTy d) am [.ref (h0)] (List.flatten ([[(h0, .inr (10, [.int 0, .null, .null]))]] : List va_W)) (fun o w' => o = none ∧ w' = (List.flatten ([[(h0, .inr (10, [.int 0, .null, .null]))]] : List va_W))) := by
  refine bq_ofN hok (by decide +kernel) (Nat.le_of_ble_eq_true rfl) ?_
  intro p e s m below meth c A ls C hr hin hP hD hS hl
  have C0 := C
  obtain ⟨hx, hb, hown, hts, hml, hlocks, hA, hK, hm, hRf, hRl, hok⟩ := C
  have C := C0
  have hl : lv_has ls 1 [(0, .ref (h0))] := hl
  refine lv_aload_n hx hb dX10_init_0 rfl (lv_at hl 0 rfl) ?_
  refine bq_obj C q1247 (Nat.le_of_ble_eq_true rfl) (Nat.le_of_ble_eq_true rfl) hl.1 (Nat.le_of_ble_eq_true rfl) dX10_init_1 ?_
  exact bq_vretN C hr (Nat.le_of_ble_eq_true rfl) (Nat.le_of_ble_eq_true rfl) ⟨rfl, rfl⟩ hP hD hS dX10_init_4
set_option maxHeartbeats 4000000 in
theorem nw_X13 {l : Launch} {D : va_G} {am : bqAm} {X vE sE : Nat → Nat} {d : Nat → ClassId} {h0 : Nat} {x1 : Int32} {r2 : Nat} {r3 : Nat} (hok : bq_Ok am) (hamb : bq_Amb am X vE sE) (hnar : narrow .char (.int x1) = .int x1) (hfit : fits .char (.int x1) = true) : bq_N l yX13_init cX13_init 4 none 2 40 0 0 D bqCl (bqTy d) am [.ref (h0), .int x1, .ref (r2), .ref (r3)] (List.flatten ([[(h0, .inr (10, [.int 0, .null, .null]))]] : List va_W)) (fun o w' => o = none ∧ w' = (List.flatten ([[(h0, .inr (10, [.int x1, .ref (r2), .ref (r3)]))]] : List va_W))) := by
  refine bq_ofN hok (by decide +kernel) (Nat.le_of_ble_eq_true rfl) ?_
  intro p e s m below meth c A ls C hr hin hP hD hS hl
  have C0 := C
  obtain ⟨hx, hb, hown, hts, hml, hlocks, hA, hK, hm, hRf, hRl, hok⟩ := C
  have C := C0
  have hl : lv_has ls 4 [(0, .ref (h0)), (1, .int x1), (2, .ref (r2)), (3, .ref (r3))] := hl
  refine lv_aload_n hx hb dX13_init_0 rfl (lv_at hl 0 rfl) ?_
  refine bq_cINn (n := 0) (bs := [[(h0, .inr (10, [.int 0, .null, .null]))]]) (bc := [[(h0, .inr (10, [.int 0, .null, .null]))]]) (br := []) (As := []) (rest := []) C (Nat.le_of_ble_eq_true rfl) (Nat.le_of_ble_eq_true rfl) (nw_X10_both hok hamb) (bq_pm [0] rfl rfl rfl) (bq_nMw hamb hm 3 rfl) q1245 q144 q1246 rfl (by decide +kernel) (Nat.le_of_ble_eq_true rfl) (Nat.le_of_ble_eq_true rfl) rfl hl.1 rfl (Nat.le_of_ble_eq_true rfl) dX13_init_1 hP hD hS (fun o w hp_ H locs hP_ hD_ hS_ => ?_)
  clear hP hD hS
  obtain ⟨rfl, rfl⟩ := hp_
  have hP := hP_
  have hD := hD_
  have hS := hS_
  have hP : va_P D bqCl (List.flatten ([[(h0, .inr (10, [.int 0, .null, .null]))]] : List va_W)) H := hP
  have hD : va_D A (List.flatten ([[(h0, .inr (10, [.int 0, .null, .null]))]] : List va_W)) := hD
  refine lv_aload_n hx hb dX13_init_4 rfl (lv_at hl 0 rfl) ?_
  refine lv_iload_n hx hb dX13_init_5 rfl (lv_at hl 1 rfl) ?_
  refine va_putF (D := D) (ci := 10) (C := RX13) (T := TX13) (N := 3) (ref := "BlueBag$Both") (fs := [.int 0, .null, .null]) (ty := .char) hx hb hts in_X13 tyX13 tyX13_ok nmX13 hown hK hP hD hS 0 rfl rfl 0 (Nat.le_of_ble_eq_true rfl) (hts _ q1307) (fun x h => h) rfl hin rfl rfl hnar hfit (Nat.le_of_ble_eq_true rfl) dX13_init_6 (fun H locs hP hD hS => ?_)
  have hP : va_P D bqCl (List.flatten ([[(h0, .inr (10, [.int x1, .null, .null]))]] : List va_W)) H := hP
  have hD : va_D A (List.flatten ([[(h0, .inr (10, [.int x1, .null, .null]))]] : List va_W)) := hD
  refine lv_aload_n hx hb dX13_init_9 rfl (lv_at hl 0 rfl) ?_
  refine lv_aload_n hx hb dX13_init_10 rfl (lv_at hl 2 rfl) ?_
  refine va_putF (D := D) (ci := 10) (C := RX13) (T := TX13) (N := 3) (ref := "BlueBag$Both") (fs := [.int x1, .null, .null]) (ty := _) hx hb hts in_X13 tyX13 tyX13_ok nmX13 hown hK hP hD hS 0 rfl rfl 1 (Nat.le_of_ble_eq_true rfl) (hts _ q1308) (fun x h => h) rfl hin rfl rfl rfl rfl (Nat.le_of_ble_eq_true rfl) dX13_init_11 (fun H locs hP hD hS => ?_)
  have hP : va_P D bqCl (List.flatten ([[(h0, .inr (10, [.int x1, .ref (r2), .null]))]] : List va_W)) H := hP
  have hD : va_D A (List.flatten ([[(h0, .inr (10, [.int x1, .ref (r2), .null]))]] : List va_W)) := hD
  refine lv_aload_n hx hb dX13_init_14 rfl (lv_at hl 0 rfl) ?_
  refine lv_aload_n hx hb dX13_init_15 rfl (lv_at hl 3 rfl) ?_
  refine va_putF (D := D) (ci := 10) (C := RX13) (T := TX13) (N := 3) (ref := "BlueBag$Both") (fs := [.int x1, .ref (r2), .null]) (ty := _) hx hb hts in_X13 tyX13 tyX13_ok nmX13 hown hK hP hD hS 0 rfl rfl 2 (Nat.le_of_ble_eq_true rfl) (hts _ q1309) (fun x h => h) rfl hin rfl rfl rfl rfl (Nat.le_of_ble_eq_true rfl) dX13_init_16 (fun H locs hP hD hS => ?_)
  have hP : va_P D bqCl (List.flatten ([[(h0, .inr (10, [.int x1, .ref (r2), .ref (r3)]))]] : List va_W)) H := hP
  have hD : va_D A (List.flatten ([[(h0, .inr (10, [.int x1, .ref (r2), .ref (r3)]))]] : List va_W)) := hD
  exact bq_vretN C hr (Nat.le_of_ble_eq_true rfl) (Nat.le_of_ble_eq_true rfl) ⟨rfl, rfl⟩ hP hD hS dX13_init_19
set_option maxHeartbeats 4000000 in
theorem nw_X10_not {l : Launch} {D : va_G} {am : bqAm} {X vE sE : Nat → Nat} {d : Nat → ClassId} {h0 : Nat} (hok : bq_Ok am) (hamb : bq_Amb am X vE sE) : bq_N l yX10_init cX10_init 1 none 1 20 0 0 D bqCl (bqTy d) am [.ref (h0)] (List.flatten ([[(h0, .inr (11, [.null]))]] : List va_W)) (fun o w' => o = none ∧ w' = (List.flatten ([[(h0, .inr (11, [.null]))]] : List va_W))) := by
  refine bq_ofN hok (by decide +kernel) (Nat.le_of_ble_eq_true rfl) ?_
  intro p e s m below meth c A ls C hr hin hP hD hS hl
  have C0 := C
  obtain ⟨hx, hb, hown, hts, hml, hlocks, hA, hK, hm, hRf, hRl, hok⟩ := C
  have C := C0
  have hl : lv_has ls 1 [(0, .ref (h0))] := hl
  refine lv_aload_n hx hb dX10_init_0 rfl (lv_at hl 0 rfl) ?_
  refine bq_obj C q1247 (Nat.le_of_ble_eq_true rfl) (Nat.le_of_ble_eq_true rfl) hl.1 (Nat.le_of_ble_eq_true rfl) dX10_init_1 ?_
  exact bq_vretN C hr (Nat.le_of_ble_eq_true rfl) (Nat.le_of_ble_eq_true rfl) ⟨rfl, rfl⟩ hP hD hS dX10_init_4
set_option maxHeartbeats 4000000 in
theorem nw_X14 {l : Launch} {D : va_G} {am : bqAm} {X vE sE : Nat → Nat} {d : Nat → ClassId} {h0 : Nat} {r1 : Nat} (hok : bq_Ok am) (hamb : bq_Amb am X vE sE) : bq_N l yX14_init cX14_init 2 none 2 40 0 0 D bqCl (bqTy d) am [.ref (h0), .ref (r1)] (List.flatten ([[(h0, .inr (11, [.null]))]] : List va_W)) (fun o w' => o = none ∧ w' = (List.flatten ([[(h0, .inr (11, [.ref (r1)]))]] : List va_W))) := by
  refine bq_ofN hok (by decide +kernel) (Nat.le_of_ble_eq_true rfl) ?_
  intro p e s m below meth c A ls C hr hin hP hD hS hl
  have C0 := C
  obtain ⟨hx, hb, hown, hts, hml, hlocks, hA, hK, hm, hRf, hRl, hok⟩ := C
  have C := C0
  have hl : lv_has ls 2 [(0, .ref (h0)), (1, .ref (r1))] := hl
  refine lv_aload_n hx hb dX14_init_0 rfl (lv_at hl 0 rfl) ?_
  refine bq_cINn (n := 0) (bs := [[(h0, .inr (11, [.null]))]]) (bc := [[(h0, .inr (11, [.null]))]]) (br := []) (As := []) (rest := []) C (Nat.le_of_ble_eq_true rfl) (Nat.le_of_ble_eq_true rfl) (nw_X10_not hok hamb) (bq_pm [0] rfl rfl rfl) (bq_nMw hamb hm 5 rfl) q1245 q144 q1246 rfl (by decide +kernel) (Nat.le_of_ble_eq_true rfl) (Nat.le_of_ble_eq_true rfl) rfl hl.1 rfl (Nat.le_of_ble_eq_true rfl) dX14_init_1 hP hD hS (fun o w hp_ H locs hP_ hD_ hS_ => ?_)
  clear hP hD hS
  obtain ⟨rfl, rfl⟩ := hp_
  have hP := hP_
  have hD := hD_
  have hS := hS_
  have hP : va_P D bqCl (List.flatten ([[(h0, .inr (11, [.null]))]] : List va_W)) H := hP
  have hD : va_D A (List.flatten ([[(h0, .inr (11, [.null]))]] : List va_W)) := hD
  refine lv_aload_n hx hb dX14_init_4 rfl (lv_at hl 0 rfl) ?_
  refine lv_aload_n hx hb dX14_init_5 rfl (lv_at hl 1 rfl) ?_
  refine va_putF (D := D) (ci := 11) (C := RX14) (T := TX14) (N := 1) (ref := "BlueBag$Not") (fs := [.null]) (ty := _) hx hb hts in_X14 tyX14 tyX14_ok nmX14 hown hK hP hD hS 0 rfl rfl 0 (Nat.le_of_ble_eq_true rfl) (hts _ q1327) (fun x h => h) rfl hin rfl rfl rfl rfl (Nat.le_of_ble_eq_true rfl) dX14_init_6 (fun H locs hP hD hS => ?_)
  have hP : va_P D bqCl (List.flatten ([[(h0, .inr (11, [.ref (r1)]))]] : List va_W)) H := hP
  have hD : va_D A (List.flatten ([[(h0, .inr (11, [.ref (r1)]))]] : List va_W)) := hD
  exact bq_vretN C hr (Nat.le_of_ble_eq_true rfl) (Nat.le_of_ble_eq_true rfl) ⟨rfl, rfl⟩ hP hD hS dX14_init_9
set_option maxHeartbeats 4000000 in
theorem nw_X15 {l : Launch} {D : va_G} {am : bqAm} {X vE sE : Nat → Nat} {d : Nat → ClassId} {h0 : Nat} {x1 x2 : Int32} (hok : bq_Ok am) (hamb : bq_Amb am X vE sE) : bq_N l yX15_init cX15_init 3 none 1 20 0 0 D bqCl (bqTy d) am [.ref (h0), .int x1, .int x2] (List.flatten ([[(h0, .inr (12, [.int 0, .int 0]))]] : List va_W)) (fun o w' => o = none ∧ w' = (List.flatten ([[(h0, .inr (12, [.int x1, .int x2]))]] : List va_W))) := by
  refine bq_ofN hok (by decide +kernel) (Nat.le_of_ble_eq_true rfl) ?_
  intro p e s m below meth c A ls C hr hin hP hD hS hl
  have C0 := C
  obtain ⟨hx, hb, hown, hts, hml, hlocks, hA, hK, hm, hRf, hRl, hok⟩ := C
  have C := C0
  have hl : lv_has ls 3 [(0, .ref (h0)), (1, .int x1), (2, .int x2)] := hl
  refine lv_aload_n hx hb dX15_init_0 rfl (lv_at hl 0 rfl) ?_
  refine bq_obj C q1367 (Nat.le_of_ble_eq_true rfl) (Nat.le_of_ble_eq_true rfl) hl.1 (Nat.le_of_ble_eq_true rfl) dX15_init_1 ?_
  refine lv_aload_n hx hb dX15_init_4 rfl (lv_at hl 0 rfl) ?_
  refine lv_iload_n hx hb dX15_init_5 rfl (lv_at hl 1 rfl) ?_
  refine va_putF (D := D) (ci := 12) (C := RX15) (T := TX15) (N := 2) (ref := "BlueBag$Girl") (fs := [.int 0, .int 0]) (ty := .int) hx hb hts in_X15 tyX15 tyX15_ok nmX15 hown hK hP hD hS 0 rfl rfl 0 (Nat.le_of_ble_eq_true rfl) (hts _ q1368) (fun x h => h) rfl hin rfl rfl rfl rfl (Nat.le_of_ble_eq_true rfl) dX15_init_6 (fun H locs hP hD hS => ?_)
  have hP : va_P D bqCl (List.flatten ([[(h0, .inr (12, [.int x1, .int 0]))]] : List va_W)) H := hP
  have hD : va_D A (List.flatten ([[(h0, .inr (12, [.int x1, .int 0]))]] : List va_W)) := hD
  refine lv_aload_n hx hb dX15_init_9 rfl (lv_at hl 0 rfl) ?_
  refine lv_iload_n hx hb dX15_init_10 rfl (lv_at hl 2 rfl) ?_
  refine va_putF (D := D) (ci := 12) (C := RX15) (T := TX15) (N := 2) (ref := "BlueBag$Girl") (fs := [.int x1, .int 0]) (ty := .int) hx hb hts in_X15 tyX15 tyX15_ok nmX15 hown hK hP hD hS 0 rfl rfl 1 (Nat.le_of_ble_eq_true rfl) (hts _ q1371) (fun x h => h) rfl hin rfl rfl rfl rfl (Nat.le_of_ble_eq_true rfl) dX15_init_11 (fun H locs hP hD hS => ?_)
  have hP : va_P D bqCl (List.flatten ([[(h0, .inr (12, [.int x1, .int x2]))]] : List va_W)) H := hP
  have hD : va_D A (List.flatten ([[(h0, .inr (12, [.int x1, .int x2]))]] : List va_W)) := hD
  exact bq_vretN C hr (Nat.le_of_ble_eq_true rfl) (Nat.le_of_ble_eq_true rfl) ⟨rfl, rfl⟩ hP hD hS dX15_init_14
set_option maxHeartbeats 4000000 in
theorem nw_X15_old {l : Launch} {D : va_G} {am : bqAm} {X vE sE : Nat → Nat} {d : Nat → ClassId} {h0 : Nat} {x1 x2 : Int32} (hok : bq_Ok am) (hamb : bq_Amb am X vE sE) : bq_N l yX15_init cX15_init 3 none 1 20 0 0 D bqCl (bqTy d) am [.ref (h0), .int x1, .int x2] (List.flatten ([[(h0, .inr (13, [.int 0, .int 0]))]] : List va_W)) (fun o w' => o = none ∧ w' = (List.flatten ([[(h0, .inr (13, [.int x1, .int x2]))]] : List va_W))) := by
  refine bq_ofN hok (by decide +kernel) (Nat.le_of_ble_eq_true rfl) ?_
  intro p e s m below meth c A ls C hr hin hP hD hS hl
  have C0 := C
  obtain ⟨hx, hb, hown, hts, hml, hlocks, hA, hK, hm, hRf, hRl, hok⟩ := C
  have C := C0
  have hl : lv_has ls 3 [(0, .ref (h0)), (1, .int x1), (2, .int x2)] := hl
  refine lv_aload_n hx hb dX15_init_0 rfl (lv_at hl 0 rfl) ?_
  refine bq_obj C q1367 (Nat.le_of_ble_eq_true rfl) (Nat.le_of_ble_eq_true rfl) hl.1 (Nat.le_of_ble_eq_true rfl) dX15_init_1 ?_
  refine lv_aload_n hx hb dX15_init_4 rfl (lv_at hl 0 rfl) ?_
  refine lv_iload_n hx hb dX15_init_5 rfl (lv_at hl 1 rfl) ?_
  refine va_putF (D := D) (ci := 13) (C := RX16) (T := TX16) (N := 2) (ref := "BlueBag$Girl") (fs := [.int 0, .int 0]) (ty := .int) hx hb hts in_X16 tyX16 tyX16_ok nmX16 hown hK hP hD hS 0 rfl rfl 0 (Nat.le_of_ble_eq_true rfl) (hts _ q1368) (fun x h => h) rfl hin rfl rfl rfl rfl (Nat.le_of_ble_eq_true rfl) dX15_init_6 (fun H locs hP hD hS => ?_)
  have hP : va_P D bqCl (List.flatten ([[(h0, .inr (13, [.int x1, .int 0]))]] : List va_W)) H := hP
  have hD : va_D A (List.flatten ([[(h0, .inr (13, [.int x1, .int 0]))]] : List va_W)) := hD
  refine lv_aload_n hx hb dX15_init_9 rfl (lv_at hl 0 rfl) ?_
  refine lv_iload_n hx hb dX15_init_10 rfl (lv_at hl 2 rfl) ?_
  refine va_putF (D := D) (ci := 13) (C := RX16) (T := TX16) (N := 2) (ref := "BlueBag$Girl") (fs := [.int x1, .int 0]) (ty := .int) hx hb hts in_X16 tyX16 tyX16_ok nmX16 hown hK hP hD hS 0 rfl rfl 1 (Nat.le_of_ble_eq_true rfl) (hts _ q1371) (fun x h => h) rfl hin rfl rfl rfl rfl (Nat.le_of_ble_eq_true rfl) dX15_init_11 (fun H locs hP hD hS => ?_)
  have hP : va_P D bqCl (List.flatten ([[(h0, .inr (13, [.int x1, .int x2]))]] : List va_W)) H := hP
  have hD : va_D A (List.flatten ([[(h0, .inr (13, [.int x1, .int x2]))]] : List va_W)) := hD
  exact bq_vretN C hr (Nat.le_of_ble_eq_true rfl) (Nat.le_of_ble_eq_true rfl) ⟨rfl, rfl⟩ hP hD hS dX15_init_14
set_option maxHeartbeats 4000000 in
theorem nw_X16 {l : Launch} {D : va_G} {am : bqAm} {X vE sE : Nat → Nat} {d : Nat → ClassId} {h0 : Nat} {x1 x2 : Int32} (hok : bq_Ok am) (hamb : bq_Amb am X vE sE) : bq_N l yX16_init cX16_init 3 none 2 42 0 0 D bqCl (bqTy d) am [.ref (h0), .int x1, .int x2] (List.flatten ([[(h0, .inr (13, [.int 0, .int 0]))]] : List va_W)) (fun o w' => o = none ∧ w' = (List.flatten ([[(h0, .inr (13, [.int x1, .int x2]))]] : List va_W))) := by
  refine bq_ofN hok (by decide +kernel) (Nat.le_of_ble_eq_true rfl) ?_
  intro p e s m below meth c A ls C hr hin hP hD hS hl
  have C0 := C
  obtain ⟨hx, hb, hown, hts, hml, hlocks, hA, hK, hm, hRf, hRl, hok⟩ := C
  have C := C0
  have hl : lv_has ls 3 [(0, .ref (h0)), (1, .int x1), (2, .int x2)] := hl
  refine lv_aload_n hx hb dX16_init_0 rfl (lv_at hl 0 rfl) ?_
  refine lv_iload_n hx hb dX16_init_1 rfl (lv_at hl 1 rfl) ?_
  refine lv_iload_n hx hb dX16_init_2 rfl (lv_at hl 2 rfl) ?_
  refine bq_cIN (n := 2) (bs := [[(h0, .inr (13, [.int 0, .int 0]))]]) (bc := [[(h0, .inr (13, [.int 0, .int 0]))]]) (br := []) (As := [.int x1, .int x2]) (rest := []) C (Nat.le_of_ble_eq_true rfl) (Nat.le_of_ble_eq_true rfl) (nw_X15_old hok hamb) (bq_pm [0] rfl rfl rfl) q1364 q1365 q149 q1366 rfl (by decide +kernel) (Nat.le_of_ble_eq_true rfl) (Nat.le_of_ble_eq_true rfl) rfl hl.1 rfl (Nat.le_of_ble_eq_true rfl) dX16_init_3 hP hD hS (fun o w hp_ H locs hP_ hD_ hS_ => ?_)
  clear hP hD hS
  obtain ⟨rfl, rfl⟩ := hp_
  have hP := hP_
  have hD := hD_
  have hS := hS_
  have hP : va_P D bqCl (List.flatten ([[(h0, .inr (13, [.int x1, .int x2]))]] : List va_W)) H := hP
  have hD : va_D A (List.flatten ([[(h0, .inr (13, [.int x1, .int x2]))]] : List va_W)) := hD
  exact bq_vretN C hr (Nat.le_of_ble_eq_true rfl) (Nat.le_of_ble_eq_true rfl) ⟨rfl, rfl⟩ hP hD hS dX16_init_6
set_option maxHeartbeats 4000000 in
theorem nw_X6 {l : Launch} {D : va_G} {am : bqAm} {X vE sE : Nat → Nat} {d : Nat → ClassId} {h0 : Nat} (hok : bq_Ok am) (hamb : bq_Amb am X vE sE) : bq_N l yX6_init cX6_init 1 none 1 20 4 72 D bqCl (bqTy d) am [.ref (h0)] (List.flatten ([[(h0, .inr (5, [.null, .null, .null, .int 0, .int 0, .int 0, .int 0, .int 0, .int 0, .null]))]] : List va_W)) (fun o w' => o = none ∧ ∃ a : Nat → Nat, a 0 = h0 ∧ w' = stB d a bqZ) := by
  refine bq_ofN hok (by decide +kernel) (Nat.le_of_ble_eq_true rfl) ?_
  intro p e s m below meth c A ls C hr hin hP hD hS hl
  have C0 := C
  obtain ⟨hx, hb, hown, hts, hml, hlocks, hA, hK, hm, hRf, hRl, hok⟩ := C
  have C := C0
  have hl : lv_has ls 1 [(0, .ref (h0))] := hl
  refine lv_aload_n hx hb dX6_init_0 rfl (lv_at hl 0 rfl) ?_
  refine bq_obj C q597 (Nat.le_of_ble_eq_true rfl) (Nat.le_of_ble_eq_true rfl) hl.1 (Nat.le_of_ble_eq_true rfl) dX6_init_1 ?_
  refine lv_aload_n hx hb dX6_init_4 rfl (lv_at hl 0 rfl) ?_
  refine lv_bipush (v := (30)) hx hb dX6_init_5 (by decide) ?_
  refine bq_newa (atype := .int) (t := 0) (N := 30) (ty := .int) (bs := [[(h0, .inr (5, [.null, .null, .null, .int 0, .int 0, .int 0, .int 0, .int 0, .int 0, .null]))]]) hx hb (hts _ q254) rfl rfl hK hP hD hS hA (fun _ => rfl) (by decide) (by decide) (by decide) (Nat.le_of_ble_eq_true rfl) (Nat.le_of_ble_eq_true rfl) dX6_init_7 (fun q1 H hP hD hS => ?_)
  refine va_putF (D := D) (ci := 5) (C := RX6) (T := TX6) (N := 10) (ref := "BlueBag$State") (fs := [.null, .null, .null, .int 0, .int 0, .int 0, .int 0, .int 0, .int 0, .null]) (ty := _) hx hb hts in_X6 tyX6 tyX6_ok nmX6 hown hK hP hD hS 1 rfl rfl 0 (Nat.le_of_ble_eq_true rfl) (hts _ q598) (fun x h => h) rfl hin rfl rfl rfl rfl (Nat.le_of_ble_eq_true rfl) dX6_init_9 (fun H locs hP hD hS => ?_)
  have hP : va_P D bqCl (List.flatten ([[(q1, .inl (d 0, 30, .inl fun _ => 0))], [(h0, .inr (5, [.ref (q1), .null, .null, .int 0, .int 0, .int 0, .int 0, .int 0, .int 0, .null]))]] : List va_W)) H := hP
  have hD : va_D A (List.flatten ([[(q1, .inl (d 0, 30, .inl fun _ => 0))], [(h0, .inr (5, [.ref (q1), .null, .null, .int 0, .int 0, .int 0, .int 0, .int 0, .int 0, .null]))]] : List va_W)) := hD
  refine lv_aload_n hx hb dX6_init_12 rfl (lv_at hl 0 rfl) ?_
  refine lv_bipush (v := (6)) hx hb dX6_init_13 (by decide) ?_
  refine bq_newa (atype := .int) (t := 0) (N := 6) (ty := .int) (bs := [[(q1, .inl (d 0, 30, .inl fun _ => 0))], [(h0, .inr (5, [.ref (q1), .null, .null, .int 0, .int 0, .int 0, .int 0, .int 0, .int 0, .null]))]]) hx hb (hts _ q254) rfl rfl hK hP hD hS hA (fun _ => rfl) (by decide) (by decide) (by decide) (Nat.le_of_ble_eq_true rfl) (Nat.le_of_ble_eq_true rfl) dX6_init_15 (fun q2 H hP hD hS => ?_)
  refine va_putF (D := D) (ci := 5) (C := RX6) (T := TX6) (N := 10) (ref := "BlueBag$State") (fs := [.ref (q1), .null, .null, .int 0, .int 0, .int 0, .int 0, .int 0, .int 0, .null]) (ty := _) hx hb hts in_X6 tyX6 tyX6_ok nmX6 hown hK hP hD hS 2 rfl rfl 1 (Nat.le_of_ble_eq_true rfl) (hts _ q600) (fun x h => h) rfl hin rfl rfl rfl rfl (Nat.le_of_ble_eq_true rfl) dX6_init_17 (fun H locs hP hD hS => ?_)
  have hP : va_P D bqCl (List.flatten ([[(q2, .inl (d 0, 6, .inl fun _ => 0))], [(q1, .inl (d 0, 30, .inl fun _ => 0))], [(h0, .inr (5, [.ref (q1), .ref (q2), .null, .int 0, .int 0, .int 0, .int 0, .int 0, .int 0, .null]))]] : List va_W)) H := hP
  have hD : va_D A (List.flatten ([[(q2, .inl (d 0, 6, .inl fun _ => 0))], [(q1, .inl (d 0, 30, .inl fun _ => 0))], [(h0, .inr (5, [.ref (q1), .ref (q2), .null, .int 0, .int 0, .int 0, .int 0, .int 0, .int 0, .null]))]] : List va_W)) := hD
  refine lv_aload_n hx hb dX6_init_20 rfl (lv_at hl 0 rfl) ?_
  refine lv_bipush (v := (6)) hx hb dX6_init_21 (by decide) ?_
  refine bq_newa (atype := .int) (t := 0) (N := 6) (ty := .int) (bs := [[(q2, .inl (d 0, 6, .inl fun _ => 0))], [(q1, .inl (d 0, 30, .inl fun _ => 0))], [(h0, .inr (5, [.ref (q1), .ref (q2), .null, .int 0, .int 0, .int 0, .int 0, .int 0, .int 0, .null]))]]) hx hb (hts _ q254) rfl rfl hK hP hD hS hA (fun _ => rfl) (by decide) (by decide) (by decide) (Nat.le_of_ble_eq_true rfl) (Nat.le_of_ble_eq_true rfl) dX6_init_23 (fun q3 H hP hD hS => ?_)
  refine va_putF (D := D) (ci := 5) (C := RX6) (T := TX6) (N := 10) (ref := "BlueBag$State") (fs := [.ref (q1), .ref (q2), .null, .int 0, .int 0, .int 0, .int 0, .int 0, .int 0, .null]) (ty := _) hx hb hts in_X6 tyX6 tyX6_ok nmX6 hown hK hP hD hS 3 rfl rfl 2 (Nat.le_of_ble_eq_true rfl) (hts _ q602) (fun x h => h) rfl hin rfl rfl rfl rfl (Nat.le_of_ble_eq_true rfl) dX6_init_25 (fun H locs hP hD hS => ?_)
  have hP : va_P D bqCl (List.flatten ([[(q3, .inl (d 0, 6, .inl fun _ => 0))], [(q2, .inl (d 0, 6, .inl fun _ => 0))], [(q1, .inl (d 0, 30, .inl fun _ => 0))], [(h0, .inr (5, [.ref (q1), .ref (q2), .ref (q3), .int 0, .int 0, .int 0, .int 0, .int 0, .int 0, .null]))]] : List va_W)) H := hP
  have hD : va_D A (List.flatten ([[(q3, .inl (d 0, 6, .inl fun _ => 0))], [(q2, .inl (d 0, 6, .inl fun _ => 0))], [(q1, .inl (d 0, 30, .inl fun _ => 0))], [(h0, .inr (5, [.ref (q1), .ref (q2), .ref (q3), .int 0, .int 0, .int 0, .int 0, .int 0, .int 0, .null]))]] : List va_W)) := hD
  refine lv_aload_n hx hb dX6_init_28 rfl (lv_at hl 0 rfl) ?_
  refine lv_bipush (v := (30)) hx hb dX6_init_29 (by decide) ?_
  refine bq_newa (atype := .int) (t := 0) (N := 30) (ty := .int) (bs := [[(q3, .inl (d 0, 6, .inl fun _ => 0))], [(q2, .inl (d 0, 6, .inl fun _ => 0))], [(q1, .inl (d 0, 30, .inl fun _ => 0))], [(h0, .inr (5, [.ref (q1), .ref (q2), .ref (q3), .int 0, .int 0, .int 0, .int 0, .int 0, .int 0, .null]))]]) hx hb (hts _ q254) rfl rfl hK hP hD hS hA (fun _ => rfl) (by decide) (by decide) (by decide) (Nat.le_of_ble_eq_true rfl) (Nat.le_of_ble_eq_true rfl) dX6_init_31 (fun q4 H hP hD hS => ?_)
  refine va_putF (D := D) (ci := 5) (C := RX6) (T := TX6) (N := 10) (ref := "BlueBag$State") (fs := [.ref (q1), .ref (q2), .ref (q3), .int 0, .int 0, .int 0, .int 0, .int 0, .int 0, .null]) (ty := _) hx hb hts in_X6 tyX6 tyX6_ok nmX6 hown hK hP hD hS 4 rfl rfl 9 (Nat.le_of_ble_eq_true rfl) (hts _ q616) (fun x h => h) rfl hin rfl rfl rfl rfl (Nat.le_of_ble_eq_true rfl) dX6_init_33 (fun H locs hP hD hS => ?_)
  have hP : va_P D bqCl (List.flatten ([[(q4, .inl (d 0, 30, .inl fun _ => 0))], [(q3, .inl (d 0, 6, .inl fun _ => 0))], [(q2, .inl (d 0, 6, .inl fun _ => 0))], [(q1, .inl (d 0, 30, .inl fun _ => 0))], [(h0, .inr (5, [.ref (q1), .ref (q2), .ref (q3), .int 0, .int 0, .int 0, .int 0, .int 0, .int 0, .ref (q4)]))]] : List va_W)) H := hP
  have hD : va_D A (List.flatten ([[(q4, .inl (d 0, 30, .inl fun _ => 0))], [(q3, .inl (d 0, 6, .inl fun _ => 0))], [(q2, .inl (d 0, 6, .inl fun _ => 0))], [(q1, .inl (d 0, 30, .inl fun _ => 0))], [(h0, .inr (5, [.ref (q1), .ref (q2), .ref (q3), .int 0, .int 0, .int 0, .int 0, .int 0, .int 0, .ref (q4)]))]] : List va_W)) := hD
  have hpp := bq_flat (bq_pm (bs := [[(q4, .inl (d 0, 30, .inl fun _ => 0))], [(q3, .inl (d 0, 6, .inl fun _ => 0))], [(q2, .inl (d 0, 6, .inl fun _ => 0))], [(q1, .inl (d 0, 30, .inl fun _ => 0))], [(h0, .inr (5, [.ref (q1), .ref (q2), .ref (q3), .int 0, .int 0, .int 0, .int 0, .int 0, .int 0, .ref (q4)]))]]) (cs := [[(h0, .inr (5, [.ref (q1), .ref (q2), .ref (q3), .int 0, .int 0, .int 0, .int 0, .int 0, .int 0, .ref (q4)]))], [(q1, .inl (d 0, 30, .inl fun _ => 0))], [(q2, .inl (d 0, 6, .inl fun _ => 0))], [(q3, .inl (d 0, 6, .inl fun _ => 0))], [(q4, .inl (d 0, 30, .inl fun _ => 0))]]) [4, 3, 2, 1, 0] rfl rfl rfl)
  have hP := bq_Pp hpp hP
  have hD := bq_Dp hpp hD
  exact bq_vretN C hr (Nat.le_of_ble_eq_true rfl) (Nat.le_of_ble_eq_true rfl) ⟨rfl, (fun k => match k with | 0 => h0 | 1 => q1 | 2 => q2 | 3 => q3 | 4 => q4 | _ => 0), rfl, rfl⟩ hP hD hS dX6_init_36
set_option maxHeartbeats 4000000 in
theorem nw_J0 {l : Launch} {D : va_G} {am : bqAm} {X vE sE : Nat → Nat} {d : Nat → ClassId} {h0 : Nat} (hok : bq_Ok am) (hamb : bq_Amb am X vE sE) : bq_N l yJ0_init cJ0_init 1 none 1 20 0 0 D bqCl (bqTy d) am [.ref (h0)] (List.flatten ([[(h0, .inr (14, [.int 0, .null, .int 0]))]] : List va_W)) (fun o w' => o = none ∧ w' = (List.flatten ([[(h0, .inr (14, [.int 0, .null, .int 0]))]] : List va_W))) := by
  refine bq_ofN hok (by decide +kernel) (Nat.le_of_ble_eq_true rfl) ?_
  intro p e s m below meth c A ls C hr hin hP hD hS hl
  have C0 := C
  obtain ⟨hx, hb, hown, hts, hml, hlocks, hA, hK, hm, hRf, hRl, hok⟩ := C
  have C := C0
  have hl : lv_has ls 1 [(0, .ref (h0))] := hl
  refine lv_aload_n hx hb dJ0_init_0 rfl (lv_at hl 0 rfl) ?_
  refine bq_obj C q177 (Nat.le_of_ble_eq_true rfl) (Nat.le_of_ble_eq_true rfl) hl.1 (Nat.le_of_ble_eq_true rfl) dJ0_init_1 ?_
  exact bq_vretN C hr (Nat.le_of_ble_eq_true rfl) (Nat.le_of_ble_eq_true rfl) ⟨rfl, rfl⟩ hP hD hS dJ0_init_4
set_option maxHeartbeats 4000000 in
theorem nw_J1 {l : Launch} {D : va_G} {am : bqAm} {X vE sE : Nat → Nat} {d : Nat → ClassId} {h0 : Nat} (hok : bq_Ok am) (hamb : bq_Amb am X vE sE) : bq_N l yJ1_init cJ1_init 1 none 2 40 0 0 D bqCl (bqTy d) am [.ref (h0)] (List.flatten ([[(h0, .inr (14, [.int 0, .null, .int 0]))]] : List va_W)) (fun o w' => o = none ∧ w' = (List.flatten ([[(h0, .inr (14, [.int (0), .null, .int 0]))]] : List va_W))) := by
  refine bq_ofN hok (by decide +kernel) (Nat.le_of_ble_eq_true rfl) ?_
  intro p e s m below meth c A ls C hr hin hP hD hS hl
  have C0 := C
  obtain ⟨hx, hb, hown, hts, hml, hlocks, hA, hK, hm, hRf, hRl, hok⟩ := C
  have C := C0
  have hl : lv_has ls 1 [(0, .ref (h0))] := hl
  refine lv_aload_n hx hb dJ1_init_0 rfl (lv_at hl 0 rfl) ?_
  refine bq_cIN (n := 0) (bs := [[(h0, .inr (14, [.int 0, .null, .int 0]))]]) (bc := [[(h0, .inr (14, [.int 0, .null, .int 0]))]]) (br := []) (As := []) (rest := []) C (Nat.le_of_ble_eq_true rfl) (Nat.le_of_ble_eq_true rfl) (nw_J0 hok hamb) (bq_pm [0] rfl rfl rfl) q174 q175 q115 q176 rfl (by decide +kernel) (Nat.le_of_ble_eq_true rfl) (Nat.le_of_ble_eq_true rfl) rfl hl.1 rfl (Nat.le_of_ble_eq_true rfl) dJ1_init_1 hP hD hS (fun o w hp_ H locs hP_ hD_ hS_ => ?_)
  clear hP hD hS
  obtain ⟨rfl, rfl⟩ := hp_
  have hP := hP_
  have hD := hD_
  have hS := hS_
  have hP : va_P D bqCl (List.flatten ([[(h0, .inr (14, [.int 0, .null, .int 0]))]] : List va_W)) H := hP
  have hD : va_D A (List.flatten ([[(h0, .inr (14, [.int 0, .null, .int 0]))]] : List va_W)) := hD
  refine lv_aload_n hx hb dJ1_init_4 rfl (lv_at hl 0 rfl) ?_
  refine lv_iconst (v := (0)) hx hb dJ1_init_5 (by decide) ?_
  refine va_put (D := D) (ci := 14) (C := RJ2) (T := TJ2) (N := 3) (ref := "java/util/AbstractList") (fs := [.int 0, .null, .int 0]) (ty := .int) hx hb hts in_J2 tyJ2 tyJ2_ok nmJ2 hown hK hP hD hS 0 rfl rfl 0 (Nat.le_of_ble_eq_true rfl) (hts _ q497) (fun x h => h) rfl rfl rfl rfl (Nat.le_of_ble_eq_true rfl) dJ1_init_6 (fun H locs hP hD hS => ?_)
  have hP : va_P D bqCl (List.flatten ([[(h0, .inr (14, [.int (0), .null, .int 0]))]] : List va_W)) H := hP
  have hD : va_D A (List.flatten ([[(h0, .inr (14, [.int (0), .null, .int 0]))]] : List va_W)) := hD
  exact bq_vretN C hr (Nat.le_of_ble_eq_true rfl) (Nat.le_of_ble_eq_true rfl) ⟨rfl, rfl⟩ hP hD hS dJ1_init_9
set_option maxHeartbeats 4000000 in
theorem nw_J2_40 {l : Launch} {D : va_G} {am : bqAm} {X vE sE : Nat → Nat} {d : Nat → ClassId} {h0 : Nat} (hok : bq_Ok am) (hamb : bq_Amb am X vE sE) : bq_N l yJ2_init cJ2_init 2 none 3 60 1 40 D bqCl (bqTy d) am [.ref (h0), .int (40)] (List.flatten ([[(h0, .inr (14, [.int 0, .null, .int 0]))]] : List va_W)) (fun o w' => o = none ∧ ∃ b1 : Nat, w' = alB d h0 b1 0 0 40 (fun _ => none)) := by
  refine bq_ofN hok (by decide +kernel) (Nat.le_of_ble_eq_true rfl) ?_
  intro p e s m below meth c A ls C hr hin hP hD hS hl
  have C0 := C
  obtain ⟨hx, hb, hown, hts, hml, hlocks, hA, hK, hm, hRf, hRl, hok⟩ := C
  have C := C0
  have hl : lv_has ls 2 [(0, .ref (h0)), (1, .int (40))] := hl
  refine lv_aload_n hx hb dJ2_init_0 rfl (lv_at hl 0 rfl) ?_
  refine bq_cIN (n := 0) (bs := [[(h0, .inr (14, [.int 0, .null, .int 0]))]]) (bc := [[(h0, .inr (14, [.int 0, .null, .int 0]))]]) (br := []) (As := []) (rest := []) C (Nat.le_of_ble_eq_true rfl) (Nat.le_of_ble_eq_true rfl) (nw_J1 hok hamb) (bq_pm [0] rfl rfl rfl) q171 q172 q116 q173 rfl (by decide +kernel) (Nat.le_of_ble_eq_true rfl) (Nat.le_of_ble_eq_true rfl) rfl hl.1 rfl (Nat.le_of_ble_eq_true rfl) dJ2_init_1 hP hD hS (fun o w hp_ H locs hP_ hD_ hS_ => ?_)
  clear hP hD hS
  obtain ⟨rfl, rfl⟩ := hp_
  have hP := hP_
  have hD := hD_
  have hS := hS_
  have hP : va_P D bqCl (List.flatten ([[(h0, .inr (14, [.int (0), .null, .int 0]))]] : List va_W)) H := hP
  have hD : va_D A (List.flatten ([[(h0, .inr (14, [.int (0), .null, .int 0]))]] : List va_W)) := hD
  refine lv_iload_n hx hb dJ2_init_4 rfl (lv_at hl 1 rfl) ?_
  refine lv_if_le (tgt := 19) hx hb dJ2_init_5 (by decide) (fun c1 => absurd c1 (by decide)) (fun _ => ?_)
  refine lv_aload_n hx hb dJ2_init_8 rfl (lv_at hl 0 rfl) ?_
  refine lv_iload_n hx hb dJ2_init_9 rfl (lv_at hl 1 rfl) ?_
  refine bq_newq (n := 40) (C := "java/lang/Object") (t := 5) (N := 40) (bs := [[(h0, .inr (14, [.int (0), .null, .int 0]))]]) hx hb hown (hts _ q178) (bq_ao hamb hm (by decide +kernel)) rfl hK hP hD hS hA (by decide) (by decide) (by decide) (Nat.le_of_ble_eq_true rfl) (Nat.le_of_ble_eq_true rfl) dJ2_init_10 (fun q1 H hP hD hS => ?_)
  refine va_put (D := D) (ci := 14) (C := RJ2) (T := TJ2) (N := 3) (ref := "java/util/ArrayList") (fs := [.int (0), .null, .int 0]) (ty := _) hx hb hts in_J2 tyJ2 tyJ2_ok nmJ2 hown hK hP hD hS 1 rfl rfl 1 (Nat.le_of_ble_eq_true rfl) (hts _ q495) (fun x h => h) rfl rfl rfl rfl (Nat.le_of_ble_eq_true rfl) dJ2_init_13 (fun H locs hP hD hS => ?_)
  have hP : va_P D bqCl (List.flatten ([[(q1, .inl (d 5, 40, .inr (.inr (.inr (.inr fun _ => none)))))], [(h0, .inr (14, [.int (0), .ref (q1), .int 0]))]] : List va_W)) H := hP
  have hD : va_D A (List.flatten ([[(q1, .inl (d 5, 40, .inr (.inr (.inr (.inr fun _ => none)))))], [(h0, .inr (14, [.int (0), .ref (q1), .int 0]))]] : List va_W)) := hD
  refine lv_goto (tgt := 60) hx hb dJ2_init_16 (by decide) ?_
  have hpp := bq_flat (bq_pm (bs := [[(q1, .inl (d 5, 40, .inr (.inr (.inr (.inr fun _ => none)))))], [(h0, .inr (14, [.int (0), .ref (q1), .int 0]))]]) (cs := [[(h0, .inr (14, [.int (0), .ref (q1), .int 0]))], [(q1, .inl (d 5, 40, .inr (.inr (.inr (.inr fun _ => none)))))]]) [1, 0] rfl rfl rfl)
  exact bq_vretN C hr (Nat.le_of_ble_eq_true rfl) (Nat.le_of_ble_eq_true rfl) ⟨rfl, q1, rfl⟩ (bq_Pp hpp hP) (bq_Dp hpp hD) hS dJ2_init_60
set_option maxHeartbeats 4000000 in
theorem nw_J2_1 {l : Launch} {D : va_G} {am : bqAm} {X vE sE : Nat → Nat} {d : Nat → ClassId} {h0 : Nat} (hok : bq_Ok am) (hamb : bq_Amb am X vE sE) : bq_N l yJ2_init cJ2_init 2 none 3 60 1 1 D bqCl (bqTy d) am [.ref (h0), .int (1)] (List.flatten ([[(h0, .inr (14, [.int 0, .null, .int 0]))]] : List va_W)) (fun o w' => o = none ∧ ∃ b1 : Nat, w' = alB d h0 b1 0 0 1 (fun _ => none)) := by
  refine bq_ofN hok (by decide +kernel) (Nat.le_of_ble_eq_true rfl) ?_
  intro p e s m below meth c A ls C hr hin hP hD hS hl
  have C0 := C
  obtain ⟨hx, hb, hown, hts, hml, hlocks, hA, hK, hm, hRf, hRl, hok⟩ := C
  have C := C0
  have hl : lv_has ls 2 [(0, .ref (h0)), (1, .int (1))] := hl
  refine lv_aload_n hx hb dJ2_init_0 rfl (lv_at hl 0 rfl) ?_
  refine bq_cIN (n := 0) (bs := [[(h0, .inr (14, [.int 0, .null, .int 0]))]]) (bc := [[(h0, .inr (14, [.int 0, .null, .int 0]))]]) (br := []) (As := []) (rest := []) C (Nat.le_of_ble_eq_true rfl) (Nat.le_of_ble_eq_true rfl) (nw_J1 hok hamb) (bq_pm [0] rfl rfl rfl) q171 q172 q116 q173 rfl (by decide +kernel) (Nat.le_of_ble_eq_true rfl) (Nat.le_of_ble_eq_true rfl) rfl hl.1 rfl (Nat.le_of_ble_eq_true rfl) dJ2_init_1 hP hD hS (fun o w hp_ H locs hP_ hD_ hS_ => ?_)
  clear hP hD hS
  obtain ⟨rfl, rfl⟩ := hp_
  have hP := hP_
  have hD := hD_
  have hS := hS_
  have hP : va_P D bqCl (List.flatten ([[(h0, .inr (14, [.int (0), .null, .int 0]))]] : List va_W)) H := hP
  have hD : va_D A (List.flatten ([[(h0, .inr (14, [.int (0), .null, .int 0]))]] : List va_W)) := hD
  refine lv_iload_n hx hb dJ2_init_4 rfl (lv_at hl 1 rfl) ?_
  refine lv_if_le (tgt := 19) hx hb dJ2_init_5 (by decide) (fun c1 => absurd c1 (by decide)) (fun _ => ?_)
  refine lv_aload_n hx hb dJ2_init_8 rfl (lv_at hl 0 rfl) ?_
  refine lv_iload_n hx hb dJ2_init_9 rfl (lv_at hl 1 rfl) ?_
  refine bq_newq (n := 1) (C := "java/lang/Object") (t := 5) (N := 1) (bs := [[(h0, .inr (14, [.int (0), .null, .int 0]))]]) hx hb hown (hts _ q178) (bq_ao hamb hm (by decide +kernel)) rfl hK hP hD hS hA (by decide) (by decide) (by decide) (Nat.le_of_ble_eq_true rfl) (Nat.le_of_ble_eq_true rfl) dJ2_init_10 (fun q1 H hP hD hS => ?_)
  refine va_put (D := D) (ci := 14) (C := RJ2) (T := TJ2) (N := 3) (ref := "java/util/ArrayList") (fs := [.int (0), .null, .int 0]) (ty := _) hx hb hts in_J2 tyJ2 tyJ2_ok nmJ2 hown hK hP hD hS 1 rfl rfl 1 (Nat.le_of_ble_eq_true rfl) (hts _ q495) (fun x h => h) rfl rfl rfl rfl (Nat.le_of_ble_eq_true rfl) dJ2_init_13 (fun H locs hP hD hS => ?_)
  have hP : va_P D bqCl (List.flatten ([[(q1, .inl (d 5, 1, .inr (.inr (.inr (.inr fun _ => none)))))], [(h0, .inr (14, [.int (0), .ref (q1), .int 0]))]] : List va_W)) H := hP
  have hD : va_D A (List.flatten ([[(q1, .inl (d 5, 1, .inr (.inr (.inr (.inr fun _ => none)))))], [(h0, .inr (14, [.int (0), .ref (q1), .int 0]))]] : List va_W)) := hD
  refine lv_goto (tgt := 60) hx hb dJ2_init_16 (by decide) ?_
  have hpp := bq_flat (bq_pm (bs := [[(q1, .inl (d 5, 1, .inr (.inr (.inr (.inr fun _ => none)))))], [(h0, .inr (14, [.int (0), .ref (q1), .int 0]))]]) (cs := [[(h0, .inr (14, [.int (0), .ref (q1), .int 0]))], [(q1, .inl (d 5, 1, .inr (.inr (.inr (.inr fun _ => none)))))]]) [1, 0] rfl rfl rfl)
  exact bq_vretN C hr (Nat.le_of_ble_eq_true rfl) (Nat.le_of_ble_eq_true rfl) ⟨rfl, q1, rfl⟩ (bq_Pp hpp hP) (bq_Dp hpp hD) hS dJ2_init_60
set_option maxHeartbeats 4000000 in
theorem nw_X3 {l : Launch} {D : va_G} {am : bqAm} {X vE sE : Nat → Nat} {d : Nat → ClassId} {h0 : Nat} (hok : bq_Ok am) (hamb : bq_Amb am X vE sE) : bq_N l yX3_init cX3_init 1 none 2 49 2 12 D bqCl (bqTy d) am [.ref (h0)] (List.flatten ([[(h0, .inr (3, [.null]))]] : List va_W)) (fun o w' => o = none ∧ ∃ a : Nat → Nat, a 4 = h0 ∧ w' = viB d a bqZ) := by
  refine bq_ofN hok (by decide +kernel) (Nat.le_of_ble_eq_true rfl) ?_
  intro p e s m below meth c A ls C hr hin hP hD hS hl
  have C0 := C
  obtain ⟨hx, hb, hown, hts, hml, hlocks, hA, hK, hm, hRf, hRl, hok⟩ := C
  have C := C0
  have hl : lv_has ls 1 [(0, .ref (h0))] := hl
  refine lv_aload_n hx hb dX3_init_0 rfl (lv_at hl 0 rfl) ?_
  refine bq_obj C q512 (Nat.le_of_ble_eq_true rfl) (Nat.le_of_ble_eq_true rfl) hl.1 (Nat.le_of_ble_eq_true rfl) dX3_init_1 ?_
  refine lv_aload_n hx hb dX3_init_4 rfl (lv_at hl 0 rfl) ?_
  refine bq_cSN (n := 0) (bs := [[(h0, .inr (3, [.null]))]]) (bc := []) (br := [[(h0, .inr (3, [.null]))]]) (As := []) (rest := [.ref (h0)]) C (Nat.le_of_ble_eq_true rfl) (Nat.le_of_ble_eq_true rfl) (nw_values hok hamb) (List.Perm.refl _) (lw_S q513 q514 q136 q515) (by decide +kernel) (Nat.le_of_ble_eq_true rfl) (Nat.le_of_ble_eq_true rfl) rfl hl.1 rfl (Nat.le_of_ble_eq_true rfl) dX3_init_5 hP hD hS (fun o w hp_ H locs hP hD hS => ?_)
  obtain ⟨q1, rfl, rfl⟩ := hp_
  have hP : va_P D bqCl (List.flatten ([vlA vE d q1, [(h0, .inr (3, [.null]))]] : List va_W)) H := hP
  have hD : va_D A (List.flatten ([vlA vE d q1, [(h0, .inr (3, [.null]))]] : List va_W)) := hD
  refine va_alen (v := (6)) hx hb hK hP 0 6 rfl rfl rfl dX3_init_8 ?_
  refine bq_newa (atype := .int) (t := 0) (N := 6) (ty := .int) (bs := [vlA vE d q1, [(h0, .inr (3, [.null]))]]) hx hb (hts _ q254) rfl rfl hK hP hD hS hA (fun _ => rfl) (by decide) (by decide) (by decide) (Nat.le_of_ble_eq_true rfl) (Nat.le_of_ble_eq_true rfl) dX3_init_9 (fun q2 H hP hD hS => ?_)
  refine va_putF (D := D) (ci := 3) (C := RX3) (T := TX3) (N := 1) (ref := "BlueBag$View") (fs := [.null]) (ty := _) hx hb hts in_X3 tyX3 tyX3_ok nmX3 hown hK hP hD hS 2 rfl rfl 0 (Nat.le_of_ble_eq_true rfl) (hts _ q524) (fun x h => h) rfl hin rfl rfl rfl rfl (Nat.le_of_ble_eq_true rfl) dX3_init_11 (fun H locs hP hD hS => ?_)
  have hP : va_P D bqCl (List.flatten ([[(q2, .inl (d 0, 6, .inl fun _ => 0))], vlA vE d q1, [(h0, .inr (3, [.ref (q2)]))]] : List va_W)) H := hP
  have hD : va_D A (List.flatten ([[(q2, .inl (d 0, 6, .inl fun _ => 0))], vlA vE d q1, [(h0, .inr (3, [.ref (q2)]))]] : List va_W)) := hD
  have hpp := bq_flat (bq_pm (bs := [[(q2, .inl (d 0, 6, .inl fun _ => 0))], vlA vE d q1, [(h0, .inr (3, [.ref (q2)]))]]) (cs := [[(h0, .inr (3, [.ref (q2)]))], [(q2, .inl (d 0, 6, .inl fun _ => 0))], vlA vE d q1]) [2, 0, 1] rfl rfl rfl)
  have hP := bq_Pp hpp hP
  have hD := bq_Dp hpp hD
  have hP := bq_PL (a := (List.flatten ([[(h0, .inr (3, [.ref (q2)]))], [(q2, .inl (d 0, 6, .inl fun _ => 0))]] : List va_W))) (b := (List.flatten ([vlA vE d q1] : List va_W))) hP
  have hD := bq_DL (a := (List.flatten ([[(h0, .inr (3, [.ref (q2)]))], [(q2, .inl (d 0, 6, .inl fun _ => 0))]] : List va_W))) (b := (List.flatten ([vlA vE d q1] : List va_W))) hD
  exact bq_vretN C hr (Nat.le_of_ble_eq_true rfl) (Nat.le_of_ble_eq_true rfl) ⟨rfl, (fun k => match k with | 4 => h0 | 5 => q2 | _ => 0), rfl, rfl⟩ hP hD hS dX3_init_14
set_option maxHeartbeats 4000000 in
theorem nw_X2 {l : Launch} {D : va_G} {am : bqAm} {X vE sE : Nat → Nat} {d : Nat → ClassId} {h0 : Nat} (hok : bq_Ok am) (hamb : bq_Amb am X vE sE) : bq_N l yX2_init cX2_init 1 none 4 81 6 47 D bqCl (bqTy d) am [.ref (h0)] (List.flatten ([[(h0, .inr (2, [.int 0, .int 0, .int 0, .int 0, .int 0, .int 0, .null, .null, .null, .null, .null]))]] : List va_W)) (fun o w' => o = none ∧ ∃ a : Nat → Nat, a 0 = h0 ∧ w' = coB d a none none bqK0 ++ (alB d (a 2) (a 3) 0 0 1 (fun _ => none) ++ viB d a bqZ)) := by
  refine bq_ofN hok (by decide +kernel) (Nat.le_of_ble_eq_true rfl) ?_
  intro p e s m below meth c A ls C hr hin hP hD hS hl
  have C0 := C
  obtain ⟨hx, hb, hown, hts, hml, hlocks, hA, hK, hm, hRf, hRl, hok⟩ := C
  have C := C0
  have hl : lv_has ls 1 [(0, .ref (h0))] := hl
  refine lv_aload_n hx hb dX2_init_0 rfl (lv_at hl 0 rfl) ?_
  refine bq_obj C q165 (Nat.le_of_ble_eq_true rfl) (Nat.le_of_ble_eq_true rfl) hl.1 (Nat.le_of_ble_eq_true rfl) dX2_init_1 ?_
  refine lv_aload_n hx hb dX2_init_4 rfl (lv_at hl 0 rfl) ?_
  refine lv_iconst (v := (3)) hx hb dX2_init_5 (by decide) ?_
  refine va_put (D := D) (ci := 2) (C := RX2) (T := TX2) (N := 11) (ref := "BlueBag$Coast") (fs := [.int 0, .int 0, .int 0, .int 0, .int 0, .int 0, .null, .null, .null, .null, .null]) (ty := .int) hx hb hts in_X2 tyX2 tyX2_ok nmX2 hown hK hP hD hS 0 rfl rfl 0 (Nat.le_of_ble_eq_true rfl) (hts _ q529) (fun x h => h) rfl rfl rfl rfl (Nat.le_of_ble_eq_true rfl) dX2_init_6 (fun H locs hP hD hS => ?_)
  have hP : va_P D bqCl (List.flatten ([[(h0, .inr (2, [.int (3), .int 0, .int 0, .int 0, .int 0, .int 0, .null, .null, .null, .null, .null]))]] : List va_W)) H := hP
  have hD : va_D A (List.flatten ([[(h0, .inr (2, [.int (3), .int 0, .int 0, .int 0, .int 0, .int 0, .null, .null, .null, .null, .null]))]] : List va_W)) := hD
  refine lv_aload_n hx hb dX2_init_9 rfl (lv_at hl 0 rfl) ?_
  refine lv_iconst (v := (3)) hx hb dX2_init_10 (by decide) ?_
  refine va_put (D := D) (ci := 2) (C := RX2) (T := TX2) (N := 11) (ref := "BlueBag$Coast") (fs := [.int (3), .int 0, .int 0, .int 0, .int 0, .int 0, .null, .null, .null, .null, .null]) (ty := .int) hx hb hts in_X2 tyX2 tyX2_ok nmX2 hown hK hP hD hS 0 rfl rfl 1 (Nat.le_of_ble_eq_true rfl) (hts _ q534) (fun x h => h) rfl rfl rfl rfl (Nat.le_of_ble_eq_true rfl) dX2_init_11 (fun H locs hP hD hS => ?_)
  have hP : va_P D bqCl (List.flatten ([[(h0, .inr (2, [.int (3), .int (3), .int 0, .int 0, .int 0, .int 0, .null, .null, .null, .null, .null]))]] : List va_W)) H := hP
  have hD : va_D A (List.flatten ([[(h0, .inr (2, [.int (3), .int (3), .int 0, .int 0, .int 0, .int 0, .null, .null, .null, .null, .null]))]] : List va_W)) := hD
  refine lv_aload_n hx hb dX2_init_14 rfl (lv_at hl 0 rfl) ?_
  refine lv_bipush (v := (20)) hx hb dX2_init_15 (by decide) ?_
  refine va_put (D := D) (ci := 2) (C := RX2) (T := TX2) (N := 11) (ref := "BlueBag$Coast") (fs := [.int (3), .int (3), .int 0, .int 0, .int 0, .int 0, .null, .null, .null, .null, .null]) (ty := .int) hx hb hts in_X2 tyX2 tyX2_ok nmX2 hown hK hP hD hS 0 rfl rfl 2 (Nat.le_of_ble_eq_true rfl) (hts _ q537) (fun x h => h) rfl rfl rfl rfl (Nat.le_of_ble_eq_true rfl) dX2_init_17 (fun H locs hP hD hS => ?_)
  have hP : va_P D bqCl (List.flatten ([[(h0, .inr (2, [.int (3), .int (3), .int (20), .int 0, .int 0, .int 0, .null, .null, .null, .null, .null]))]] : List va_W)) H := hP
  have hD : va_D A (List.flatten ([[(h0, .inr (2, [.int (3), .int (3), .int (20), .int 0, .int 0, .int 0, .null, .null, .null, .null, .null]))]] : List va_W)) := hD
  refine lv_aload_n hx hb dX2_init_20 rfl (lv_at hl 0 rfl) ?_
  refine lv_iconst (v := (2)) hx hb dX2_init_21 (by decide) ?_
  refine va_put (D := D) (ci := 2) (C := RX2) (T := TX2) (N := 11) (ref := "BlueBag$Coast") (fs := [.int (3), .int (3), .int (20), .int 0, .int 0, .int 0, .null, .null, .null, .null, .null]) (ty := .int) hx hb hts in_X2 tyX2 tyX2_ok nmX2 hown hK hP hD hS 0 rfl rfl 3 (Nat.le_of_ble_eq_true rfl) (hts _ q540) (fun x h => h) rfl rfl rfl rfl (Nat.le_of_ble_eq_true rfl) dX2_init_22 (fun H locs hP hD hS => ?_)
  have hP : va_P D bqCl (List.flatten ([[(h0, .inr (2, [.int (3), .int (3), .int (20), .int (2), .int 0, .int 0, .null, .null, .null, .null, .null]))]] : List va_W)) H := hP
  have hD : va_D A (List.flatten ([[(h0, .inr (2, [.int (3), .int (3), .int (20), .int (2), .int 0, .int 0, .null, .null, .null, .null, .null]))]] : List va_W)) := hD
  refine lv_aload_n hx hb dX2_init_25 rfl (lv_at hl 0 rfl) ?_
  refine lv_bipush (v := (60)) hx hb dX2_init_26 (by decide) ?_
  refine va_put (D := D) (ci := 2) (C := RX2) (T := TX2) (N := 11) (ref := "BlueBag$Coast") (fs := [.int (3), .int (3), .int (20), .int (2), .int 0, .int 0, .null, .null, .null, .null, .null]) (ty := .int) hx hb hts in_X2 tyX2 tyX2_ok nmX2 hown hK hP hD hS 0 rfl rfl 4 (Nat.le_of_ble_eq_true rfl) (hts _ q544) (fun x h => h) rfl rfl rfl rfl (Nat.le_of_ble_eq_true rfl) dX2_init_28 (fun H locs hP hD hS => ?_)
  have hP : va_P D bqCl (List.flatten ([[(h0, .inr (2, [.int (3), .int (3), .int (20), .int (2), .int (60), .int 0, .null, .null, .null, .null, .null]))]] : List va_W)) H := hP
  have hD : va_D A (List.flatten ([[(h0, .inr (2, [.int (3), .int (3), .int (20), .int (2), .int (60), .int 0, .null, .null, .null, .null, .null]))]] : List va_W)) := hD
  refine lv_aload_n hx hb dX2_init_31 rfl (lv_at hl 0 rfl) ?_
  refine lv_bipush (v := (30)) hx hb dX2_init_32 (by decide) ?_
  refine bq_newa (atype := .int) (t := 0) (N := 30) (ty := .int) (bs := [[(h0, .inr (2, [.int (3), .int (3), .int (20), .int (2), .int (60), .int 0, .null, .null, .null, .null, .null]))]]) hx hb (hts _ q254) rfl rfl hK hP hD hS hA (fun _ => rfl) (by decide) (by decide) (by decide) (Nat.le_of_ble_eq_true rfl) (Nat.le_of_ble_eq_true rfl) dX2_init_34 (fun q1 H hP hD hS => ?_)
  refine va_putF (D := D) (ci := 2) (C := RX2) (T := TX2) (N := 11) (ref := "BlueBag$Coast") (fs := [.int (3), .int (3), .int (20), .int (2), .int (60), .int 0, .null, .null, .null, .null, .null]) (ty := _) hx hb hts in_X2 tyX2 tyX2_ok nmX2 hown hK hP hD hS 1 rfl rfl 6 (Nat.le_of_ble_eq_true rfl) (hts _ q550) (fun x h => h) rfl hin rfl rfl rfl rfl (Nat.le_of_ble_eq_true rfl) dX2_init_36 (fun H locs hP hD hS => ?_)
  have hP : va_P D bqCl (List.flatten ([[(q1, .inl (d 0, 30, .inl fun _ => 0))], [(h0, .inr (2, [.int (3), .int (3), .int (20), .int (2), .int (60), .int 0, .ref (q1), .null, .null, .null, .null]))]] : List va_W)) H := hP
  have hD : va_D A (List.flatten ([[(q1, .inl (d 0, 30, .inl fun _ => 0))], [(h0, .inr (2, [.int (3), .int (3), .int (20), .int (2), .int (60), .int 0, .ref (q1), .null, .null, .null, .null]))]] : List va_W)) := hD
  refine lv_aload_n hx hb dX2_init_39 rfl (lv_at hl 0 rfl) ?_
  refine va_new (ci := 14) (fs := [.int 0, .null, .int 0]) (C := RJ2) (T := TJ2) (N := 3) hx hb hts in_J2 tyJ2 tyJ2_ok hown (hts _ q166) (hts _ q167) (hts _ q117) hK hP hD hS hA rfl (fun j hj => by rcases (show j = 0 ∨ j = 1 ∨ j = 2 by omega) with rfl | rfl | rfl <;> rfl) (Nat.le_of_ble_eq_true rfl) (Nat.le_of_ble_eq_true rfl) dX2_init_40 (fun q2 H hP hD hS => ?_)
  have hP := bq_fr (bs := [[(q1, .inl (d 0, 30, .inl fun _ => 0))], [(h0, .inr (2, [.int (3), .int (3), .int (20), .int (2), .int (60), .int 0, .ref (q1), .null, .null, .null, .null]))]]) hP
  have hD := bq_frD (bs := [[(q1, .inl (d 0, 30, .inl fun _ => 0))], [(h0, .inr (2, [.int (3), .int (3), .int (20), .int (2), .int (60), .int 0, .ref (q1), .null, .null, .null, .null]))]]) hD
  refine lv_dup hx hb dX2_init_43 rfl ?_
  refine lv_iconst (v := (1)) hx hb dX2_init_44 (by decide) ?_
  refine bq_cIN (n := 1) (bs := [[(q2, .inr (14, [.int 0, .null, .int 0]))], [(q1, .inl (d 0, 30, .inl fun _ => 0))], [(h0, .inr (2, [.int (3), .int (3), .int (20), .int (2), .int (60), .int 0, .ref (q1), .null, .null, .null, .null]))]]) (bc := [[(q2, .inr (14, [.int 0, .null, .int 0]))]]) (br := [[(q1, .inl (d 0, 30, .inl fun _ => 0))], [(h0, .inr (2, [.int (3), .int (3), .int (20), .int (2), .int (60), .int 0, .ref (q1), .null, .null, .null, .null]))]]) (As := [.int (1)]) (rest := [.ref (q2), .ref (h0)]) C (Nat.le_of_ble_eq_true rfl) (Nat.le_of_ble_eq_true rfl) (nw_J2_1 hok hamb) (bq_pm [0, 1, 2] rfl rfl rfl) q168 q169 q117 q170 rfl (by decide +kernel) (Nat.le_of_ble_eq_true rfl) (Nat.le_of_ble_eq_true rfl) rfl hl.1 rfl (Nat.le_of_ble_eq_true rfl) dX2_init_45 hP hD hS (fun o w hp_ H locs hP_ hD_ hS_ => ?_)
  clear hP hD hS
  obtain ⟨rfl, b3, rfl⟩ := hp_
  have hP := hP_
  have hD := hD_
  have hS := hS_
  have hP : va_P D bqCl (List.flatten ([alB d (q2) b3 0 0 1 (fun _ => none), [(q1, .inl (d 0, 30, .inl fun _ => 0))], [(h0, .inr (2, [.int (3), .int (3), .int (20), .int (2), .int (60), .int 0, .ref (q1), .null, .null, .null, .null]))]] : List va_W)) H := hP
  have hD : va_D A (List.flatten ([alB d (q2) b3 0 0 1 (fun _ => none), [(q1, .inl (d 0, 30, .inl fun _ => 0))], [(h0, .inr (2, [.int (3), .int (3), .int (20), .int (2), .int (60), .int 0, .ref (q1), .null, .null, .null, .null]))]] : List va_W)) := hD
  refine va_putF (D := D) (ci := 2) (C := RX2) (T := TX2) (N := 11) (ref := "BlueBag$Coast") (fs := [.int (3), .int (3), .int (20), .int (2), .int (60), .int 0, .ref (q1), .null, .null, .null, .null]) (ty := _) hx hb hts in_X2 tyX2 tyX2_ok nmX2 hown hK hP hD hS 3 rfl rfl 7 (Nat.le_of_ble_eq_true rfl) (hts _ q553) (fun x h => h) rfl hin rfl rfl rfl rfl (Nat.le_of_ble_eq_true rfl) dX2_init_48 (fun H locs hP hD hS => ?_)
  have hP : va_P D bqCl (List.flatten ([alB d (q2) b3 0 0 1 (fun _ => none), [(q1, .inl (d 0, 30, .inl fun _ => 0))], [(h0, .inr (2, [.int (3), .int (3), .int (20), .int (2), .int (60), .int 0, .ref (q1), .ref (q2), .null, .null, .null]))]] : List va_W)) H := hP
  have hD : va_D A (List.flatten ([alB d (q2) b3 0 0 1 (fun _ => none), [(q1, .inl (d 0, 30, .inl fun _ => 0))], [(h0, .inr (2, [.int (3), .int (3), .int (20), .int (2), .int (60), .int 0, .ref (q1), .ref (q2), .null, .null, .null]))]] : List va_W)) := hD
  refine lv_aload_n hx hb dX2_init_51 rfl (lv_at hl 0 rfl) ?_
  refine va_new (ci := 3) (fs := [.null]) (C := RX3) (T := TX3) (N := 1) hx hb hts in_X3 tyX3 tyX3_ok hown (hts _ q507) (hts _ q508) (hts _ q134) hK hP hD hS hA rfl (fun j hj => by rcases (show j = 0 by omega) with rfl <;> rfl) (Nat.le_of_ble_eq_true rfl) (Nat.le_of_ble_eq_true rfl) dX2_init_52 (fun q4 H hP hD hS => ?_)
  have hP := bq_fr (bs := [alB d (q2) b3 0 0 1 (fun _ => none), [(q1, .inl (d 0, 30, .inl fun _ => 0))], [(h0, .inr (2, [.int (3), .int (3), .int (20), .int (2), .int (60), .int 0, .ref (q1), .ref (q2), .null, .null, .null]))]]) hP
  have hD := bq_frD (bs := [alB d (q2) b3 0 0 1 (fun _ => none), [(q1, .inl (d 0, 30, .inl fun _ => 0))], [(h0, .inr (2, [.int (3), .int (3), .int (20), .int (2), .int (60), .int 0, .ref (q1), .ref (q2), .null, .null, .null]))]]) hD
  refine lv_dup hx hb dX2_init_55 rfl ?_
  refine bq_cINn (n := 0) (bs := [[(q4, .inr (3, [.null]))], alB d (q2) b3 0 0 1 (fun _ => none), [(q1, .inl (d 0, 30, .inl fun _ => 0))], [(h0, .inr (2, [.int (3), .int (3), .int (20), .int (2), .int (60), .int 0, .ref (q1), .ref (q2), .null, .null, .null]))]]) (bc := [[(q4, .inr (3, [.null]))]]) (br := [alB d (q2) b3 0 0 1 (fun _ => none), [(q1, .inl (d 0, 30, .inl fun _ => 0))], [(h0, .inr (2, [.int (3), .int (3), .int (20), .int (2), .int (60), .int 0, .ref (q1), .ref (q2), .null, .null, .null]))]]) (As := []) (rest := [.ref (q4), .ref (h0)]) C (Nat.le_of_ble_eq_true rfl) (Nat.le_of_ble_eq_true rfl) (nw_X3 hok hamb) (bq_pm [0, 1, 2, 3] rfl rfl rfl) (bq_nMw hamb hm 4 rfl) q510 q134 q511 rfl (by decide +kernel) (Nat.le_of_ble_eq_true rfl) (Nat.le_of_ble_eq_true rfl) rfl hl.1 rfl (Nat.le_of_ble_eq_true rfl) dX2_init_56 hP hD hS (fun o w hp_ H locs hP_ hD_ hS_ => ?_)
  clear hP hD hS
  obtain ⟨rfl, a5, he_, rfl⟩ := hp_
  subst he_
  have hP := hP_
  have hD := hD_
  have hS := hS_
  have hP : va_P D bqCl (List.flatten ([viB d a5 bqZ, alB d (q2) b3 0 0 1 (fun _ => none), [(q1, .inl (d 0, 30, .inl fun _ => 0))], [(h0, .inr (2, [.int (3), .int (3), .int (20), .int (2), .int (60), .int 0, .ref (q1), .ref (q2), .null, .null, .null]))]] : List va_W)) H := hP
  have hD : va_D A (List.flatten ([viB d a5 bqZ, alB d (q2) b3 0 0 1 (fun _ => none), [(q1, .inl (d 0, 30, .inl fun _ => 0))], [(h0, .inr (2, [.int (3), .int (3), .int (20), .int (2), .int (60), .int 0, .ref (q1), .ref (q2), .null, .null, .null]))]] : List va_W)) := hD
  refine va_putF (D := D) (ci := 2) (C := RX2) (T := TX2) (N := 11) (ref := "BlueBag$Coast") (fs := [.int (3), .int (3), .int (20), .int (2), .int (60), .int 0, .ref (q1), .ref (q2), .null, .null, .null]) (ty := _) hx hb hts in_X2 tyX2 tyX2_ok nmX2 hown hK hP hD hS 5 rfl rfl 10 (Nat.le_of_ble_eq_true rfl) (hts _ q561) (fun x h => h) rfl hin rfl rfl rfl rfl (Nat.le_of_ble_eq_true rfl) dX2_init_59 (fun H locs hP hD hS => ?_)
  have hP : va_P D bqCl (List.flatten ([viB d a5 bqZ, alB d (q2) b3 0 0 1 (fun _ => none), [(q1, .inl (d 0, 30, .inl fun _ => 0))], [(h0, .inr (2, [.int (3), .int (3), .int (20), .int (2), .int (60), .int 0, .ref (q1), .ref (q2), .null, .null, .ref (a5 4)]))]] : List va_W)) H := hP
  have hD : va_D A (List.flatten ([viB d a5 bqZ, alB d (q2) b3 0 0 1 (fun _ => none), [(q1, .inl (d 0, 30, .inl fun _ => 0))], [(h0, .inr (2, [.int (3), .int (3), .int (20), .int (2), .int (60), .int 0, .ref (q1), .ref (q2), .null, .null, .ref (a5 4)]))]] : List va_W)) := hD
  have hpp := bq_flat (bq_pm (bs := [viB d a5 bqZ, alB d (q2) b3 0 0 1 (fun _ => none), [(q1, .inl (d 0, 30, .inl fun _ => 0))], [(h0, .inr (2, [.int (3), .int (3), .int (20), .int (2), .int (60), .int 0, .ref (q1), .ref (q2), .null, .null, .ref (a5 4)]))]]) (cs := [[(h0, .inr (2, [.int (3), .int (3), .int (20), .int (2), .int (60), .int 0, .ref (q1), .ref (q2), .null, .null, .ref (a5 4)]))], [(q1, .inl (d 0, 30, .inl fun _ => 0))], alB d (q2) b3 0 0 1 (fun _ => none), viB d a5 bqZ]) [3, 2, 1, 0] rfl rfl rfl)
  have hP := bq_Pp hpp hP
  have hD := bq_Dp hpp hD
  exact bq_vretN C hr (Nat.le_of_ble_eq_true rfl) (Nat.le_of_ble_eq_true rfl) ⟨rfl, (fun k => match k with | 0 => h0 | 1 => q1 | 2 => q2 | 3 => b3 | 4 => a5 4 | 5 => a5 5 | _ => 0), rfl, rfl⟩ hP hD hS dX2_init_62
