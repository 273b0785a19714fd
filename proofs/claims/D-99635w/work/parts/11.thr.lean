set_option maxRecDepth 100000
theorem bq_ag_there : ∀ w ∈ (vx_at0 RX1 67 "java/util/NoSuchElementException" ["java/lang/RuntimeException", "java/lang/Exception"]).filter goodWord, w ∈ lw_all := lw_in _ [118, 204, 213, 217, 220, 222, 205, 206, 158, 159, 207, 212, 218, 459, 194, 460, 196, 461, 198, 208, 210, 200, 1407, 1408, 1409, 1029, 1029, 1030, 1031, 1032, 1032, 1033, 1034, 205, 1406, 1398, 1400, 216, 1401, 1402, 1403, 1404, 457, 202, 1405] (by decide +kernel) (by decide +kernel)
theorem bq_ab_there : ∀ w ∈ (vx_at0 RX1 67 "java/util/NoSuchElementException" ["java/lang/RuntimeException", "java/lang/Exception"]).filter (fun w => !goodWord w), w ∈ ([.castable "java/util/NoSuchElementException" "java/util/NoSuchElementException", .declares ⟨"java/lang/RuntimeException", "<init>", "()V"⟩, .declares ⟨"java/lang/Exception", "<init>", "()V"⟩, .declares ⟨"java/lang/Throwable", "<init>", "()V"⟩] : List Cond) := by decide +kernel
theorem bq_at_there {am : bqAm} {X vE sE : Nat → Nat} {A : Nat → Prop} {s : State} {args : Array Value} (hts : ∀ w ∈ lw_all, w.before args s = true) (hamb : bq_Amb am X vE sE) (hm : am A s s.heap) : ∀ w ∈ vx_at0 RX1 67 "java/util/NoSuchElementException" ["java/lang/RuntimeException", "java/lang/Exception"], w.before args s = true :=
  vx_hat (fun w hw => hts w (bq_ag_there w hw)) bq_ab_there (vx_c (va_Nw.use rfl (bq_nC hamb hm (a := "java/util/NoSuchElementException") (b := "java/util/NoSuchElementException") (by decide +kernel))) (vx_c (va_Nw.use rfl (bq_nD hamb hm (x := ⟨"java/lang/RuntimeException", "<init>", "()V"⟩) (by decide +kernel))) (vx_c (va_Nw.use rfl (bq_nD hamb hm (x := ⟨"java/lang/Exception", "<init>", "()V"⟩) (by decide +kernel))) (vx_c (va_Nw.use rfl (bq_nD hamb hm (x := ⟨"java/lang/Throwable", "<init>", "()V"⟩) (by decide +kernel))) vx_n))))
def bl_there (x : Int32) : Option Nat := some (if x = 0 then 1 else 0)
set_option maxHeartbeats 4000000 in
theorem met_bl_there {l : Launch} {D : va_G} {cl : List vw_C} {tys : List (ClassId × FieldType)} {am : bqAm} {X vE sE : Nat → Nat} {w : va_W} {x : Int32} {tg : Nat} (hok : bq_Ok am) (hamb : bq_Amb am X vE sE) (hst : l.stackTraces = false) (hf : bl_there x = some tg) : bq_X l yX1_there cX1_there 1 none 6 90 1 6 D cl tys am [.int x] w tg none w := by
  obtain rfl := Option.some.inj hf
  refine bq_ofX hok (by decide +kernel) (Nat.le_of_ble_eq_true rfl) ?_
  intro p e s m below meth c A ls C hr hex hP hD hS hl
  have C0 := C
  obtain ⟨hx, hb, hown, hts, hml, hlocks, hA, hK, hm, hRf, hRl, hok⟩ := C
  have hl : lv_has ls 1 [(0, .int x)] := hl
  refine lv_iload_n hx hb dX1_there_0 rfl (lv_at hl 0 rfl) ?_
  refine lv_if_ne (tgt := 12) hx hb dX1_there_1 (by decide) (fun c1 => ?_) (fun c1 => ?_)
  · rw [if_neg c1]
    exact bq_vretX C0 hr (Nat.zero_le _) (Nat.zero_le _) hP hD hS dX1_there_12
  · rw [if_pos c1]
    exact vx_throw0 hx hb hst (own := RX1) (cls := "java/util/NoSuchElementException") (names := ["java/lang/RuntimeException", "java/lang/Exception"]) (ik := 65) (ic := 67) hown (by decide +kernel) (by decide +kernel) (hts _ q1397) (hts _ q151) (bq_at_there hts hamb hm) (by decide +kernel) (bq_zU hamb hm) (bq_zN hamb hm) hS (hl.1.trans hml.symm) dX1_there_4 dX1_there_7 dX1_there_8 dX1_there_11 (fun x hx => (hex x hx).elim) (Nat.lt_of_lt_of_le (by decide) hRf) (Nat.le_trans (by decide) hRl) (Nat.le_refl _) (Nat.le_refl _) hlocks
      (fun t hW hz hq => ⟨by decide, rfl, ⟨hP.kept (fun k q hk => hq _ (hP k q hk).lt), hD⟩, hz, fun q h1 h2 => hq q h1⟩) hS.2.2 (Nat.le_refl _) (Nat.le_refl _)
theorem hd_X1_there : yX1_there.cls ≠ "java/lang/invoke/MethodHandle" ∧ yX1_there.cls ≠ "java/lang/invoke/VarHandle" ∧ (parseMethodDescriptor yX1_there.desc).map (fun d => d.parameters.length) = some 1 := by decide +kernel
theorem bq_ag_right : ∀ w ∈ (vx_at0 RX1 64 "java/lang/IllegalArgumentException" ["java/lang/RuntimeException", "java/lang/Exception"]).filter goodWord, w ∈ lw_all := lw_in _ [118, 204, 213, 217, 220, 222, 205, 206, 158, 159, 207, 212, 218, 459, 194, 460, 196, 461, 198, 208, 210, 200, 1026, 1027, 1028, 1029, 1029, 1030, 1031, 1032, 1032, 1033, 1034, 205, 1025, 183, 191, 192, 193, 195, 197, 199, 457, 202, 201] (by decide +kernel) (by decide +kernel)
theorem bq_ab_right : ∀ w ∈ (vx_at0 RX1 64 "java/lang/IllegalArgumentException" ["java/lang/RuntimeException", "java/lang/Exception"]).filter (fun w => !goodWord w), w ∈ ([.castable "java/lang/IllegalArgumentException" "java/lang/IllegalArgumentException", .declares ⟨"java/lang/RuntimeException", "<init>", "()V"⟩, .declares ⟨"java/lang/Exception", "<init>", "()V"⟩, .declares ⟨"java/lang/Throwable", "<init>", "()V"⟩] : List Cond) := by decide +kernel
theorem bq_at_right {am : bqAm} {X vE sE : Nat → Nat} {A : Nat → Prop} {s : State} {args : Array Value} (hts : ∀ w ∈ lw_all, w.before args s = true) (hamb : bq_Amb am X vE sE) (hm : am A s s.heap) : ∀ w ∈ vx_at0 RX1 64 "java/lang/IllegalArgumentException" ["java/lang/RuntimeException", "java/lang/Exception"], w.before args s = true :=
  vx_hat (fun w hw => hts w (bq_ag_right w hw)) bq_ab_right (vx_c (va_Nw.use rfl (bq_nC hamb hm (a := "java/lang/IllegalArgumentException") (b := "java/lang/IllegalArgumentException") (by decide +kernel))) (vx_c (va_Nw.use rfl (bq_nD hamb hm (x := ⟨"java/lang/RuntimeException", "<init>", "()V"⟩) (by decide +kernel))) (vx_c (va_Nw.use rfl (bq_nD hamb hm (x := ⟨"java/lang/Exception", "<init>", "()V"⟩) (by decide +kernel))) (vx_c (va_Nw.use rfl (bq_nD hamb hm (x := ⟨"java/lang/Throwable", "<init>", "()V"⟩) (by decide +kernel))) vx_n))))
def bl_right (x : Int32) : Option Nat := some (if x = 0 then 2 else 0)
set_option maxHeartbeats 4000000 in
theorem met_bl_right {l : Launch} {D : va_G} {cl : List vw_C} {tys : List (ClassId × FieldType)} {am : bqAm} {X vE sE : Nat → Nat} {w : va_W} {x : Int32} {tg : Nat} (hok : bq_Ok am) (hamb : bq_Amb am X vE sE) (hst : l.stackTraces = false) (hf : bl_right x = some tg) : bq_X l yX1_right cX1_right 1 none 6 90 1 6 D cl tys am [.int x] w tg none w := by
  obtain rfl := Option.some.inj hf
  refine bq_ofX hok (by decide +kernel) (Nat.le_of_ble_eq_true rfl) ?_
  intro p e s m below meth c A ls C hr hex hP hD hS hl
  have C0 := C
  obtain ⟨hx, hb, hown, hts, hml, hlocks, hA, hK, hm, hRf, hRl, hok⟩ := C
  have hl : lv_has ls 1 [(0, .int x)] := hl
  refine lv_iload_n hx hb dX1_right_0 rfl (lv_at hl 0 rfl) ?_
  refine lv_if_ne (tgt := 12) hx hb dX1_right_1 (by decide) (fun c1 => ?_) (fun c1 => ?_)
  · rw [if_neg c1]
    exact bq_vretX C0 hr (Nat.zero_le _) (Nat.zero_le _) hP hD hS dX1_right_12
  · rw [if_pos c1]
    exact vx_throw0 hx hb hst (own := RX1) (cls := "java/lang/IllegalArgumentException") (names := ["java/lang/RuntimeException", "java/lang/Exception"]) (ik := 62) (ic := 64) hown (by decide +kernel) (by decide +kernel) (hts _ q1024) (hts _ q121) (bq_at_right hts hamb hm) (by decide +kernel) (bq_zU hamb hm) (bq_zN hamb hm) hS (hl.1.trans hml.symm) dX1_right_4 dX1_right_7 dX1_right_8 dX1_right_11 (fun x hx => (hex x hx).elim) (Nat.lt_of_lt_of_le (by decide) hRf) (Nat.le_trans (by decide) hRl) (Nat.le_refl _) (Nat.le_refl _) hlocks
      (fun t hW hz hq => ⟨by decide, rfl, ⟨hP.kept (fun k q hk => hq _ (hP k q hk).lt), hD⟩, hz, fun q h1 h2 => hq q h1⟩) hS.2.2 (Nat.le_refl _) (Nat.le_refl _)
theorem hd_X1_right : yX1_right.cls ≠ "java/lang/invoke/MethodHandle" ∧ yX1_right.cls ≠ "java/lang/invoke/VarHandle" ∧ (parseMethodDescriptor yX1_right.desc).map (fun d => d.parameters.length) = some 1 := by decide +kernel
