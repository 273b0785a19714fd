set_option maxRecDepth 100000
/-- the twin as it is made, ahead of begin -/
def bqT0 : bqS := fun r k => if r = 0 then (if k = 3 then 2 else if k = 24 then -1 else 0) else 0
def bqO7 : Nat → Value := fun k => ([.null, .null, .null, .null, .int 0, .null, .null, .null, .null, .null, .null, .null, .null, .null, .null, .int 0, .int 0, .int 0, .int 0, .int 0, .int 0, .int 0, .int 0, .int 0, .int 0, .int 0, .int 0, .int 0, .null, .null, .null, .int 0, .int 0, .int 0, .int 0, .int 0, .int 0, .int 0, .null, .null, .null, .int 0, .null, .null, .null, .null, .null, .null, .null, .null, .null, .null, .int 0, .null, .int 0, .int 0, .int 0, .int 0, .null, .null, .null, .null, .null, .null] : List Value).getD k .null
set_option maxHeartbeats 4000000 in
theorem mk_end {p : Program} {l : Launch} {e : Env} {s : State} {m : MethodId} {args : Array Value} {below : List Frame} {meth : Method} {c : Code} {H : Heap} {locs : List Loc} {A : Nat → Prop} {D : va_G} {am : bqAm} {X : Nat → Nat} {d : Nat → ClassId} {h0 : Nat} {ls : Array Slot} {F : Nat} {σ' : bqS} (hok : bq_Ok am) (hbg : tw_begin F bqT0 0 = some σ') (C : bq_C p { frames := 10, cells := 36, slots := 9577, locals := 400 } s m args meth c A D bqCl (bqTy d) am cX7_init 1 RX7 10 400) (hr : meth.sig.returnType = none) (hl : lv_has ls 1 [(0, .ref h0)]) (a : Nat → Nat) (ha : a 0 = h0) (hP : va_P D bqCl (tW d a X bqT0) H) (hD : va_D A (tW d a X bqT0)) (hS : va_S A s.heap H locs) : W p l e { frames := 10, cells := 36, slots := 9577, locals := 400 } s m args below meth c H locs 36 9577 (MQ below (bq_QN D bqCl (fun o w' => o = none ∧ ∃ a : Nat → Nat, a 0 = h0 ∧ w' = tW d a X (bq_up σ' 0 32 20)) A) args s 36 9577 A) (F0 m 373 ls [.int 0, .ref h0]) := by
  subst ha
  have C0 := C
  obtain ⟨hx, hb, hown, hts, hml, hlocks, hA, hK, hm, hRf, hRl, hok⟩ := C
  have C := C0
  have hM := met_tw_begin (l := l) (D := D) (d := d) (a := a) (X := X) hok hbg
  have e1 : ∀ σ : bqS, tW d a X σ = List.flatten ([tW d a X σ] : List va_W) := fun σ => by simp
  rw [e1] at hP hD
  rw [e1 bqT0, e1 σ'] at hM
  refine bq_cV (n := 1) (bs := [tW d a X bqT0]) (bc := [tW d a X bqT0]) (br := []) (bc' := [tW d a X σ']) (bs' := [tW d a X σ']) (As := [.int 0]) (rest := []) (o := none) C (Nat.le_of_ble_eq_true rfl) (Nat.le_of_ble_eq_true rfl) hM (List.Perm.refl _) (List.Perm.refl _) (lw_V q1687 q1689 qs49 q140 q1690) (by decide +kernel) (Nat.le_of_ble_eq_true rfl) (Nat.le_of_ble_eq_true rfl) (va_recv hK hP (ci := 0) (q0 := 0) rfl rfl) rfl hl.1 rfl (Nat.le_of_ble_eq_true rfl) dX7_init_373 hP hD hS (fun H locs hP hD hS => ?_)
  rw [← e1] at hP hD
  refine lv_aload_n hx hb dX7_init_376 rfl (lv_at hl 0 rfl) ?_
  refine lv_bipush (v := 20) hx hb dX7_init_377 (by decide) ?_
  refine tw_put (ty := .int) hx hb hts hown hK hP hD hS 32 (by decide) (hts _ q1723) rfl rfl rfl rfl rfl dX7_init_379 (fun H locs hP hD hS => ?_)
  exact bq_vretN C hr (Nat.le_of_ble_eq_true rfl) (Nat.le_of_ble_eq_true rfl) ⟨rfl, a, rfl, rfl⟩ hP hD hS dX7_init_382
set_option maxHeartbeats 4000000 in
theorem nw_X7 {l : Launch} {D : va_G} {am : bqAm} {X vE sE : Nat → Nat} {d : Nat → ClassId} {h0 : Nat} {F : Nat} {σ' : bqS} (hok : bq_Ok am) (hamb : bq_Amb am X vE sE) (hbg : tw_begin F bqT0 0 = some σ') : bq_N l yX7_init cX7_init 1 none 10 400 36 9577 D bqCl (bqTy d) am [.ref (h0)] (List.flatten ([[(h0, .inr (0, bqO 64 bqO7))]] : List va_W)) (fun o w' => o = none ∧ ∃ a : Nat → Nat, a 0 = h0 ∧ w' = tW d a X (bq_up σ' 0 32 20)) := by
  refine bq_ofN hok (by decide +kernel) (Nat.le_of_ble_eq_true rfl) ?_
  intro p e s m below meth c A ls C hr hin hP hD hS hl
  have C0 := C
  obtain ⟨hx, hb, hown, hts, hml, hlocks, hA, hK, hm, hRf, hRl, hok⟩ := C
  have C := C0
  have hl : lv_has ls 1 [(0, .ref (h0))] := hl
  refine lv_aload_n hx hb dX7_init_0 rfl (lv_at hl 0 rfl) ?_
  refine bq_obj C q1676 (Nat.le_of_ble_eq_true rfl) (Nat.le_of_ble_eq_true rfl) hl.1 (Nat.le_of_ble_eq_true rfl) dX7_init_1 ?_
  refine lv_aload_n hx hb dX7_init_4 rfl (lv_at hl 0 rfl) ?_
  refine lv_iconst (v := (2)) hx hb dX7_init_5 (by decide) ?_
  refine bq_newq (n := 2) (C := "java/lang/String") (t := 1) (N := 2) (bs := ([(h0, .inr (0, bqO 64 bqO7))] :: ([] : List va_W))) hx hb hown (hts _ q1677) (bq_ao hamb hm (by decide +kernel)) rfl hK hP hD hS hA (by decide) (by decide) (by decide) (Nat.le_of_ble_eq_true rfl) (Nat.le_of_ble_eq_true rfl) dX7_init_6 (fun q1 H hP hD hS => ?_)
  refine lv_dup hx hb dX7_init_9 rfl ?_
  refine lv_iconst (v := (0)) hx hb dX7_init_10 (by decide) ?_
  refine va_ldcS hx hb (own := RX7) (tx := "girl") hown (bq_strR hamb.1 hm 28 rfl) dX7_init_11 ?_
  refine bq_asts (n := 2) (f := fun _ => none) (j := 19) hx hb hK hP hD hS hamb.1 hm (by decide) 0 rfl rfl (by unfold vp_in; decide) dX7_init_13 (fun H locs hP hD hS => ?_)
  have hP : va_P D bqCl (List.flatten ([(q1, .inl (d 1, 2, .inr (.inr (.inr (.inr (va_up (fun _ => none) 0 (some (X 19))))))))] :: [(h0, .inr (0, bqO 64 bqO7))] :: ([] : List va_W))) H := hP
  have hD : va_D A (List.flatten ([(q1, .inl (d 1, 2, .inr (.inr (.inr (.inr (va_up (fun _ => none) 0 (some (X 19))))))))] :: [(h0, .inr (0, bqO 64 bqO7))] :: ([] : List va_W))) := hD
  refine lv_dup hx hb dX7_init_14 rfl ?_
  refine lv_iconst (v := (1)) hx hb dX7_init_15 (by decide) ?_
  refine va_ldcS hx hb (own := RX7) (tx := "old") hown (bq_strR hamb.1 hm 29 rfl) dX7_init_16 ?_
  refine bq_asts (n := 2) (f := va_up (fun _ => none) 0 (some (X 19))) (j := 23) hx hb hK hP hD hS hamb.1 hm (by decide) 0 rfl rfl (by unfold vp_in; decide) dX7_init_18 (fun H locs hP hD hS => ?_)
  have hP : va_P D bqCl (List.flatten ([(q1, .inl (d 1, 2, .inr (.inr (.inr (.inr (va_up (va_up (fun _ => none) 0 (some (X 19))) 1 (some (X 23))))))))] :: [(h0, .inr (0, bqO 64 bqO7))] :: ([] : List va_W))) H := hP
  have hD : va_D A (List.flatten ([(q1, .inl (d 1, 2, .inr (.inr (.inr (.inr (va_up (va_up (fun _ => none) 0 (some (X 19))) 1 (some (X 23))))))))] :: [(h0, .inr (0, bqO 64 bqO7))] :: ([] : List va_W))) := hD
  have hP := bq_swq (bs := [(h0, .inr (0, bqO 64 bqO7))] :: ([] : List va_W)) (g := fun k => some (X (bqSA 1 k))) (fun j hj => by rcases (show j = 0 ∨ j = 1 by omega) with rfl | rfl <;> rfl) hP
  have hD := bq_swqD (bs := [(h0, .inr (0, bqO 64 bqO7))] :: ([] : List va_W)) (x := (q1, .inl (d 1, 2, .inr (.inr (.inr (.inr (va_up (va_up (fun _ => none) 0 (some (X 19))) 1 (some (X 23))))))))) (y := (q1, .inl (d 1, 2, .inr (.inr (.inr (.inr (fun k => some (X (bqSA 1 k))))))))) rfl hD
  refine mk_putF (f := bqO7) (bs := ([] : List va_W)) (q := q1) C hin hP hD hS 0 (by decide) (hts _ q1691) rfl rfl rfl rfl rfl dX7_init_19 (fun H locs hP hD hS => ?_)
  generalize e1 : (fun j => if j = 0 then .ref q1 else bqO7 j : Nat → Value) = f1 at hP hD
  generalize r1 : ([(q1, .inl (d 1, 2, .inr (.inr (.inr (.inr (fun k => some (X (bqSA 1 k))))))))] :: ([] : List va_W) : List va_W) = R1 at hP hD
  refine lv_aload_n hx hb dX7_init_22 rfl (lv_at hl 0 rfl) ?_
  refine lv_bipush (v := (6)) hx hb dX7_init_23 (by decide) ?_
  refine bq_newq (n := 6) (C := "java/lang/String") (t := 1) (N := 6) (bs := ([(h0, .inr (0, bqO 64 f1))] :: R1)) hx hb hown (hts _ q1677) (bq_ao hamb hm (by decide +kernel)) rfl hK hP hD hS hA (by decide) (by decide) (by decide) (Nat.le_of_ble_eq_true rfl) (Nat.le_of_ble_eq_true rfl) dX7_init_25 (fun q2 H hP hD hS => ?_)
  refine lv_dup hx hb dX7_init_28 rfl ?_
  refine lv_iconst (v := (0)) hx hb dX7_init_29 (by decide) ?_
  refine va_ldcS hx hb (own := RX7) (tx := "blue") hown (bq_strR hamb.1 hm 30 rfl) dX7_init_30 ?_
  refine bq_asts (n := 6) (f := fun _ => none) (j := 14) hx hb hK hP hD hS hamb.1 hm (by decide) 0 rfl rfl (by unfold vp_in; decide) dX7_init_32 (fun H locs hP hD hS => ?_)
  have hP : va_P D bqCl (List.flatten ([(q2, .inl (d 1, 6, .inr (.inr (.inr (.inr (va_up (fun _ => none) 0 (some (X 14))))))))] :: [(h0, .inr (0, bqO 64 f1))] :: R1)) H := hP
  have hD : va_D A (List.flatten ([(q2, .inl (d 1, 6, .inr (.inr (.inr (.inr (va_up (fun _ => none) 0 (some (X 14))))))))] :: [(h0, .inr (0, bqO 64 f1))] :: R1)) := hD
  refine lv_dup hx hb dX7_init_33 rfl ?_
  refine lv_iconst (v := (1)) hx hb dX7_init_34 (by decide) ?_
  refine va_ldcS hx hb (own := RX7) (tx := "beside") hown (bq_strR hamb.1 hm 31 rfl) dX7_init_35 ?_
  refine bq_asts (n := 6) (f := va_up (fun _ => none) 0 (some (X 14))) (j := 13) hx hb hK hP hD hS hamb.1 hm (by decide) 0 rfl rfl (by unfold vp_in; decide) dX7_init_37 (fun H locs hP hD hS => ?_)
  have hP : va_P D bqCl (List.flatten ([(q2, .inl (d 1, 6, .inr (.inr (.inr (.inr (va_up (va_up (fun _ => none) 0 (some (X 14))) 1 (some (X 13))))))))] :: [(h0, .inr (0, bqO 64 f1))] :: R1)) H := hP
  have hD : va_D A (List.flatten ([(q2, .inl (d 1, 6, .inr (.inr (.inr (.inr (va_up (va_up (fun _ => none) 0 (some (X 14))) 1 (some (X 13))))))))] :: [(h0, .inr (0, bqO 64 f1))] :: R1)) := hD
  refine lv_dup hx hb dX7_init_38 rfl ?_
  refine lv_iconst (v := (2)) hx hb dX7_init_39 (by decide) ?_
  refine va_ldcS hx hb (own := RX7) (tx := "row") hown (bq_strR hamb.1 hm 32 rfl) dX7_init_40 ?_
  refine bq_asts (n := 6) (f := va_up (va_up (fun _ => none) 0 (some (X 14))) 1 (some (X 13))) (j := 27) hx hb hK hP hD hS hamb.1 hm (by decide) 0 rfl rfl (by unfold vp_in; decide) dX7_init_42 (fun H locs hP hD hS => ?_)
  have hP : va_P D bqCl (List.flatten ([(q2, .inl (d 1, 6, .inr (.inr (.inr (.inr (va_up (va_up (va_up (fun _ => none) 0 (some (X 14))) 1 (some (X 13))) 2 (some (X 27))))))))] :: [(h0, .inr (0, bqO 64 f1))] :: R1)) H := hP
  have hD : va_D A (List.flatten ([(q2, .inl (d 1, 6, .inr (.inr (.inr (.inr (va_up (va_up (va_up (fun _ => none) 0 (some (X 14))) 1 (some (X 13))) 2 (some (X 27))))))))] :: [(h0, .inr (0, bqO 64 f1))] :: R1)) := hD
  refine lv_dup hx hb dX7_init_43 rfl ?_
  refine lv_iconst (v := (3)) hx hb dX7_init_44 (by decide) ?_
  refine va_ldcS hx hb (own := RX7) (tx := "day") hown (bq_strR hamb.1 hm 33 rfl) dX7_init_45 ?_
  refine bq_asts (n := 6) (f := va_up (va_up (va_up (fun _ => none) 0 (some (X 14))) 1 (some (X 13))) 2 (some (X 27))) (j := 16) hx hb hK hP hD hS hamb.1 hm (by decide) 0 rfl rfl (by unfold vp_in; decide) dX7_init_47 (fun H locs hP hD hS => ?_)
  have hP : va_P D bqCl (List.flatten ([(q2, .inl (d 1, 6, .inr (.inr (.inr (.inr (va_up (va_up (va_up (va_up (fun _ => none) 0 (some (X 14))) 1 (some (X 13))) 2 (some (X 27))) 3 (some (X 16))))))))] :: [(h0, .inr (0, bqO 64 f1))] :: R1)) H := hP
  have hD : va_D A (List.flatten ([(q2, .inl (d 1, 6, .inr (.inr (.inr (.inr (va_up (va_up (va_up (va_up (fun _ => none) 0 (some (X 14))) 1 (some (X 13))) 2 (some (X 27))) 3 (some (X 16))))))))] :: [(h0, .inr (0, bqO 64 f1))] :: R1)) := hD
  refine lv_dup hx hb dX7_init_48 rfl ?_
  refine lv_iconst (v := (4)) hx hb dX7_init_49 (by decide) ?_
  refine va_ldcS hx hb (own := RX7) (tx := "skill") hown (bq_strR hamb.1 hm 34 rfl) dX7_init_50 ?_
  refine bq_asts (n := 6) (f := va_up (va_up (va_up (va_up (fun _ => none) 0 (some (X 14))) 1 (some (X 13))) 2 (some (X 27))) 3 (some (X 16))) (j := 28) hx hb hK hP hD hS hamb.1 hm (by decide) 0 rfl rfl (by unfold vp_in; decide) dX7_init_52 (fun H locs hP hD hS => ?_)
  have hP : va_P D bqCl (List.flatten ([(q2, .inl (d 1, 6, .inr (.inr (.inr (.inr (va_up (va_up (va_up (va_up (va_up (fun _ => none) 0 (some (X 14))) 1 (some (X 13))) 2 (some (X 27))) 3 (some (X 16))) 4 (some (X 28))))))))] :: [(h0, .inr (0, bqO 64 f1))] :: R1)) H := hP
  have hD : va_D A (List.flatten ([(q2, .inl (d 1, 6, .inr (.inr (.inr (.inr (va_up (va_up (va_up (va_up (va_up (fun _ => none) 0 (some (X 14))) 1 (some (X 13))) 2 (some (X 27))) 3 (some (X 16))) 4 (some (X 28))))))))] :: [(h0, .inr (0, bqO 64 f1))] :: R1)) := hD
  refine lv_dup hx hb dX7_init_53 rfl ?_
  refine lv_iconst (v := (5)) hx hb dX7_init_54 (by decide) ?_
  refine va_ldcS hx hb (own := RX7) (tx := "left") hown (bq_strR hamb.1 hm 35 rfl) dX7_init_55 ?_
  refine bq_asts (n := 6) (f := va_up (va_up (va_up (va_up (va_up (fun _ => none) 0 (some (X 14))) 1 (some (X 13))) 2 (some (X 27))) 3 (some (X 16))) 4 (some (X 28))) (j := 21) hx hb hK hP hD hS hamb.1 hm (by decide) 0 rfl rfl (by unfold vp_in; decide) dX7_init_57 (fun H locs hP hD hS => ?_)
  have hP : va_P D bqCl (List.flatten ([(q2, .inl (d 1, 6, .inr (.inr (.inr (.inr (va_up (va_up (va_up (va_up (va_up (va_up (fun _ => none) 0 (some (X 14))) 1 (some (X 13))) 2 (some (X 27))) 3 (some (X 16))) 4 (some (X 28))) 5 (some (X 21))))))))] :: [(h0, .inr (0, bqO 64 f1))] :: R1)) H := hP
  have hD : va_D A (List.flatten ([(q2, .inl (d 1, 6, .inr (.inr (.inr (.inr (va_up (va_up (va_up (va_up (va_up (va_up (fun _ => none) 0 (some (X 14))) 1 (some (X 13))) 2 (some (X 27))) 3 (some (X 16))) 4 (some (X 28))) 5 (some (X 21))))))))] :: [(h0, .inr (0, bqO 64 f1))] :: R1)) := hD
  have hP := bq_swq (bs := [(h0, .inr (0, bqO 64 f1))] :: R1) (g := fun k => some (X (bqSA 2 k))) (fun j hj => by rcases (show j = 0 ∨ j = 1 ∨ j = 2 ∨ j = 3 ∨ j = 4 ∨ j = 5 by omega) with rfl | rfl | rfl | rfl | rfl | rfl <;> rfl) hP
  have hD := bq_swqD (bs := [(h0, .inr (0, bqO 64 f1))] :: R1) (x := (q2, .inl (d 1, 6, .inr (.inr (.inr (.inr (va_up (va_up (va_up (va_up (va_up (va_up (fun _ => none) 0 (some (X 14))) 1 (some (X 13))) 2 (some (X 27))) 3 (some (X 16))) 4 (some (X 28))) 5 (some (X 21))))))))) (y := (q2, .inl (d 1, 6, .inr (.inr (.inr (.inr (fun k => some (X (bqSA 2 k))))))))) rfl hD
  refine mk_putF (f := f1) (bs := R1) (q := q2) C hin hP hD hS 1 (by decide) (hts _ q1692) rfl rfl rfl rfl rfl dX7_init_58 (fun H locs hP hD hS => ?_)
  generalize e2 : (fun j => if j = 1 then .ref q2 else f1 j : Nat → Value) = f2 at hP hD
  generalize r2 : ([(q2, .inl (d 1, 6, .inr (.inr (.inr (.inr (fun k => some (X (bqSA 2 k))))))))] :: R1 : List va_W) = R2 at hP hD
  refine lv_aload_n hx hb dX7_init_61 rfl (lv_at hl 0 rfl) ?_
  refine lv_iconst (v := (4)) hx hb dX7_init_62 (by decide) ?_
  refine bq_newq (n := 4) (C := "java/lang/String") (t := 1) (N := 4) (bs := ([(h0, .inr (0, bqO 64 f2))] :: R2)) hx hb hown (hts _ q1677) (bq_ao hamb hm (by decide +kernel)) rfl hK hP hD hS hA (by decide) (by decide) (by decide) (Nat.le_of_ble_eq_true rfl) (Nat.le_of_ble_eq_true rfl) dX7_init_63 (fun q3 H hP hD hS => ?_)
  refine lv_dup hx hb dX7_init_66 rfl ?_
  refine lv_iconst (v := (0)) hx hb dX7_init_67 (by decide) ?_
  refine va_ldcS hx hb (own := RX7) (tx := "blue") hown (bq_strR hamb.1 hm 30 rfl) dX7_init_68 ?_
  refine bq_asts (n := 4) (f := fun _ => none) (j := 14) hx hb hK hP hD hS hamb.1 hm (by decide) 0 rfl rfl (by unfold vp_in; decide) dX7_init_70 (fun H locs hP hD hS => ?_)
  have hP : va_P D bqCl (List.flatten ([(q3, .inl (d 1, 4, .inr (.inr (.inr (.inr (va_up (fun _ => none) 0 (some (X 14))))))))] :: [(h0, .inr (0, bqO 64 f2))] :: R2)) H := hP
  have hD : va_D A (List.flatten ([(q3, .inl (d 1, 4, .inr (.inr (.inr (.inr (va_up (fun _ => none) 0 (some (X 14))))))))] :: [(h0, .inr (0, bqO 64 f2))] :: R2)) := hD
  refine lv_dup hx hb dX7_init_71 rfl ?_
  refine lv_iconst (v := (1)) hx hb dX7_init_72 (by decide) ?_
  refine va_ldcS hx hb (own := RX7) (tx := "beside") hown (bq_strR hamb.1 hm 31 rfl) dX7_init_73 ?_
  refine bq_asts (n := 4) (f := va_up (fun _ => none) 0 (some (X 14))) (j := 13) hx hb hK hP hD hS hamb.1 hm (by decide) 0 rfl rfl (by unfold vp_in; decide) dX7_init_75 (fun H locs hP hD hS => ?_)
  have hP : va_P D bqCl (List.flatten ([(q3, .inl (d 1, 4, .inr (.inr (.inr (.inr (va_up (va_up (fun _ => none) 0 (some (X 14))) 1 (some (X 13))))))))] :: [(h0, .inr (0, bqO 64 f2))] :: R2)) H := hP
  have hD : va_D A (List.flatten ([(q3, .inl (d 1, 4, .inr (.inr (.inr (.inr (va_up (va_up (fun _ => none) 0 (some (X 14))) 1 (some (X 13))))))))] :: [(h0, .inr (0, bqO 64 f2))] :: R2)) := hD
  refine lv_dup hx hb dX7_init_76 rfl ?_
  refine lv_iconst (v := (2)) hx hb dX7_init_77 (by decide) ?_
  refine va_ldcS hx hb (own := RX7) (tx := "row") hown (bq_strR hamb.1 hm 32 rfl) dX7_init_78 ?_
  refine bq_asts (n := 4) (f := va_up (va_up (fun _ => none) 0 (some (X 14))) 1 (some (X 13))) (j := 27) hx hb hK hP hD hS hamb.1 hm (by decide) 0 rfl rfl (by unfold vp_in; decide) dX7_init_80 (fun H locs hP hD hS => ?_)
  have hP : va_P D bqCl (List.flatten ([(q3, .inl (d 1, 4, .inr (.inr (.inr (.inr (va_up (va_up (va_up (fun _ => none) 0 (some (X 14))) 1 (some (X 13))) 2 (some (X 27))))))))] :: [(h0, .inr (0, bqO 64 f2))] :: R2)) H := hP
  have hD : va_D A (List.flatten ([(q3, .inl (d 1, 4, .inr (.inr (.inr (.inr (va_up (va_up (va_up (fun _ => none) 0 (some (X 14))) 1 (some (X 13))) 2 (some (X 27))))))))] :: [(h0, .inr (0, bqO 64 f2))] :: R2)) := hD
  refine lv_dup hx hb dX7_init_81 rfl ?_
  refine lv_iconst (v := (3)) hx hb dX7_init_82 (by decide) ?_
  refine va_ldcS hx hb (own := RX7) (tx := "day") hown (bq_strR hamb.1 hm 33 rfl) dX7_init_83 ?_
  refine bq_asts (n := 4) (f := va_up (va_up (va_up (fun _ => none) 0 (some (X 14))) 1 (some (X 13))) 2 (some (X 27))) (j := 16) hx hb hK hP hD hS hamb.1 hm (by decide) 0 rfl rfl (by unfold vp_in; decide) dX7_init_85 (fun H locs hP hD hS => ?_)
  have hP : va_P D bqCl (List.flatten ([(q3, .inl (d 1, 4, .inr (.inr (.inr (.inr (va_up (va_up (va_up (va_up (fun _ => none) 0 (some (X 14))) 1 (some (X 13))) 2 (some (X 27))) 3 (some (X 16))))))))] :: [(h0, .inr (0, bqO 64 f2))] :: R2)) H := hP
  have hD : va_D A (List.flatten ([(q3, .inl (d 1, 4, .inr (.inr (.inr (.inr (va_up (va_up (va_up (va_up (fun _ => none) 0 (some (X 14))) 1 (some (X 13))) 2 (some (X 27))) 3 (some (X 16))))))))] :: [(h0, .inr (0, bqO 64 f2))] :: R2)) := hD
  have hP := bq_swq (bs := [(h0, .inr (0, bqO 64 f2))] :: R2) (g := fun k => some (X (bqSA 3 k))) (fun j hj => by rcases (show j = 0 ∨ j = 1 ∨ j = 2 ∨ j = 3 by omega) with rfl | rfl | rfl | rfl <;> rfl) hP
  have hD := bq_swqD (bs := [(h0, .inr (0, bqO 64 f2))] :: R2) (x := (q3, .inl (d 1, 4, .inr (.inr (.inr (.inr (va_up (va_up (va_up (va_up (fun _ => none) 0 (some (X 14))) 1 (some (X 13))) 2 (some (X 27))) 3 (some (X 16))))))))) (y := (q3, .inl (d 1, 4, .inr (.inr (.inr (.inr (fun k => some (X (bqSA 3 k))))))))) rfl hD
  refine mk_putF (f := f2) (bs := R2) (q := q3) C hin hP hD hS 2 (by decide) (hts _ q1693) rfl rfl rfl rfl rfl dX7_init_86 (fun H locs hP hD hS => ?_)
  generalize e3 : (fun j => if j = 2 then .ref q3 else f2 j : Nat → Value) = f3 at hP hD
  generalize r3 : ([(q3, .inl (d 1, 4, .inr (.inr (.inr (.inr (fun k => some (X (bqSA 3 k))))))))] :: R2 : List va_W) = R3 at hP hD
  refine lv_aload_n hx hb dX7_init_89 rfl (lv_at hl 0 rfl) ?_
  refine lv_aload_n hx hb dX7_init_90 rfl (lv_at hl 0 rfl) ?_
  refine va_get (D := D) (ci := 0) (C := RX7) (T := TX7) (N := 64) (ref := RX7) (fs := bqO 64 f3) (v := .ref q2) hx hb hts in_X7 hown hK hP 0 rfl rfl 1 (by decide) (hts _ q1692) (tw_same 1) (by rw [bqO_get (by decide), ← e3, ← e2]; rfl) dX7_init_91 ?_
  refine mk_put (f := f3) (bs := R3) (v := .ref q2) (ty := _) C hP hD hS 3 (by decide) (hts _ q1694) rfl rfl rfl rfl dX7_init_94 (fun H locs hP hD hS => ?_)
  generalize p3 : (fun j => if j = 3 then .ref q2 else f3 j : Nat → Value) = fp3 at hP hD
  refine lv_aload_n hx hb dX7_init_97 rfl (lv_at hl 0 rfl) ?_
  refine lv_bipush (v := (18)) hx hb dX7_init_98 (by decide) ?_
  refine bq_newa (atype := .int) (t := 0) (N := 18) (ty := .int) (bs := ([(h0, .inr (0, bqO 64 fp3))] :: R3)) hx hb (hts _ q254) rfl rfl hK hP hD hS hA (fun _ => rfl) (by decide) (by decide) (by decide) (Nat.le_of_ble_eq_true rfl) (Nat.le_of_ble_eq_true rfl) dX7_init_100 (fun q4 H hP hD hS => ?_)
  refine mk_putF (f := fp3) (bs := R3) (q := q4) C hin hP hD hS 5 (by decide) (hts _ q1696) rfl rfl rfl rfl rfl dX7_init_102 (fun H locs hP hD hS => ?_)
  generalize e4 : (fun j => if j = 5 then .ref q4 else fp3 j : Nat → Value) = f4 at hP hD
  generalize r4 : ([(q4, .inl (d 0, 18, .inl fun _ => 0))] :: R3 : List va_W) = R4 at hP hD
  refine lv_aload_n hx hb dX7_init_105 rfl (lv_at hl 0 rfl) ?_
  refine lv_bipush (v := (60)) hx hb dX7_init_106 (by decide) ?_
  refine bq_newa (atype := .int) (t := 0) (N := 60) (ty := .int) (bs := ([(h0, .inr (0, bqO 64 f4))] :: R4)) hx hb (hts _ q254) rfl rfl hK hP hD hS hA (fun _ => rfl) (by decide) (by decide) (by decide) (Nat.le_of_ble_eq_true rfl) (Nat.le_of_ble_eq_true rfl) dX7_init_108 (fun q5 H hP hD hS => ?_)
  refine mk_putF (f := f4) (bs := R4) (q := q5) C hin hP hD hS 6 (by decide) (hts _ q1697) rfl rfl rfl rfl rfl dX7_init_110 (fun H locs hP hD hS => ?_)
  generalize e5 : (fun j => if j = 6 then .ref q5 else f4 j : Nat → Value) = f5 at hP hD
  generalize r5 : ([(q5, .inl (d 0, 60, .inl fun _ => 0))] :: R4 : List va_W) = R5 at hP hD
  refine lv_aload_n hx hb dX7_init_113 rfl (lv_at hl 0 rfl) ?_
  refine lv_bipush (v := (12)) hx hb dX7_init_114 (by decide) ?_
  refine bq_newa (atype := .int) (t := 0) (N := 12) (ty := .int) (bs := ([(h0, .inr (0, bqO 64 f5))] :: R5)) hx hb (hts _ q254) rfl rfl hK hP hD hS hA (fun _ => rfl) (by decide) (by decide) (by decide) (Nat.le_of_ble_eq_true rfl) (Nat.le_of_ble_eq_true rfl) dX7_init_116 (fun q6 H hP hD hS => ?_)
  refine mk_putF (f := f5) (bs := R5) (q := q6) C hin hP hD hS 7 (by decide) (hts _ q1698) rfl rfl rfl rfl rfl dX7_init_118 (fun H locs hP hD hS => ?_)
  generalize e6 : (fun j => if j = 7 then .ref q6 else f5 j : Nat → Value) = f6 at hP hD
  generalize r6 : ([(q6, .inl (d 0, 12, .inl fun _ => 0))] :: R5 : List va_W) = R6 at hP hD
  refine lv_aload_n hx hb dX7_init_121 rfl (lv_at hl 0 rfl) ?_
  refine lv_bipush (v := (12)) hx hb dX7_init_122 (by decide) ?_
  refine bq_newa (atype := .int) (t := 0) (N := 12) (ty := .int) (bs := ([(h0, .inr (0, bqO 64 f6))] :: R6)) hx hb (hts _ q254) rfl rfl hK hP hD hS hA (fun _ => rfl) (by decide) (by decide) (by decide) (Nat.le_of_ble_eq_true rfl) (Nat.le_of_ble_eq_true rfl) dX7_init_124 (fun q7 H hP hD hS => ?_)
  refine mk_putF (f := f6) (bs := R6) (q := q7) C hin hP hD hS 8 (by decide) (hts _ q1699) rfl rfl rfl rfl rfl dX7_init_126 (fun H locs hP hD hS => ?_)
  generalize e7 : (fun j => if j = 8 then .ref q7 else f6 j : Nat → Value) = f7 at hP hD
  generalize r7 : ([(q7, .inl (d 0, 12, .inl fun _ => 0))] :: R6 : List va_W) = R7 at hP hD
  refine lv_aload_n hx hb dX7_init_129 rfl (lv_at hl 0 rfl) ?_
  refine lv_bipush (v := (12)) hx hb dX7_init_130 (by decide) ?_
  refine bq_newa (atype := .int) (t := 0) (N := 12) (ty := .int) (bs := ([(h0, .inr (0, bqO 64 f7))] :: R7)) hx hb (hts _ q254) rfl rfl hK hP hD hS hA (fun _ => rfl) (by decide) (by decide) (by decide) (Nat.le_of_ble_eq_true rfl) (Nat.le_of_ble_eq_true rfl) dX7_init_132 (fun q8 H hP hD hS => ?_)
  refine mk_putF (f := f7) (bs := R7) (q := q8) C hin hP hD hS 9 (by decide) (hts _ q1700) rfl rfl rfl rfl rfl dX7_init_134 (fun H locs hP hD hS => ?_)
  generalize e8 : (fun j => if j = 9 then .ref q8 else f7 j : Nat → Value) = f8 at hP hD
  generalize r8 : ([(q8, .inl (d 0, 12, .inl fun _ => 0))] :: R7 : List va_W) = R8 at hP hD
  refine lv_aload_n hx hb dX7_init_137 rfl (lv_at hl 0 rfl) ?_
  refine lv_sipush (v := (1400)) hx hb dX7_init_138 (by decide) ?_
  refine bq_newa (atype := .int) (t := 0) (N := 1400) (ty := .int) (bs := ([(h0, .inr (0, bqO 64 f8))] :: R8)) hx hb (hts _ q254) rfl rfl hK hP hD hS hA (fun _ => rfl) (by decide) (by decide) (by decide) (Nat.le_of_ble_eq_true rfl) (Nat.le_of_ble_eq_true rfl) dX7_init_141 (fun q9 H hP hD hS => ?_)
  refine mk_putF (f := f8) (bs := R8) (q := q9) C hin hP hD hS 10 (by decide) (hts _ q1701) rfl rfl rfl rfl rfl dX7_init_143 (fun H locs hP hD hS => ?_)
  generalize e9 : (fun j => if j = 10 then .ref q9 else f8 j : Nat → Value) = f9 at hP hD
  generalize r9 : ([(q9, .inl (d 0, 1400, .inl fun _ => 0))] :: R8 : List va_W) = R9 at hP hD
  refine lv_aload_n hx hb dX7_init_146 rfl (lv_at hl 0 rfl) ?_
  refine lv_sipush (v := (1400)) hx hb dX7_init_147 (by decide) ?_
  refine bq_newa (atype := .int) (t := 0) (N := 1400) (ty := .int) (bs := ([(h0, .inr (0, bqO 64 f9))] :: R9)) hx hb (hts _ q254) rfl rfl hK hP hD hS hA (fun _ => rfl) (by decide) (by decide) (by decide) (Nat.le_of_ble_eq_true rfl) (Nat.le_of_ble_eq_true rfl) dX7_init_150 (fun q10 H hP hD hS => ?_)
  refine mk_putF (f := f9) (bs := R9) (q := q10) C hin hP hD hS 11 (by decide) (hts _ q1702) rfl rfl rfl rfl rfl dX7_init_152 (fun H locs hP hD hS => ?_)
  generalize e10 : (fun j => if j = 11 then .ref q10 else f9 j : Nat → Value) = f10 at hP hD
  generalize r10 : ([(q10, .inl (d 0, 1400, .inl fun _ => 0))] :: R9 : List va_W) = R10 at hP hD
  refine lv_aload_n hx hb dX7_init_155 rfl (lv_at hl 0 rfl) ?_
  refine lv_iconst (v := (3)) hx hb dX7_init_156 (by decide) ?_
  refine bq_newa (atype := .int) (t := 0) (N := 3) (ty := .int) (bs := ([(h0, .inr (0, bqO 64 f10))] :: R10)) hx hb (hts _ q254) rfl rfl hK hP hD hS hA (fun _ => rfl) (by decide) (by decide) (by decide) (Nat.le_of_ble_eq_true rfl) (Nat.le_of_ble_eq_true rfl) dX7_init_157 (fun q11 H hP hD hS => ?_)
  refine mk_putF (f := f10) (bs := R10) (q := q11) C hin hP hD hS 12 (by decide) (hts _ q1703) rfl rfl rfl rfl rfl dX7_init_159 (fun H locs hP hD hS => ?_)
  generalize e11 : (fun j => if j = 12 then .ref q11 else f10 j : Nat → Value) = f11 at hP hD
  generalize r11 : ([(q11, .inl (d 0, 3, .inl fun _ => 0))] :: R10 : List va_W) = R11 at hP hD
  refine lv_aload_n hx hb dX7_init_162 rfl (lv_at hl 0 rfl) ?_
  refine lv_bipush (v := (6)) hx hb dX7_init_163 (by decide) ?_
  refine bq_newa (atype := .int) (t := 0) (N := 6) (ty := .int) (bs := ([(h0, .inr (0, bqO 64 f11))] :: R11)) hx hb (hts _ q254) rfl rfl hK hP hD hS hA (fun _ => rfl) (by decide) (by decide) (by decide) (Nat.le_of_ble_eq_true rfl) (Nat.le_of_ble_eq_true rfl) dX7_init_165 (fun q12 H hP hD hS => ?_)
  refine mk_putF (f := f11) (bs := R11) (q := q12) C hin hP hD hS 13 (by decide) (hts _ q1704) rfl rfl rfl rfl rfl dX7_init_167 (fun H locs hP hD hS => ?_)
  generalize e12 : (fun j => if j = 13 then .ref q12 else f11 j : Nat → Value) = f12 at hP hD
  generalize r12 : ([(q12, .inl (d 0, 6, .inl fun _ => 0))] :: R11 : List va_W) = R12 at hP hD
  refine lv_aload_n hx hb dX7_init_170 rfl (lv_at hl 0 rfl) ?_
  refine lv_sipush (v := (700)) hx hb dX7_init_171 (by decide) ?_
  refine bq_newa (atype := .int) (t := 0) (N := 700) (ty := .int) (bs := ([(h0, .inr (0, bqO 64 f12))] :: R12)) hx hb (hts _ q254) rfl rfl hK hP hD hS hA (fun _ => rfl) (by decide) (by decide) (by decide) (Nat.le_of_ble_eq_true rfl) (Nat.le_of_ble_eq_true rfl) dX7_init_174 (fun q13 H hP hD hS => ?_)
  refine mk_putF (f := f12) (bs := R12) (q := q13) C hin hP hD hS 14 (by decide) (hts _ q1705) rfl rfl rfl rfl rfl dX7_init_176 (fun H locs hP hD hS => ?_)
  generalize e13 : (fun j => if j = 14 then .ref q13 else f12 j : Nat → Value) = f13 at hP hD
  generalize r13 : ([(q13, .inl (d 0, 700, .inl fun _ => 0))] :: R12 : List va_W) = R13 at hP hD
  refine lv_aload_n hx hb dX7_init_179 rfl (lv_at hl 0 rfl) ?_
  refine lv_iconst (v := (-1)) hx hb dX7_init_180 (by decide) ?_
  refine mk_put (f := f13) (bs := R13) (v := .int (-1)) (ty := .int) C hP hD hS 24 (by decide) (hts _ q1715) rfl rfl rfl rfl dX7_init_181 (fun H locs hP hD hS => ?_)
  generalize p24 : (fun j => if j = 24 then .int (-1) else f13 j : Nat → Value) = fp24 at hP hD
  refine lv_aload_n hx hb dX7_init_184 rfl (lv_at hl 0 rfl) ?_
  refine lv_bipush (v := (30)) hx hb dX7_init_185 (by decide) ?_
  refine bq_newa (atype := .int) (t := 0) (N := 30) (ty := .int) (bs := ([(h0, .inr (0, bqO 64 fp24))] :: R13)) hx hb (hts _ q254) rfl rfl hK hP hD hS hA (fun _ => rfl) (by decide) (by decide) (by decide) (Nat.le_of_ble_eq_true rfl) (Nat.le_of_ble_eq_true rfl) dX7_init_187 (fun q14 H hP hD hS => ?_)
  refine mk_putF (f := fp24) (bs := R13) (q := q14) C hin hP hD hS 28 (by decide) (hts _ q1719) rfl rfl rfl rfl rfl dX7_init_189 (fun H locs hP hD hS => ?_)
  generalize e14 : (fun j => if j = 28 then .ref q14 else fp24 j : Nat → Value) = f14 at hP hD
  generalize r14 : ([(q14, .inl (d 0, 30, .inl fun _ => 0))] :: R13 : List va_W) = R14 at hP hD
  refine lv_aload_n hx hb dX7_init_192 rfl (lv_at hl 0 rfl) ?_
  refine lv_bipush (v := (6)) hx hb dX7_init_193 (by decide) ?_
  refine bq_newa (atype := .int) (t := 0) (N := 6) (ty := .int) (bs := ([(h0, .inr (0, bqO 64 f14))] :: R14)) hx hb (hts _ q254) rfl rfl hK hP hD hS hA (fun _ => rfl) (by decide) (by decide) (by decide) (Nat.le_of_ble_eq_true rfl) (Nat.le_of_ble_eq_true rfl) dX7_init_195 (fun q15 H hP hD hS => ?_)
  refine mk_putF (f := f14) (bs := R14) (q := q15) C hin hP hD hS 29 (by decide) (hts _ q1720) rfl rfl rfl rfl rfl dX7_init_197 (fun H locs hP hD hS => ?_)
  generalize e15 : (fun j => if j = 29 then .ref q15 else f14 j : Nat → Value) = f15 at hP hD
  generalize r15 : ([(q15, .inl (d 0, 6, .inl fun _ => 0))] :: R14 : List va_W) = R15 at hP hD
  refine lv_aload_n hx hb dX7_init_200 rfl (lv_at hl 0 rfl) ?_
  refine lv_sipush (v := (1640)) hx hb dX7_init_201 (by decide) ?_
  refine bq_newa (atype := .int) (t := 0) (N := 1640) (ty := .int) (bs := ([(h0, .inr (0, bqO 64 f15))] :: R15)) hx hb (hts _ q254) rfl rfl hK hP hD hS hA (fun _ => rfl) (by decide) (by decide) (by decide) (Nat.le_of_ble_eq_true rfl) (Nat.le_of_ble_eq_true rfl) dX7_init_204 (fun q16 H hP hD hS => ?_)
  refine mk_putF (f := f15) (bs := R15) (q := q16) C hin hP hD hS 30 (by decide) (hts _ q1721) rfl rfl rfl rfl rfl dX7_init_206 (fun H locs hP hD hS => ?_)
  generalize e16 : (fun j => if j = 30 then .ref q16 else f15 j : Nat → Value) = f16 at hP hD
  generalize r16 : ([(q16, .inl (d 0, 1640, .inl fun _ => 0))] :: R15 : List va_W) = R16 at hP hD
  refine lv_aload_n hx hb dX7_init_209 rfl (lv_at hl 0 rfl) ?_
  refine lv_bipush (v := (6)) hx hb dX7_init_210 (by decide) ?_
  refine bq_newa (atype := .int) (t := 0) (N := 6) (ty := .int) (bs := ([(h0, .inr (0, bqO 64 f16))] :: R16)) hx hb (hts _ q254) rfl rfl hK hP hD hS hA (fun _ => rfl) (by decide) (by decide) (by decide) (Nat.le_of_ble_eq_true rfl) (Nat.le_of_ble_eq_true rfl) dX7_init_212 (fun q17 H hP hD hS => ?_)
  refine mk_putF (f := f16) (bs := R16) (q := q17) C hin hP hD hS 38 (by decide) (hts _ q1729) rfl rfl rfl rfl rfl dX7_init_214 (fun H locs hP hD hS => ?_)
  generalize e17 : (fun j => if j = 38 then .ref q17 else f16 j : Nat → Value) = f17 at hP hD
  generalize r17 : ([(q17, .inl (d 0, 6, .inl fun _ => 0))] :: R16 : List va_W) = R17 at hP hD
  refine lv_aload_n hx hb dX7_init_217 rfl (lv_at hl 0 rfl) ?_
  refine lv_bipush (v := (64)) hx hb dX7_init_218 (by decide) ?_
  refine bq_newa (atype := .int) (t := 0) (N := 64) (ty := .int) (bs := ([(h0, .inr (0, bqO 64 f17))] :: R17)) hx hb (hts _ q254) rfl rfl hK hP hD hS hA (fun _ => rfl) (by decide) (by decide) (by decide) (Nat.le_of_ble_eq_true rfl) (Nat.le_of_ble_eq_true rfl) dX7_init_220 (fun q18 H hP hD hS => ?_)
  refine mk_putF (f := f17) (bs := R17) (q := q18) C hin hP hD hS 39 (by decide) (hts _ q1730) rfl rfl rfl rfl rfl dX7_init_222 (fun H locs hP hD hS => ?_)
  generalize e18 : (fun j => if j = 39 then .ref q18 else f17 j : Nat → Value) = f18 at hP hD
  generalize r18 : ([(q18, .inl (d 0, 64, .inl fun _ => 0))] :: R17 : List va_W) = R18 at hP hD
  refine lv_aload_n hx hb dX7_init_225 rfl (lv_at hl 0 rfl) ?_
  refine lv_bipush (v := (30)) hx hb dX7_init_226 (by decide) ?_
  refine bq_newa (atype := .int) (t := 0) (N := 30) (ty := .int) (bs := ([(h0, .inr (0, bqO 64 f18))] :: R18)) hx hb (hts _ q254) rfl rfl hK hP hD hS hA (fun _ => rfl) (by decide) (by decide) (by decide) (Nat.le_of_ble_eq_true rfl) (Nat.le_of_ble_eq_true rfl) dX7_init_228 (fun q19 H hP hD hS => ?_)
  refine mk_putF (f := f18) (bs := R18) (q := q19) C hin hP hD hS 40 (by decide) (hts _ q1731) rfl rfl rfl rfl rfl dX7_init_230 (fun H locs hP hD hS => ?_)
  generalize e19 : (fun j => if j = 40 then .ref q19 else f18 j : Nat → Value) = f19 at hP hD
  generalize r19 : ([(q19, .inl (d 0, 30, .inl fun _ => 0))] :: R18 : List va_W) = R19 at hP hD
  refine lv_aload_n hx hb dX7_init_233 rfl (lv_at hl 0 rfl) ?_
  refine lv_bipush (v := (41)) hx hb dX7_init_234 (by decide) ?_
  refine bq_newa (atype := .int) (t := 0) (N := 41) (ty := .int) (bs := ([(h0, .inr (0, bqO 64 f19))] :: R19)) hx hb (hts _ q254) rfl rfl hK hP hD hS hA (fun _ => rfl) (by decide) (by decide) (by decide) (Nat.le_of_ble_eq_true rfl) (Nat.le_of_ble_eq_true rfl) dX7_init_236 (fun q20 H hP hD hS => ?_)
  refine mk_putF (f := f19) (bs := R19) (q := q20) C hin hP hD hS 42 (by decide) (hts _ q1733) rfl rfl rfl rfl rfl dX7_init_238 (fun H locs hP hD hS => ?_)
  generalize e20 : (fun j => if j = 42 then .ref q20 else f19 j : Nat → Value) = f20 at hP hD
  generalize r20 : ([(q20, .inl (d 0, 41, .inl fun _ => 0))] :: R19 : List va_W) = R20 at hP hD
  refine lv_aload_n hx hb dX7_init_241 rfl (lv_at hl 0 rfl) ?_
  refine lv_bipush (v := (30)) hx hb dX7_init_242 (by decide) ?_
  refine bq_newa (atype := .int) (t := 0) (N := 30) (ty := .int) (bs := ([(h0, .inr (0, bqO 64 f20))] :: R20)) hx hb (hts _ q254) rfl rfl hK hP hD hS hA (fun _ => rfl) (by decide) (by decide) (by decide) (Nat.le_of_ble_eq_true rfl) (Nat.le_of_ble_eq_true rfl) dX7_init_244 (fun q21 H hP hD hS => ?_)
  refine mk_putF (f := f20) (bs := R20) (q := q21) C hin hP hD hS 43 (by decide) (hts _ q1734) rfl rfl rfl rfl rfl dX7_init_246 (fun H locs hP hD hS => ?_)
  generalize e21 : (fun j => if j = 43 then .ref q21 else f20 j : Nat → Value) = f21 at hP hD
  generalize r21 : ([(q21, .inl (d 0, 30, .inl fun _ => 0))] :: R20 : List va_W) = R21 at hP hD
  refine lv_aload_n hx hb dX7_init_249 rfl (lv_at hl 0 rfl) ?_
  refine lv_sipush (v := (448)) hx hb dX7_init_250 (by decide) ?_
  refine bq_newa (atype := .int) (t := 0) (N := 448) (ty := .int) (bs := ([(h0, .inr (0, bqO 64 f21))] :: R21)) hx hb (hts _ q254) rfl rfl hK hP hD hS hA (fun _ => rfl) (by decide) (by decide) (by decide) (Nat.le_of_ble_eq_true rfl) (Nat.le_of_ble_eq_true rfl) dX7_init_253 (fun q22 H hP hD hS => ?_)
  refine mk_putF (f := f21) (bs := R21) (q := q22) C hin hP hD hS 44 (by decide) (hts _ q1735) rfl rfl rfl rfl rfl dX7_init_255 (fun H locs hP hD hS => ?_)
  generalize e22 : (fun j => if j = 44 then .ref q22 else f21 j : Nat → Value) = f22 at hP hD
  generalize r22 : ([(q22, .inl (d 0, 448, .inl fun _ => 0))] :: R21 : List va_W) = R22 at hP hD
  refine lv_aload_n hx hb dX7_init_258 rfl (lv_at hl 0 rfl) ?_
  refine lv_bipush (v := (6)) hx hb dX7_init_259 (by decide) ?_
  refine bq_newa (atype := .int) (t := 0) (N := 6) (ty := .int) (bs := ([(h0, .inr (0, bqO 64 f22))] :: R22)) hx hb (hts _ q254) rfl rfl hK hP hD hS hA (fun _ => rfl) (by decide) (by decide) (by decide) (Nat.le_of_ble_eq_true rfl) (Nat.le_of_ble_eq_true rfl) dX7_init_261 (fun q23 H hP hD hS => ?_)
  refine mk_putF (f := f22) (bs := R22) (q := q23) C hin hP hD hS 45 (by decide) (hts _ q1736) rfl rfl rfl rfl rfl dX7_init_263 (fun H locs hP hD hS => ?_)
  generalize e23 : (fun j => if j = 45 then .ref q23 else f22 j : Nat → Value) = f23 at hP hD
  generalize r23 : ([(q23, .inl (d 0, 6, .inl fun _ => 0))] :: R22 : List va_W) = R23 at hP hD
  refine lv_aload_n hx hb dX7_init_266 rfl (lv_at hl 0 rfl) ?_
  refine lv_bipush (v := (8)) hx hb dX7_init_267 (by decide) ?_
  refine bq_newa (atype := .int) (t := 0) (N := 8) (ty := .int) (bs := ([(h0, .inr (0, bqO 64 f23))] :: R23)) hx hb (hts _ q254) rfl rfl hK hP hD hS hA (fun _ => rfl) (by decide) (by decide) (by decide) (Nat.le_of_ble_eq_true rfl) (Nat.le_of_ble_eq_true rfl) dX7_init_269 (fun q24 H hP hD hS => ?_)
  refine mk_putF (f := f23) (bs := R23) (q := q24) C hin hP hD hS 46 (by decide) (hts _ q1737) rfl rfl rfl rfl rfl dX7_init_271 (fun H locs hP hD hS => ?_)
  generalize e24 : (fun j => if j = 46 then .ref q24 else f23 j : Nat → Value) = f24 at hP hD
  generalize r24 : ([(q24, .inl (d 0, 8, .inl fun _ => 0))] :: R23 : List va_W) = R24 at hP hD
  refine lv_aload_n hx hb dX7_init_274 rfl (lv_at hl 0 rfl) ?_
  refine lv_bipush (v := (8)) hx hb dX7_init_275 (by decide) ?_
  refine bq_newa (atype := .int) (t := 0) (N := 8) (ty := .int) (bs := ([(h0, .inr (0, bqO 64 f24))] :: R24)) hx hb (hts _ q254) rfl rfl hK hP hD hS hA (fun _ => rfl) (by decide) (by decide) (by decide) (Nat.le_of_ble_eq_true rfl) (Nat.le_of_ble_eq_true rfl) dX7_init_277 (fun q25 H hP hD hS => ?_)
  refine mk_putF (f := f24) (bs := R24) (q := q25) C hin hP hD hS 47 (by decide) (hts _ q1738) rfl rfl rfl rfl rfl dX7_init_279 (fun H locs hP hD hS => ?_)
  generalize e25 : (fun j => if j = 47 then .ref q25 else f24 j : Nat → Value) = f25 at hP hD
  generalize r25 : ([(q25, .inl (d 0, 8, .inl fun _ => 0))] :: R24 : List va_W) = R25 at hP hD
  refine lv_aload_n hx hb dX7_init_282 rfl (lv_at hl 0 rfl) ?_
  refine lv_bipush (v := (8)) hx hb dX7_init_283 (by decide) ?_
  refine bq_newa (atype := .int) (t := 0) (N := 8) (ty := .int) (bs := ([(h0, .inr (0, bqO 64 f25))] :: R25)) hx hb (hts _ q254) rfl rfl hK hP hD hS hA (fun _ => rfl) (by decide) (by decide) (by decide) (Nat.le_of_ble_eq_true rfl) (Nat.le_of_ble_eq_true rfl) dX7_init_285 (fun q26 H hP hD hS => ?_)
  refine mk_putF (f := f25) (bs := R25) (q := q26) C hin hP hD hS 48 (by decide) (hts _ q1739) rfl rfl rfl rfl rfl dX7_init_287 (fun H locs hP hD hS => ?_)
  generalize e26 : (fun j => if j = 48 then .ref q26 else f25 j : Nat → Value) = f26 at hP hD
  generalize r26 : ([(q26, .inl (d 0, 8, .inl fun _ => 0))] :: R25 : List va_W) = R26 at hP hD
  refine lv_aload_n hx hb dX7_init_290 rfl (lv_at hl 0 rfl) ?_
  refine lv_bipush (v := (41)) hx hb dX7_init_291 (by decide) ?_
  refine bq_newa (atype := .int) (t := 0) (N := 41) (ty := .int) (bs := ([(h0, .inr (0, bqO 64 f26))] :: R26)) hx hb (hts _ q254) rfl rfl hK hP hD hS hA (fun _ => rfl) (by decide) (by decide) (by decide) (Nat.le_of_ble_eq_true rfl) (Nat.le_of_ble_eq_true rfl) dX7_init_293 (fun q27 H hP hD hS => ?_)
  refine mk_putF (f := f26) (bs := R26) (q := q27) C hin hP hD hS 49 (by decide) (hts _ q1740) rfl rfl rfl rfl rfl dX7_init_295 (fun H locs hP hD hS => ?_)
  generalize e27 : (fun j => if j = 49 then .ref q27 else f26 j : Nat → Value) = f27 at hP hD
  generalize r27 : ([(q27, .inl (d 0, 41, .inl fun _ => 0))] :: R26 : List va_W) = R27 at hP hD
  refine lv_aload_n hx hb dX7_init_298 rfl (lv_at hl 0 rfl) ?_
  refine lv_bipush (v := (60)) hx hb dX7_init_299 (by decide) ?_
  refine bq_newa (atype := .int) (t := 0) (N := 60) (ty := .int) (bs := ([(h0, .inr (0, bqO 64 f27))] :: R27)) hx hb (hts _ q254) rfl rfl hK hP hD hS hA (fun _ => rfl) (by decide) (by decide) (by decide) (Nat.le_of_ble_eq_true rfl) (Nat.le_of_ble_eq_true rfl) dX7_init_301 (fun q28 H hP hD hS => ?_)
  refine mk_putF (f := f27) (bs := R27) (q := q28) C hin hP hD hS 50 (by decide) (hts _ q1741) rfl rfl rfl rfl rfl dX7_init_303 (fun H locs hP hD hS => ?_)
  generalize e28 : (fun j => if j = 50 then .ref q28 else f27 j : Nat → Value) = f28 at hP hD
  generalize r28 : ([(q28, .inl (d 0, 60, .inl fun _ => 0))] :: R27 : List va_W) = R28 at hP hD
  refine lv_aload_n hx hb dX7_init_306 rfl (lv_at hl 0 rfl) ?_
  refine lv_sipush (v := (1800)) hx hb dX7_init_307 (by decide) ?_
  refine bq_newa (atype := .int) (t := 0) (N := 1800) (ty := .int) (bs := ([(h0, .inr (0, bqO 64 f28))] :: R28)) hx hb (hts _ q254) rfl rfl hK hP hD hS hA (fun _ => rfl) (by decide) (by decide) (by decide) (Nat.le_of_ble_eq_true rfl) (Nat.le_of_ble_eq_true rfl) dX7_init_310 (fun q29 H hP hD hS => ?_)
  refine mk_putF (f := f28) (bs := R28) (q := q29) C hin hP hD hS 51 (by decide) (hts _ q1742) rfl rfl rfl rfl rfl dX7_init_312 (fun H locs hP hD hS => ?_)
  generalize e29 : (fun j => if j = 51 then .ref q29 else f28 j : Nat → Value) = f29 at hP hD
  generalize r29 : ([(q29, .inl (d 0, 1800, .inl fun _ => 0))] :: R28 : List va_W) = R29 at hP hD
  refine lv_aload_n hx hb dX7_init_315 rfl (lv_at hl 0 rfl) ?_
  refine lv_bipush (v := (8)) hx hb dX7_init_316 (by decide) ?_
  refine bq_newa (atype := .int) (t := 0) (N := 8) (ty := .int) (bs := ([(h0, .inr (0, bqO 64 f29))] :: R29)) hx hb (hts _ q254) rfl rfl hK hP hD hS hA (fun _ => rfl) (by decide) (by decide) (by decide) (Nat.le_of_ble_eq_true rfl) (Nat.le_of_ble_eq_true rfl) dX7_init_318 (fun q30 H hP hD hS => ?_)
  refine mk_putF (f := f29) (bs := R29) (q := q30) C hin hP hD hS 53 (by decide) (hts _ q1744) rfl rfl rfl rfl rfl dX7_init_320 (fun H locs hP hD hS => ?_)
  generalize e30 : (fun j => if j = 53 then .ref q30 else f29 j : Nat → Value) = f30 at hP hD
  generalize r30 : ([(q30, .inl (d 0, 8, .inl fun _ => 0))] :: R29 : List va_W) = R30 at hP hD
  refine lv_aload_n hx hb dX7_init_323 rfl (lv_at hl 0 rfl) ?_
  refine lv_bipush (v := (41)) hx hb dX7_init_324 (by decide) ?_
  refine bq_newa (atype := .int) (t := 0) (N := 41) (ty := .int) (bs := ([(h0, .inr (0, bqO 64 f30))] :: R30)) hx hb (hts _ q254) rfl rfl hK hP hD hS hA (fun _ => rfl) (by decide) (by decide) (by decide) (Nat.le_of_ble_eq_true rfl) (Nat.le_of_ble_eq_true rfl) dX7_init_326 (fun q31 H hP hD hS => ?_)
  refine mk_putF (f := f30) (bs := R30) (q := q31) C hin hP hD hS 58 (by decide) (hts _ q1749) rfl rfl rfl rfl rfl dX7_init_328 (fun H locs hP hD hS => ?_)
  generalize e31 : (fun j => if j = 58 then .ref q31 else f30 j : Nat → Value) = f31 at hP hD
  generalize r31 : ([(q31, .inl (d 0, 41, .inl fun _ => 0))] :: R30 : List va_W) = R31 at hP hD
  refine lv_aload_n hx hb dX7_init_331 rfl (lv_at hl 0 rfl) ?_
  refine lv_sipush (v := (1640)) hx hb dX7_init_332 (by decide) ?_
  refine bq_newa (atype := .int) (t := 0) (N := 1640) (ty := .int) (bs := ([(h0, .inr (0, bqO 64 f31))] :: R31)) hx hb (hts _ q254) rfl rfl hK hP hD hS hA (fun _ => rfl) (by decide) (by decide) (by decide) (Nat.le_of_ble_eq_true rfl) (Nat.le_of_ble_eq_true rfl) dX7_init_335 (fun q32 H hP hD hS => ?_)
  refine mk_putF (f := f31) (bs := R31) (q := q32) C hin hP hD hS 59 (by decide) (hts _ q1750) rfl rfl rfl rfl rfl dX7_init_337 (fun H locs hP hD hS => ?_)
  generalize e32 : (fun j => if j = 59 then .ref q32 else f31 j : Nat → Value) = f32 at hP hD
  generalize r32 : ([(q32, .inl (d 0, 1640, .inl fun _ => 0))] :: R31 : List va_W) = R32 at hP hD
  refine lv_aload_n hx hb dX7_init_340 rfl (lv_at hl 0 rfl) ?_
  refine lv_bipush (v := (8)) hx hb dX7_init_341 (by decide) ?_
  refine bq_newa (atype := .int) (t := 0) (N := 8) (ty := .int) (bs := ([(h0, .inr (0, bqO 64 f32))] :: R32)) hx hb (hts _ q254) rfl rfl hK hP hD hS hA (fun _ => rfl) (by decide) (by decide) (by decide) (Nat.le_of_ble_eq_true rfl) (Nat.le_of_ble_eq_true rfl) dX7_init_343 (fun q33 H hP hD hS => ?_)
  refine mk_putF (f := f32) (bs := R32) (q := q33) C hin hP hD hS 60 (by decide) (hts _ q1751) rfl rfl rfl rfl rfl dX7_init_345 (fun H locs hP hD hS => ?_)
  generalize e33 : (fun j => if j = 60 then .ref q33 else f32 j : Nat → Value) = f33 at hP hD
  generalize r33 : ([(q33, .inl (d 0, 8, .inl fun _ => 0))] :: R32 : List va_W) = R33 at hP hD
  refine lv_aload_n hx hb dX7_init_348 rfl (lv_at hl 0 rfl) ?_
  refine lv_bipush (v := (8)) hx hb dX7_init_349 (by decide) ?_
  refine bq_newa (atype := .int) (t := 0) (N := 8) (ty := .int) (bs := ([(h0, .inr (0, bqO 64 f33))] :: R33)) hx hb (hts _ q254) rfl rfl hK hP hD hS hA (fun _ => rfl) (by decide) (by decide) (by decide) (Nat.le_of_ble_eq_true rfl) (Nat.le_of_ble_eq_true rfl) dX7_init_351 (fun q34 H hP hD hS => ?_)
  refine mk_putF (f := f33) (bs := R33) (q := q34) C hin hP hD hS 61 (by decide) (hts _ q1752) rfl rfl rfl rfl rfl dX7_init_353 (fun H locs hP hD hS => ?_)
  generalize e34 : (fun j => if j = 61 then .ref q34 else f33 j : Nat → Value) = f34 at hP hD
  generalize r34 : ([(q34, .inl (d 0, 8, .inl fun _ => 0))] :: R33 : List va_W) = R34 at hP hD
  refine lv_aload_n hx hb dX7_init_356 rfl (lv_at hl 0 rfl) ?_
  refine lv_bipush (v := (8)) hx hb dX7_init_357 (by decide) ?_
  refine bq_newa (atype := .int) (t := 0) (N := 8) (ty := .int) (bs := ([(h0, .inr (0, bqO 64 f34))] :: R34)) hx hb (hts _ q254) rfl rfl hK hP hD hS hA (fun _ => rfl) (by decide) (by decide) (by decide) (Nat.le_of_ble_eq_true rfl) (Nat.le_of_ble_eq_true rfl) dX7_init_359 (fun q35 H hP hD hS => ?_)
  refine mk_putF (f := f34) (bs := R34) (q := q35) C hin hP hD hS 62 (by decide) (hts _ q1753) rfl rfl rfl rfl rfl dX7_init_361 (fun H locs hP hD hS => ?_)
  generalize e35 : (fun j => if j = 62 then .ref q35 else f34 j : Nat → Value) = f35 at hP hD
  generalize r35 : ([(q35, .inl (d 0, 8, .inl fun _ => 0))] :: R34 : List va_W) = R35 at hP hD
  refine lv_aload_n hx hb dX7_init_364 rfl (lv_at hl 0 rfl) ?_
  refine lv_iconst (v := (3)) hx hb dX7_init_365 (by decide) ?_
  refine bq_newa (atype := .int) (t := 0) (N := 3) (ty := .int) (bs := ([(h0, .inr (0, bqO 64 f35))] :: R35)) hx hb (hts _ q254) rfl rfl hK hP hD hS hA (fun _ => rfl) (by decide) (by decide) (by decide) (Nat.le_of_ble_eq_true rfl) (Nat.le_of_ble_eq_true rfl) dX7_init_366 (fun q36 H hP hD hS => ?_)
  refine mk_putF (f := f35) (bs := R35) (q := q36) C hin hP hD hS 63 (by decide) (hts _ q1754) rfl rfl rfl rfl rfl dX7_init_368 (fun H locs hP hD hS => ?_)
  generalize e36 : (fun j => if j = 63 then .ref q36 else f35 j : Nat → Value) = f36 at hP hD
  generalize r36 : ([(q36, .inl (d 0, 3, .inl fun _ => 0))] :: R35 : List va_W) = R36 at hP hD
  refine lv_aload_n hx hb dX7_init_371 rfl (lv_at hl 0 rfl) ?_
  refine lv_iconst (v := (0)) hx hb dX7_init_372 (by decide) ?_
  subst e36 e35 e34 e33 e32 e31 e30 e29 e28 e27 e26 e25 e24 e23 e22 e21 e20 e19 e18 e17 e16 e15 e14 p24 e13 e12 e11 e10 e9 e8 e7 e6 e5 e4 p3 e3 e2 e1
  subst r36 r35 r34 r33 r32 r31 r30 r29 r28 r27 r26 r25 r24 r23 r22 r21 r20 r19 r18 r17 r16 r15 r14 r13 r12 r11 r10 r9 r8 r7 r6 r5 r4 r3 r2 r1
  have hP := hP
  refine mk_end hok hbg C hr hl (fun k => match k with | 0 => h0 | 1 => q1 | 2 => q2 | 3 => q3 | 4 => q4 | 5 => q5 | 6 => q6 | 7 => q7 | 8 => q8 | 9 => q9 | 10 => q10 | 11 => q11 | 12 => q12 | 13 => q13 | 14 => q14 | 15 => q15 | 16 => q16 | 17 => q17 | 18 => q18 | 19 => q19 | 20 => q20 | 21 => q21 | 22 => q22 | 23 => q23 | 24 => q24 | 25 => q25 | 26 => q26 | 27 => q27 | 28 => q28 | 29 => q29 | 30 => q30 | 31 => q31 | 32 => q32 | 33 => q33 | 34 => q34 | 35 => q35 | 36 => q36 | _ => 0) rfl ?_ ?_ hS
  · exact bq_Pp (bq_flat (bq_pm (cs := [[(h0, .inr (0, tF (fun k => match k with | 0 => h0 | 1 => q1 | 2 => q2 | 3 => q3 | 4 => q4 | 5 => q5 | 6 => q6 | 7 => q7 | 8 => q8 | 9 => q9 | 10 => q10 | 11 => q11 | 12 => q12 | 13 => q13 | 14 => q14 | 15 => q15 | 16 => q16 | 17 => q17 | 18 => q18 | 19 => q19 | 20 => q20 | 21 => q21 | 22 => q22 | 23 => q23 | 24 => q24 | 25 => q25 | 26 => q26 | 27 => q27 | 28 => q28 | 29 => q29 | 30 => q30 | 31 => q31 | 32 => q32 | 33 => q33 | 34 => q34 | 35 => q35 | 36 => q36 | _ => 0) X bqT0))], [(q1, .inl (d 1, 2, .inr (.inr (.inr (.inr (fun k => some (X (bqSA 1 k))))))))], [(q2, .inl (d 1, 6, .inr (.inr (.inr (.inr (fun k => some (X (bqSA 2 k))))))))], [(q3, .inl (d 1, 4, .inr (.inr (.inr (.inr (fun k => some (X (bqSA 3 k))))))))], [(q4, .inl (d 0, 18, .inl fun _ => 0))], [(q5, .inl (d 0, 60, .inl fun _ => 0))], [(q6, .inl (d 0, 12, .inl fun _ => 0))], [(q7, .inl (d 0, 12, .inl fun _ => 0))], [(q8, .inl (d 0, 12, .inl fun _ => 0))], [(q9, .inl (d 0, 1400, .inl fun _ => 0))], [(q10, .inl (d 0, 1400, .inl fun _ => 0))], [(q11, .inl (d 0, 3, .inl fun _ => 0))], [(q12, .inl (d 0, 6, .inl fun _ => 0))], [(q13, .inl (d 0, 700, .inl fun _ => 0))], [(q14, .inl (d 0, 30, .inl fun _ => 0))], [(q15, .inl (d 0, 6, .inl fun _ => 0))], [(q16, .inl (d 0, 1640, .inl fun _ => 0))], [(q17, .inl (d 0, 6, .inl fun _ => 0))], [(q18, .inl (d 0, 64, .inl fun _ => 0))], [(q19, .inl (d 0, 30, .inl fun _ => 0))], [(q20, .inl (d 0, 41, .inl fun _ => 0))], [(q21, .inl (d 0, 30, .inl fun _ => 0))], [(q22, .inl (d 0, 448, .inl fun _ => 0))], [(q23, .inl (d 0, 6, .inl fun _ => 0))], [(q24, .inl (d 0, 8, .inl fun _ => 0))], [(q25, .inl (d 0, 8, .inl fun _ => 0))], [(q26, .inl (d 0, 8, .inl fun _ => 0))], [(q27, .inl (d 0, 41, .inl fun _ => 0))], [(q28, .inl (d 0, 60, .inl fun _ => 0))], [(q29, .inl (d 0, 1800, .inl fun _ => 0))], [(q30, .inl (d 0, 8, .inl fun _ => 0))], [(q31, .inl (d 0, 41, .inl fun _ => 0))], [(q32, .inl (d 0, 1640, .inl fun _ => 0))], [(q33, .inl (d 0, 8, .inl fun _ => 0))], [(q34, .inl (d 0, 8, .inl fun _ => 0))], [(q35, .inl (d 0, 8, .inl fun _ => 0))], [(q36, .inl (d 0, 3, .inl fun _ => 0))]]) [0, 36, 35, 34, 33, 32, 31, 30, 29, 28, 27, 26, 25, 24, 23, 22, 21, 20, 19, 18, 17, 16, 15, 14, 13, 12, 11, 10, 9, 8, 7, 6, 5, 4, 3, 2, 1] rfl rfl rfl)) hP
  · exact bq_Dp (bq_flat (bq_pm (cs := [[(h0, .inr (0, tF (fun k => match k with | 0 => h0 | 1 => q1 | 2 => q2 | 3 => q3 | 4 => q4 | 5 => q5 | 6 => q6 | 7 => q7 | 8 => q8 | 9 => q9 | 10 => q10 | 11 => q11 | 12 => q12 | 13 => q13 | 14 => q14 | 15 => q15 | 16 => q16 | 17 => q17 | 18 => q18 | 19 => q19 | 20 => q20 | 21 => q21 | 22 => q22 | 23 => q23 | 24 => q24 | 25 => q25 | 26 => q26 | 27 => q27 | 28 => q28 | 29 => q29 | 30 => q30 | 31 => q31 | 32 => q32 | 33 => q33 | 34 => q34 | 35 => q35 | 36 => q36 | _ => 0) X bqT0))], [(q1, .inl (d 1, 2, .inr (.inr (.inr (.inr (fun k => some (X (bqSA 1 k))))))))], [(q2, .inl (d 1, 6, .inr (.inr (.inr (.inr (fun k => some (X (bqSA 2 k))))))))], [(q3, .inl (d 1, 4, .inr (.inr (.inr (.inr (fun k => some (X (bqSA 3 k))))))))], [(q4, .inl (d 0, 18, .inl fun _ => 0))], [(q5, .inl (d 0, 60, .inl fun _ => 0))], [(q6, .inl (d 0, 12, .inl fun _ => 0))], [(q7, .inl (d 0, 12, .inl fun _ => 0))], [(q8, .inl (d 0, 12, .inl fun _ => 0))], [(q9, .inl (d 0, 1400, .inl fun _ => 0))], [(q10, .inl (d 0, 1400, .inl fun _ => 0))], [(q11, .inl (d 0, 3, .inl fun _ => 0))], [(q12, .inl (d 0, 6, .inl fun _ => 0))], [(q13, .inl (d 0, 700, .inl fun _ => 0))], [(q14, .inl (d 0, 30, .inl fun _ => 0))], [(q15, .inl (d 0, 6, .inl fun _ => 0))], [(q16, .inl (d 0, 1640, .inl fun _ => 0))], [(q17, .inl (d 0, 6, .inl fun _ => 0))], [(q18, .inl (d 0, 64, .inl fun _ => 0))], [(q19, .inl (d 0, 30, .inl fun _ => 0))], [(q20, .inl (d 0, 41, .inl fun _ => 0))], [(q21, .inl (d 0, 30, .inl fun _ => 0))], [(q22, .inl (d 0, 448, .inl fun _ => 0))], [(q23, .inl (d 0, 6, .inl fun _ => 0))], [(q24, .inl (d 0, 8, .inl fun _ => 0))], [(q25, .inl (d 0, 8, .inl fun _ => 0))], [(q26, .inl (d 0, 8, .inl fun _ => 0))], [(q27, .inl (d 0, 41, .inl fun _ => 0))], [(q28, .inl (d 0, 60, .inl fun _ => 0))], [(q29, .inl (d 0, 1800, .inl fun _ => 0))], [(q30, .inl (d 0, 8, .inl fun _ => 0))], [(q31, .inl (d 0, 41, .inl fun _ => 0))], [(q32, .inl (d 0, 1640, .inl fun _ => 0))], [(q33, .inl (d 0, 8, .inl fun _ => 0))], [(q34, .inl (d 0, 8, .inl fun _ => 0))], [(q35, .inl (d 0, 8, .inl fun _ => 0))], [(q36, .inl (d 0, 3, .inl fun _ => 0))]]) [0, 36, 35, 34, 33, 32, 31, 30, 29, 28, 27, 26, 25, 24, 23, 22, 21, 20, 19, 18, 17, 16, 15, 14, 13, 12, 11, 10, 9, 8, 7, 6, 5, 4, 3, 2, 1] rfl rfl rfl)) hD
