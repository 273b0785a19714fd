/-! the twin's object while it is made: its fields as a function -/
set_option maxRecDepth 100000
def bqO (n : Nat) (f : Nat → Value) : List Value := (List.range n).map f
theorem bqO_get {n k : Nat} {f : Nat → Value} (h : k < n) : (bqO n f)[k]? = some (f k) := by simp [bqO, h]
theorem bqO_len {n : Nat} {f : Nat → Value} : (bqO n f).length = n := by simp [bqO]
theorem bqO_set {n k : Nat} {f : Nat → Value} {v : Value} (h : k < n) : (bqO n f).set k v = bqO n (fun j => if j = k then v else f j) := by
  refine List.ext_getElem? fun i => ?_
  by_cases hi : i < n
  · rw [bqO_get hi, List.getElem?_set]
    by_cases e : k = i
    · subst e
      rw [if_pos rfl, if_pos (by rw [bqO_len]; exact h), if_pos rfl]
    · rw [if_neg e, bqO_get hi, if_neg (fun q => e q.symm)]
  · rw [List.getElem?_eq_none (by rw [List.length_set, bqO_len]; omega), List.getElem?_eq_none (by rw [bqO_len]; omega)]
section MKI
variable {p : Program} {l : Launch} {e : Env} {R : Room} {s : State} {m : MethodId} {args : Array Value} {below : List Frame} {meth : Method} {c : Code} {H : Heap} {locs : List Loc} {Q : State → Prop} {A : Nat → Prop} {D : va_G} {am : bqAm} {NF NL pc kc ks index h0 : Nat} {ls : Array Slot} {rest : List Value} {d : Nat → ClassId} {f : Nat → Value} {bs : List va_W} {x : va_E} {q : Nat} {v : Value} {ty : FieldType}
theorem mk_putF (C : bq_C p R s m args meth c A D bqCl (bqTy d) am cX7_init 1 RX7 NF NL) (hin : meth.name = "<init>") (hP : va_P D bqCl (List.flatten ([(q, x)] :: [(h0, .inr (0, bqO 64 f))] :: bs)) H) (hD : va_D A (List.flatten ([(q, x)] :: [(h0, .inr (0, bqO 64 f))] :: bs))) (hS : va_S A s.heap H locs) (k : Nat) (hk : k < 64) (hlink : (Cond.fieldLink RX7 index RX7 (TX7 k).2.1 (TX7 k).2.2.1).before args s = true) (hfin : (TX7 k).2.2.2 = true) (hdecl : (TX7 k).1 = RX7) (hd : parseFieldDescriptor (TX7 k).2.2.1 = some ty) (hn : narrow ty v = v) (hfit : fits ty v = true) (hdg : decode cX7_init pc = .ok (.putfield index, 3))
    (kk : ∀ (H1 : Heap) (locs1 : List Loc), va_P D bqCl (List.flatten ([(h0, .inr (0, bqO 64 (fun j => if j = k then v else f j)))] :: [(q, x)] :: bs)) H1 → va_D A (List.flatten ([(h0, .inr (0, bqO 64 (fun j => if j = k then v else f j)))] :: [(q, x)] :: bs)) → va_S A s.heap H1 locs1 → W p l e R s m args below meth c H1 locs1 kc ks Q (F0 m (pc + 3) ls rest)) : W p l e R s m args below meth c H locs kc ks Q (F0 m pc ls (v :: .ref h0 :: rest)) := by
  obtain ⟨hx, hb, hown, hts, hml, hlocks, hA, hK, hm, hRf, hRl, hok⟩ := C
  refine va_putF (D := D) (ci := 0) (C := RX7) (T := TX7) (N := 64) (ref := RX7) (fs := bqO 64 f) hx hb hts in_X7 tyX7 tyX7_ok nmX7 hown hK hP hD hS 1 rfl rfl k hk hlink (tw_same k) hfin hin hdecl hd hn hfit (by rw [bqO_len]; exact hk) hdg (fun H1 locs1 hP hD hS => ?_)
  rw [bqO_set hk] at hP hD
  exact kk H1 locs1 (bq_Pp (bq_flat (List.Perm.swap [(h0, _)] [(q, x)] bs)) hP) (bq_Dp (bq_flat (List.Perm.swap [(h0, _)] [(q, x)] bs)) hD) hS
theorem mk_put (C : bq_C p R s m args meth c A D bqCl (bqTy d) am cX7_init 1 RX7 NF NL) (hP : va_P D bqCl (List.flatten ([(h0, .inr (0, bqO 64 f))] :: bs)) H) (hD : va_D A (List.flatten ([(h0, .inr (0, bqO 64 f))] :: bs))) (hS : va_S A s.heap H locs) (k : Nat) (hk : k < 64) (hlink : (Cond.fieldLink RX7 index RX7 (TX7 k).2.1 (TX7 k).2.2.1).before args s = true) (hfin : (TX7 k).2.2.2 = false) (hd : parseFieldDescriptor (TX7 k).2.2.1 = some ty) (hn : narrow ty v = v) (hfit : fits ty v = true) (hdg : decode cX7_init pc = .ok (.putfield index, 3))
    (kk : ∀ (H1 : Heap) (locs1 : List Loc), va_P D bqCl (List.flatten ([(h0, .inr (0, bqO 64 (fun j => if j = k then v else f j)))] :: bs)) H1 → va_D A (List.flatten ([(h0, .inr (0, bqO 64 (fun j => if j = k then v else f j)))] :: bs)) → va_S A s.heap H1 locs1 → W p l e R s m args below meth c H1 locs1 kc ks Q (F0 m (pc + 3) ls rest)) : W p l e R s m args below meth c H locs kc ks Q (F0 m pc ls (v :: .ref h0 :: rest)) := by
  obtain ⟨hx, hb, hown, hts, hml, hlocks, hA, hK, hm, hRf, hRl, hok⟩ := C
  refine va_put (D := D) (ci := 0) (C := RX7) (T := TX7) (N := 64) (ref := RX7) (fs := bqO 64 f) hx hb hts in_X7 tyX7 tyX7_ok nmX7 hown hK hP hD hS 0 rfl rfl k hk hlink (tw_same k) hfin hd hn hfit (by rw [bqO_len]; exact hk) hdg (fun H1 locs1 hP hD hS => ?_)
  rw [bqO_set hk] at hP hD
  exact kk H1 locs1 hP hD hS
end MKI
