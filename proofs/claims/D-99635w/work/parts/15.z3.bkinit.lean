/-! Book(): forty States into the list -/
/-- the list as it is made -/
def bqH0 : bqS := fun r k => if r = 200 then (if k = 0 then 40 else 0) else 0
def bkS (d : Nat → ClassId) (aa : Nat → Nat → Nat) (k : Nat) : va_W := ((List.range k).map fun i => stB d (aa i) bqZ).flatten
def bkG (aa : Nat → Nat → Nat) (k : Nat) : Nat → Option Nat := fun i => if i < k then some (aa i 0) else none
def bkX (aa : Nat → Nat → Nat) (k : Nat) (a : Nat → Nat) : Nat → Nat → Nat := fun i => if i = k then a else aa i
theorem bkG_up {aa : Nat → Nat → Nat} {k : Nat} {a : Nat → Nat} : va_up (bkG aa k) k (some (a 0)) = bkG (bkX aa k a) (k + 1) := by
  funext i
  unfold bkG bkX va_up
  by_cases h : i = k
  · subst h; simp
  · by_cases h2 : i < k
    · have : i < k + 1 := by omega
      simp [h, h2, this]
    · have : ¬ i < k + 1 := by omega
      simp [h, h2, this]
theorem bkS_succ {d : Nat → ClassId} {aa : Nat → Nat → Nat} {k : Nat} {a : Nat → Nat} : bkS d (bkX aa k a) (k + 1) = bkS d aa k ++ stB d a bqZ := by
  unfold bkS
  rw [List.range_succ, List.map_append, List.flatten_append]
  have e1 : (List.range k).map (fun i => stB d (bkX aa k a i) bqZ) = (List.range k).map (fun i => stB d (aa i) bqZ) := List.map_congr_left fun i hi => by
    have : i ≠ k := by have := List.mem_range.mp hi; omega
    unfold bkX; rw [if_neg this]
  rw [e1]
  simp [bkX]
theorem bk_ah0 {d : Nat → ClassId} {aa : Nat → Nat → Nat} {ka : Nat → Nat} : alB d (ka 5) (ka 6) 40 40 40 (bkG aa 40) ++ bkS d aa 40 = ahB d ka aa bqH0 := by
  have e0 : (bqH0 200 1).toNatClampNeg = 0 := by decide
  have eA : ∀ k : Nat, k < 40 → ahA aa bqH0 k = aa k := fun k hk => by unfold ahA; rw [e0, Nat.add_zero, Nat.mod_eq_of_lt hk]
  unfold ahB
  congr 1
  · have e1 : bkG aa 40 = ahG aa bqH0 := by
      funext i
      unfold bkG ahG
      by_cases h : i < 40
      · rw [if_pos h, if_pos h, eA i h]
      · rw [if_neg h, if_neg h]
    rw [e1]
    rfl
theorem bk_initL {p : Program} {l : Launch} {e : Env} {R : Room} {s : State} {m : MethodId} {args : Array Value} {below : List Frame} {meth : Method} {c : Code} {Q : State → Prop} {A : Nat → Prop} {D : va_G} {am : bqAm} {NF NL kc ks : Nat} {X vE sE : Nat → Nat} {d : Nat → ClassId} {h0 q b1 : Nat} {fs : List Value} {br : List va_W}
    (C : bq_C p R s m args meth c A D bqCl (bqTy d) am cX5_init 2 RX5 NF NL) (hok : bq_Ok am) (hamb : bq_Amb am X vE sE) (hNF : 2 ≤ NF) (hNL : 60 ≤ NL) (hc : kc + 200 ≤ R.cells) (hs : ks + 3280 ≤ R.slots) (hfs : fs[1]? = some (.ref q))
    (kfin : ∀ (aa : Nat → Nat → Nat) (H : Heap) (locs : List Loc), va_P D bqCl (List.flatten ([alB d q b1 40 40 40 (bkG aa 40), [(h0, .inr (4, fs))], bkS d aa 40] ++ br)) H → va_D A (List.flatten ([alB d q b1 40 40 40 (bkG aa 40), [(h0, .inr (4, fs))], bkS d aa 40] ++ br)) → va_S A s.heap H locs → ∀ ls : Array Slot, W p l e R s m args below meth c H locs (kc + 200) (ks + 3280) Q (F0 m 88 ls [])) :
    ∀ (n k : Nat), n + k = 40 → ∀ (aa : Nat → Nat → Nat) (H : Heap) (locs : List Loc), va_P D bqCl (List.flatten ([alB d q b1 (Int32.ofNat k) k 40 (bkG aa k), [(h0, .inr (4, fs))], bkS d aa k] ++ br)) H → va_D A (List.flatten ([alB d q b1 (Int32.ofNat k) k 40 (bkG aa k), [(h0, .inr (4, fs))], bkS d aa k] ++ br)) → va_S A s.heap H locs → ∀ ls : Array Slot, lv_has ls 2 [(1, .int (Int32.ofNat k)), (0, .ref h0)] →
      W p l e R s m args below meth c H locs (kc + 5 * k) (ks + 82 * k) Q (F0 m 61 ls []) := by
  have C0 := C
  obtain ⟨hx, hb, hown, hts, hml, hlocks, hA, hK, hm, hRf, hRl, -⟩ := C
  intro n
  induction n with
  | zero =>
    intro k hk aa H locs hP hD hS ls hl
    have hk : k = 40 := by omega
    subst hk
    refine lv_iload_n hx hb dX5_init_61 rfl (lv_at hl 0 rfl) ?_
    refine lv_bipush (v := 40) hx hb dX5_init_62 (by decide) ?_
    refine lv_icmp_ge (tgt := 88) hx hb dX5_init_64 (by decide) (fun _ => ?_) (fun c1 => absurd (by decide) c1)
    exact kfin aa H locs hP hD hS ls
  | succ n ih =>
    intro k hk aa H locs hP hD hS ls hl
    have hlt : (Int32.ofNat k) < 40 := nI_lt (a := k) (b := 40) (by omega) (by decide)
    refine lv_iload_n hx hb dX5_init_61 rfl (lv_at hl 0 rfl) ?_
    refine lv_bipush (v := 40) hx hb dX5_init_62 (by decide) ?_
    refine lv_icmp_ge (tgt := 88) hx hb dX5_init_64 (by decide) (fun c1 => absurd hlt (Int32.not_lt.mpr c1)) (fun _ => ?_)
    refine lv_aload_n hx hb dX5_init_67 rfl (lv_at hl 1 rfl) ?_
    refine gX5_get (own := RX5) (fs := fs) (v := .ref q) (q0 := 2) hx hb hts hown hK hP rfl 1 (by decide) (hts _ q695) hfs dX5_init_68 ?_
    refine va_new (ci := 5) (fs := [.null, .null, .null, .int 0, .int 0, .int 0, .int 0, .int 0, .int 0, .null]) (C := RX6) (T := TX6) (N := 10) hx hb hts in_X6 tyX6 tyX6_ok hown (hts _ q592) (hts _ q593) (hts _ q138) hK hP hD hS hA rfl (fun j hj => by rcases (show j = 0 ∨ j = 1 ∨ j = 2 ∨ j = 3 ∨ j = 4 ∨ j = 5 ∨ j = 6 ∨ j = 7 ∨ j = 8 ∨ j = 9 by omega) with rfl | rfl | rfl | rfl | rfl | rfl | rfl | rfl | rfl | rfl <;> rfl) (by omega) (by omega) dX5_init_71 (fun q5 H hP hD hS => ?_)
    have hP := bq_fr hP
    have hD := bq_frD hD
    refine lv_dup hx hb dX5_init_74 rfl ?_
    refine bq_cINn (n := 0) (bs := [(q5, .inr (5, [.null, .null, .null, .int 0, .int 0, .int 0, .int 0, .int 0, .int 0, .null]))] :: ([alB d q b1 (Int32.ofNat k) k 40 (bkG aa k), [(h0, .inr (4, fs))], bkS d aa k] ++ br)) (bc := [[(q5, .inr (5, [.null, .null, .null, .int 0, .int 0, .int 0, .int 0, .int 0, .int 0, .null]))]]) (br := [alB d q b1 (Int32.ofNat k) k 40 (bkG aa k), [(h0, .inr (4, fs))], bkS d aa k] ++ br) (As := []) (rest := [.ref q5, .ref q]) C0 (by omega) (by omega) (nw_X6 hok hamb) (List.Perm.refl _) (bq_nMw hamb hm 2 rfl) q595 q138 q596 rfl (by decide +kernel) (Nat.le_trans (Nat.le_of_ble_eq_true rfl) hNF) (Nat.le_trans (Nat.le_of_ble_eq_true rfl) hNL) rfl hl.1 rfl (Nat.le_of_ble_eq_true rfl) dX5_init_75 hP hD hS (fun o w hp_ H locs hP_ hD_ hS_ => ?_)
    clear hP hD hS
    obtain ⟨rfl, a, he_, rfl⟩ := hp_
    subst he_
    have hM : bq_M l yJ2_add cJ2_add 2 (some .boolean) 1 30 D bqCl (bqTy d) am [.ref q, .ref (a 0)] (List.flatten [alB d q b1 (Int32.ofNat k) k 40 (bkG aa k), stB d a bqZ]) (some (.int 1)) (List.flatten [alB d q b1 (Int32.ofNat k + 1) (k + 1) 40 (bkG (bkX aa k a) (k + 1)), stB d a bqZ]) := by
      rw [ah_two, ah_two, ← bkG_up]
      exact met_al_add (i := 0) (ci := 5) hok (by omega) hamb rfl rfl (by decide +kernel)
    have hpp : (stB d a bqZ :: ([alB d q b1 (Int32.ofNat k) k 40 (bkG aa k), [(h0, .inr (4, fs))], bkS d aa k] ++ br)).Perm ([alB d q b1 (Int32.ofNat k) k 40 (bkG aa k), stB d a bqZ] ++ ([[(h0, .inr (4, fs))], bkS d aa k] ++ br)) := List.Perm.swap _ _ _
    refine bq_cV (n := 1) (bs' := [alB d q b1 (Int32.ofNat k + 1) (k + 1) 40 (bkG (bkX aa k a) (k + 1)), stB d a bqZ] ++ ([[(h0, .inr (4, fs))], bkS d aa k] ++ br)) (As := [.ref (a 0)]) (rest := []) (o := some (.int 1)) C0 (by omega) (by omega) hM hpp (List.Perm.refl _) (lw_V q640 q641 q642 q117 q643) (by decide +kernel) (Nat.le_trans (by decide) hNF) (Nat.le_trans (by decide) hNL)
      (va_recv hK hP_ (ci := 14) (q0 := 5) rfl rfl) rfl hl.1 rfl (Nat.le_of_ble_eq_true rfl) dX5_init_78 hP_ hD_ hS_ (fun H locs hP hD hS => ?_)
    refine lv_pop hx hb dX5_init_81 rfl ?_
    refine lv_iinc (v := Int32.ofNat k + 1) (lv' := [(1, .int (Int32.ofNat k + 1)), (0, .ref h0)]) hx hb dX5_init_82 hl (k := 0) rfl (bq_inc (k := 1) (by decide) rfl) (by decide) rfl (fun ls hl => ?_)
    refine lv_goto (tgt := 61) hx hb dX5_init_85 (by decide) ?_
    rw [show (Int32.ofNat k + 1 : Int32) = Int32.ofNat (k + 1) from (nI_succ k).symm] at hP hD hl
    have hq : (List.flatten ([alB d q b1 (Int32.ofNat (k + 1)) (k + 1) 40 (bkG (bkX aa k a) (k + 1)), stB d a bqZ] ++ ([[(h0, .inr (4, fs))], bkS d aa k] ++ br))).Perm (List.flatten ([alB d q b1 (Int32.ofNat (k + 1)) (k + 1) 40 (bkG (bkX aa k a) (k + 1)), [(h0, .inr (4, fs))], bkS d (bkX aa k a) (k + 1)] ++ br)) := by
      rw [bkS_succ]
      simp only [List.cons_append, List.nil_append, List.flatten_cons, List.append_assoc]
      refine List.Perm.append_left _ ?_
      refine List.perm_middle.trans (List.Perm.cons _ ?_)
      rw [← List.append_assoc, ← List.append_assoc]
      exact List.Perm.append_right _ List.perm_append_comm
    exact W.widen (by omega) (by omega) (ih (k + 1) (by omega) (bkX aa k a) H locs (bq_Pp hq hP) (bq_Dp hq hD) hS ls hl)
