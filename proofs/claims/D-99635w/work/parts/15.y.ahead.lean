/-! the list of forty States: rows 5k..5k+4 are the state at place k, row 200 its count of changes and by how much it is turned -/
def ahA (aa : Nat → Nat → Nat) (η : bqS) (k : Nat) : Nat → Nat := aa ((k + (η 200 1).toNatClampNeg) % 40)
def ahS (η : bqS) (k : Nat) : bqS := fun r => η (5 * k + r)
def ahG (aa : Nat → Nat → Nat) (η : bqS) : Nat → Option Nat := fun k => if k < 40 then some (ahA aa η k 0) else none
def ahF (d : Nat → ClassId) (aa : Nat → Nat → Nat) (η : bqS) (k : Nat) : va_W := stB d (ahA aa η k) (ahS η k)
def ahB (d : Nat → ClassId) (ka : Nat → Nat) (aa : Nat → Nat → Nat) (η : bqS) : va_W := alB d (ka 5) (ka 6) (η 200 0) 40 40 (ahG aa η) ++ ((List.range 40).map (ahF d aa η)).flatten
def ahR (d : Nat → ClassId) (ka : Nat → Nat) (aa : Nat → Nat → Nat) (η : bqS) (k : Nat) : va_W := alB d (ka 5) (ka 6) (η 200 0) 40 40 (ahG aa η) ++ (((List.range 40).erase k).map (ahF d aa η)).flatten
def ah_set (η : bqS) (k : Nat) (σ : bqS) : bqS := fun q => if 5 * k ≤ q ∧ q < 5 * k + 5 then σ (q - 5 * k) else η q
def ah_rot (η : bqS) : bqS := fun q c => if q < 195 then η (q + 5) c else if q < 200 then η (q - 195) c else if q = 200 then (if c = 0 then η 200 0 + 1 + 1 else Int32.ofNat (((η 200 1).toNatClampNeg + 1) % 40)) else η q c
theorem stB_congr {d : Nat → ClassId} {a : Nat → Nat} {σ τ : bqS} (h : ∀ r, r < 5 → σ r = τ r) : stB d a σ = stB d a τ := by
  unfold stB stF
  rw [h 0 (by decide), h 1 (by decide), h 2 (by decide), h 3 (by decide), h 4 (by decide)]
section AHS
variable {d : Nat → ClassId} {ka : Nat → Nat} {aa : Nat → Nat → Nat} {η σ : bqS} {k j : Nat}
theorem ah_set200 (hk : k < 40) : ah_set η k σ 200 = η 200 := by unfold ah_set; rw [if_neg (by omega)]
theorem ahA_set (hk : k < 40) : ahA aa (ah_set η k σ) = ahA aa η := by unfold ahA; rw [ah_set200 hk]
theorem ahG_set (hk : k < 40) : ahG aa (ah_set η k σ) = ahG aa η := by unfold ahG; rw [ahA_set hk]
theorem ahF_set (hk : k < 40) : ahF d aa (ah_set η k σ) k = stB d (ahA aa η k) σ := by
  unfold ahF
  rw [ahA_set hk]
  refine stB_congr fun r hr => ?_
  unfold ahS ah_set
  rw [if_pos (by omega)]
  congr 1
  omega
theorem ahF_set' (hk : k < 40) (hj : j ≠ k) : ahF d aa (ah_set η k σ) j = ahF d aa η j := by
  unfold ahF
  rw [ahA_set hk]
  refine stB_congr fun r hr => ?_
  unfold ahS ah_set
  rw [if_neg (by omega)]
theorem ah_perm (hk : k < 40) {f : Nat → va_W} {z : va_W} : (z ++ ((List.range 40).map f).flatten).Perm (f k ++ (z ++ (((List.range 40).erase k).map f).flatten)) := by
  have h1 : ((List.range 40).map f).Perm (f k :: ((List.range 40).erase k).map f) := (List.perm_cons_erase (List.mem_range.mpr hk)).map f
  have h2 := bq_flat h1
  rw [List.flatten_cons] at h2
  refine (List.Perm.append_left z h2).trans ?_
  rw [← List.append_assoc, ← List.append_assoc]
  exact List.Perm.append_right _ List.perm_append_comm
theorem ah_split (hk : k < 40) : (ahB d ka aa η).Perm (stB d (ahA aa η k) (ahS η k) ++ ahR d ka aa η k) := ah_perm hk
theorem ah_unsplit (hk : k < 40) : (ahB d ka aa (ah_set η k σ)).Perm (stB d (ahA aa η k) σ ++ ahR d ka aa η k) := by
  have h := ah_perm (f := ahF d aa (ah_set η k σ)) (z := alB d (ka 5) (ka 6) (η 200 0) 40 40 (ahG aa η)) hk
  unfold ahB
  rw [ah_set200 hk, ahG_set hk]
  refine h.trans ?_
  rw [ahF_set hk]
  have e : ((List.range 40).erase k).map (ahF d aa (ah_set η k σ)) = ((List.range 40).erase k).map (ahF d aa η) := by
    refine List.map_congr_left fun j hj => ahF_set' hk ?_
    intro e
    subst e
    exact (List.nodup_range.not_mem_erase) hj
  rw [e]
  exact List.Perm.refl _
theorem ah_rotA (hk : k < 40) : ahA aa (ah_rot η) k = ahA aa η ((k + 1) % 40) := by
  have e : (ah_rot η 200 1).toNatClampNeg = ((η 200 1).toNatClampNeg + 1) % 40 := by
    have e1 : ah_rot η 200 1 = nI (((η 200 1).toNatClampNeg + 1) % 40) := rfl
    rw [e1, nI_clamp (Nat.lt_trans (Nat.mod_lt _ (by decide)) (by decide))]
  unfold ahA
  rw [e]
  congr 1
  omega
theorem ah_rotF (hk : k < 40) : ahF d aa (ah_rot η) k = ahF d aa η ((k + 1) % 40) := by
  unfold ahF
  rw [ah_rotA hk]
  refine stB_congr fun r hr => ?_
  funext c
  unfold ahS ah_rot
  by_cases h : k < 39
  · rw [if_pos (by omega)]
    congr 1
    omega
  · have : k = 39 := by omega
    subst this
    rw [if_neg (by omega), if_pos (by omega), show 5 * 39 + r - 195 = 5 * ((39 + 1) % 40) + r from by omega]
theorem ah_rotG : va_up (al_rm (ahG aa η)) 39 (some (ahA aa η 0 0)) = ahG aa (ah_rot η) := by
  funext k
  by_cases h : k = 39
  · subst h
    have e1 : va_up (al_rm (ahG aa η)) 39 (some (ahA aa η 0 0)) 39 = some (ahA aa η 0 0) := by simp [va_up]
    rw [e1]
    unfold ahG
    rw [if_pos (by decide), ah_rotA (by decide)]
  · have e1 : va_up (al_rm (ahG aa η)) 39 (some (ahA aa η 0 0)) k = al_rm (ahG aa η) k := by simp [va_up, h]
    have e2 : al_rm (ahG aa η) k = va_cpy (ahG aa η) (ahG aa η) 1 0 39 k := by simp [al_rm, va_up, h]
    rw [e1, e2]
    by_cases h2 : k < 39
    · rw [pk_cpy_in (Nat.zero_le _) (by omega)]
      unfold ahG
      rw [if_pos (by omega), if_pos (by omega), ah_rotA (by omega)]
      congr 2
      omega
    · rw [pk_cpy_out (Or.inr (by omega))]
      unfold ahG
      rw [if_neg (by omega), if_neg (by omega)]
theorem ah_rotP : (((List.range 40).map (ahF d aa η)).flatten).Perm (((List.range 40).map (ahF d aa (ah_rot η))).flatten) := by
  have e : (List.range 40).map (ahF d aa (ah_rot η)) = ((List.range 40).map fun k => (k + 1) % 40).map (ahF d aa η) := by
    rw [List.map_map]
    exact List.map_congr_left fun k hk => ah_rotF (List.mem_range.mp hk)
  rw [e]
  refine bq_flat (List.Perm.map _ ?_)
  exact List.isPerm_iff.mp (by decide +kernel)
theorem ah_sts : al_sts (ahG aa η) (((List.range 40).map (ahF d aa η)).flatten) := by
  intro k hk
  have hm : (ahA aa η k 0, (.inr (5, stF (ahA aa η k) (ahS η k)) : va_E)) ∈ ((List.range 40).map (ahF d aa η)).flatten := by
    refine List.mem_flatten.mpr ⟨ahF d aa η k, List.mem_map.mpr ⟨k, List.mem_range.mpr hk, rfl⟩, ?_⟩
    simp [ahF, stB]
  obtain ⟨i, hi⟩ := List.getElem?_of_mem hm
  exact ⟨_, i, _, if_pos hk, hi⟩
end AHS
section AHC
variable {p : Program} {l : Launch} {e : Env} {R : Room} {s : State} {m : MethodId} {args : Array Value} {below : List Frame} {meth : Method} {c : Code} {H : Heap} {locs : List Loc} {Q : State → Prop} {A : Nat → Prop} {D : va_G} {am : bqAm} {cc : ByteArray} {nL NF NL pc kc ks : Nat} {own : String} {ls : Array Slot} {rest st : List Value} {w : va_W} {X vE sE : Nat → Nat} {d : Nat → ClassId} {index k j : Nat} {ka ia : Nat → Nat} {aa ab : Nat → Nat → Nat} {η ι σ : bqS} {bs bs' br : List va_W}
theorem ah_recv (hK : va_K D bqCl (bqTy d) s) (hP : va_P D bqCl bs.flatten H) (hp : bs.Perm (ahB d ka aa η :: br)) (hk : k < 40) : ∃ cell : Cell, H[ahA aa η k 0]? = some cell ∧ cell.vm.isStatics = false ∧ s.vm.findClass RX6 = some cell.cls := by
  have hm : (ahA aa η k 0, (.inr (5, stF (ahA aa η k) (ahS η k)) : va_E)) ∈ bs.flatten := by
    rw [(bq_flat hp).mem_iff, List.flatten_cons]
    refine List.mem_append_left _ ?_
    rw [(ah_split hk).mem_iff]
    refine List.mem_append_left _ ?_
    simp [stB]
  obtain ⟨i, hi⟩ := List.getElem?_of_mem hm
  exact va_recv hK hP (ci := 5) (q0 := i) (q := (RX6, TX6, 10)) rfl hi
theorem ah_cast (hx : p.tables.exec = Jvm.exec) (hb : c.code = cc) (hown : s.vm.findClass own = some m.cls) (hlink : (Cond.classLink own index RX6).before args s = true) (hK : va_K D bqCl (bqTy d) s) (hP : va_P D bqCl bs.flatten H) (hp : bs.Perm (ahB d ka aa η :: br)) (hk : k < 40) (hdg : decode cc pc = .ok (.checkcast index, 3))
    (kk : W p l e R s m args below meth c H locs kc ks Q (F0 m (pc + 3) ls (.ref (ahA aa η k 0) :: rest))) : W p l e R s m args below meth c H locs kc ks Q (F0 m pc ls (.ref (ahA aa η k 0) :: rest)) :=
  va_castS hx hb hown hlink (hK.1 5 _ rfl).2 (ah_recv hK hP hp hk) hdg kk
abbrev yAlGet : MethodName := ⟨"java/util/ArrayList", "get", "(I)Ljava/lang/Object;"⟩
theorem ah_get (C : bq_C p R s m args meth c A D bqCl (bqTy d) am cc nL own NF NL) (hkc : kc ≤ R.cells) (hks : ks ≤ R.slots) (hok : bq_Ok am) (hp : bs.Perm (ahB d ka aa η :: br)) {x : Int32} (hi : vp_in x 40) (hlink : Cond.methodLink own index yAlGet ∈ lw_all) (hNF : 3 ≤ NF) (hNL : 70 ≤ NL)
    (hls : ls.size = nL) (hc8 : (rest.map fun v => v.category).sum ≤ 8) (hdg : decode cc pc = .ok (.invokevirtual index, 3))
    (hP : va_P D bqCl bs.flatten H) (hD : va_D A bs.flatten) (hS : va_S A s.heap H locs)
    (kk : ∀ (H1 : Heap) (locs1 : List Loc), va_P D bqCl bs.flatten H1 → va_D A bs.flatten → va_S A s.heap H1 locs1 → W p l e R s m args below meth c H1 locs1 kc ks Q (F0 m (pc + 3) ls (.ref (ahA aa η x.toNatClampNeg 0) :: rest))) : W p l e R s m args below meth c H locs kc ks Q (F0 m pc ls (.int x :: .ref (ka 5) :: rest)) := by
  have C0 := C
  obtain ⟨hx, hb, hown, hts, hml, hlocks, hA, hK, hm, hRf, hRl, -⟩ := C
  have hf : bs.flatten.Perm (List.flatten ([alB d (ka 5) (ka 6) (η 200 0) 40 40 (ahG aa η)] ++ ((((List.range 40).map (ahF d aa η)).flatten) :: br))) := by
    refine (bq_flat hp).trans ?_
    rw [List.flatten_cons]
    show ((alB d (ka 5) (ka 6) (η 200 0) 40 40 (ahG aa η) ++ ((List.range 40).map (ahF d aa η)).flatten) ++ br.flatten).Perm _
    rw [List.append_assoc]
    simp only [List.cons_append, List.nil_append, List.flatten_cons]
    exact List.Perm.refl _
  have hP1 := bq_Pp hf hP
  have hD1 := bq_Dp hf hD
  have e1 : ((alB d (ka 5) (ka 6) (η 200 0) 40 40 (ahG aa η) : va_W)) = List.flatten ([alB d (ka 5) (ka 6) (η 200 0) 40 40 (ahG aa η)] : List va_W) := by simp
  have hM := met_al_getG (l := l) (D := D) (d := d) (b0 := ka 5) (b1 := ka 6) (mc := η 200 0) (n := 40) (L := 40) (g := ahG aa η) (q := ahA aa η x.toNatClampNeg 0) hok (by decide) hi (if_pos (bq_inlt hi))
  rw [e1] at hM
  refine bq_cV (n := 1) (As := [.int x]) (rest := rest) (o := some (.ref (ahA aa η x.toNatClampNeg 0))) C0 hkc hks hM (List.Perm.refl _) (List.Perm.refl _) (lw_V hlink q741 q742 q117 q743) (by decide +kernel) (Nat.le_trans (by decide) hNF) (Nat.le_trans (by decide) hNL)
    (va_recv hK hP1 (ci := 14) (q0 := 0) rfl rfl) rfl hls rfl hc8 hdg hP1 hD1 hS (fun H locs hP hD hS => ?_)
  exact kk H locs (bq_Pp hf.symm hP) (bq_Dp hf.symm hD) hS
abbrev yLike : MethodName := ⟨"BlueBag$State", "like", "(LBlueBag$State;)V"⟩
/-- like, by the worlds' cells -/
theorem ah_like {W0 W1 wr : va_W} {a1 a2 : Nat → Nat} {σ1 σ2 σ' : bqS} (C : bq_C p R s m args meth c A D bqCl (bqTy d) am cc nL own NF NL) (hkc : kc ≤ R.cells) (hks : ks ≤ R.slots) (hok : bq_Ok am) (hamb : bq_Amb am X vE sE) (hg : st_like σ1 σ2 = some σ') (hp1 : W0.Perm (stB d a1 σ1 ++ (stB d a2 σ2 ++ wr))) (hp2 : W1.Perm (stB d a1 σ' ++ (stB d a2 σ2 ++ wr))) (hlink : Cond.methodLink own index yLike ∈ lw_all) (hNF : 2 ≤ NF) (hNL : 81 ≤ NL)
    (hls : ls.size = nL) (hc8 : (rest.map fun v => v.category).sum ≤ 8) (hdg : decode cc pc = .ok (.invokevirtual index, 3))
    (hP : va_P D bqCl W0 H) (hD : va_D A W0) (hS : va_S A s.heap H locs)
    (kk : ∀ (H1 : Heap) (locs1 : List Loc), va_P D bqCl W1 H1 → va_D A W1 → va_S A s.heap H1 locs1 → W p l e R s m args below meth c H1 locs1 kc ks Q (F0 m (pc + 3) ls rest)) : W p l e R s m args below meth c H locs kc ks Q (F0 m pc ls (.ref (a2 0) :: .ref (a1 0) :: rest)) := by
  have C0 := C
  obtain ⟨hx, hb, hown, hts, hml, hlocks, hA, hK, hm, hRf, hRl, -⟩ := C
  have e : ∀ σ : bqS, stB d a1 σ ++ (stB d a2 σ2 ++ wr) = List.flatten ([stB d a1 σ, stB d a2 σ2] ++ [wr]) := fun σ => by simp
  rw [e] at hp1 hp2
  have hP1 := bq_Pp hp1 hP
  have hD1 := bq_Dp hp1 hD
  exact bq_cV (n := 1) (As := [.ref (a2 0)]) (rest := rest) (o := none) C0 hkc hks (met_st_like hok hamb hg) (List.Perm.refl _) (List.Perm.refl _) (lw_V hlink q836 q837 q138 q838) (by decide +kernel) (Nat.le_trans (Nat.le_of_ble_eq_true rfl) hNF) (Nat.le_trans (Nat.le_of_ble_eq_true rfl) hNL)
    (va_recv hK hP1 (ci := 5) (q0 := 0) rfl rfl) rfl hls rfl hc8 hdg hP1 hD1 hS (fun H locs hP hD hS => kk H locs (bq_Pp hp2.symm hP) (bq_Dp hp2.symm hD) hS)
theorem ah_pl (hp : bs.Perm (ahB d ka aa η :: w :: br)) (hk : k < 40) : bs.flatten.Perm (stB d (ahA aa η k) (ahS η k) ++ (w ++ (ahR d ka aa η k ++ br.flatten))) := by
  refine (bq_flat hp).trans ?_
  rw [List.flatten_cons, List.flatten_cons]
  refine (List.Perm.append_right _ (ah_split hk)).trans ?_
  rw [List.append_assoc]
  refine List.Perm.append_left _ ?_
  rw [← List.append_assoc, ← List.append_assoc]
  exact List.Perm.append_right _ List.perm_append_comm
theorem ah_pl2 (hp : bs.Perm (ahB d ka aa (ah_set η k σ) :: w :: br)) (hk : k < 40) : bs.flatten.Perm (stB d (ahA aa η k) σ ++ (w ++ (ahR d ka aa η k ++ br.flatten))) := by
  refine (bq_flat hp).trans ?_
  rw [List.flatten_cons, List.flatten_cons]
  refine (List.Perm.append_right _ (ah_unsplit hk)).trans ?_
  rw [List.append_assoc]
  refine List.Perm.append_left _ ?_
  rw [← List.append_assoc, ← List.append_assoc]
  exact List.Perm.append_right _ List.perm_append_comm
theorem ah_sw {a b r : va_W} {W0 : va_W} (h : W0.Perm (a ++ (b ++ r))) : W0.Perm (b ++ (a ++ r)) := by
  refine h.trans ?_
  rw [← List.append_assoc, ← List.append_assoc]
  exact List.Perm.append_right _ List.perm_append_comm
/-- like of two lists' states -/
theorem ah_pp (hp : bs.Perm (ahB d ka aa η :: ahB d ia ab ι :: br)) (hk : k < 40) (hj : j < 40) : bs.flatten.Perm (stB d (ahA aa η k) (ahS η k) ++ (stB d (ahA ab ι j) (ahS ι j) ++ (ahR d ia ab ι j ++ (ahR d ka aa η k ++ br.flatten)))) := by
  refine (ah_pl hp hk).trans (List.Perm.append_left _ ?_)
  refine (List.Perm.append_right _ (ah_split hj)).trans ?_
  rw [List.append_assoc]
theorem ah_pp2 (hp : bs.Perm (ahB d ka aa (ah_set η k σ) :: ahB d ia ab ι :: br)) (hk : k < 40) (hj : j < 40) : bs.flatten.Perm (stB d (ahA aa η k) σ ++ (stB d (ahA ab ι j) (ahS ι j) ++ (ahR d ia ab ι j ++ (ahR d ka aa η k ++ br.flatten)))) := by
  refine (ah_pl2 hp hk).trans (List.Perm.append_left _ ?_)
  refine (List.Perm.append_right _ (ah_split hj)).trans ?_
  rw [List.append_assoc]
end AHC
section AHK
variable {p : Program} {l : Launch} {e : Env} {R : Room} {s : State} {m : MethodId} {args : Array Value} {below : List Frame} {meth : Method} {c : Code} {H : Heap} {locs : List Loc} {Q : State → Prop} {A : Nat → Prop} {D : va_G} {am : bqAm} {nL NF NL kc ks : Nat} {ls : Array Slot} {X vE sE : Nat → Nat} {d : Nat → ClassId} {ka : Nat → Nat} {aa : Nat → Nat → Nat} {η : bqS} {bs bs' br : List va_W}
theorem ah_two (x y : va_W) : List.flatten [x, y] = x ++ y := by simp
/-- keeps, rows 18 to 27: the oldest state is put behind the others -/
theorem ah_rotK (C : bq_C p R s m args meth c A D bqCl (bqTy d) am cX5_keeps nL RX5 NF NL) (hkc : kc ≤ R.cells) (hks : ks ≤ R.slots) (hok : bq_Ok am) (hamb : bq_Amb am X vE sE) (hp : bs.Perm (ahB d ka aa η :: br)) (hp' : bs'.Perm (ahB d ka aa (ah_rot η) :: br)) (hNF : 3 ≤ NF) (hNL : 120 ≤ NL)
    (hls : ls.size = nL) (hP : va_P D bqCl bs.flatten H) (hD : va_D A bs.flatten) (hS : va_S A s.heap H locs)
    (kk : ∀ (H1 : Heap) (locs1 : List Loc), va_P D bqCl bs'.flatten H1 → va_D A bs'.flatten → va_S A s.heap H1 locs1 → W p l e R s m args below meth c H1 locs1 kc ks Q (F0 m 28 ls [])) : W p l e R s m args below meth c H locs kc ks Q (F0 m 18 ls [.int 0, .ref (ka 5), .ref (ka 5)]) := by
  have C0 := C
  obtain ⟨hx, hb, hown, hts, hml, hlocks, hA, hK, hm, hRf, hRl, -⟩ := C
  have hf : bs.flatten.Perm (List.flatten ([alB d (ka 5) (ka 6) (η 200 0) 40 40 (ahG aa η), ((List.range 40).map (ahF d aa η)).flatten] ++ br)) := by
    refine (bq_flat hp).trans ?_
    rw [List.flatten_cons, List.flatten_append, ah_two]
    exact List.Perm.refl _
  have hf' : bs'.flatten.Perm (List.flatten ([alB d (ka 5) (ka 6) (η 200 0 + 1 + 1) 40 40 (ahG aa (ah_rot η)), ((List.range 40).map (ahF d aa η)).flatten] ++ br)) := by
    refine (bq_flat hp').trans ?_
    rw [List.flatten_cons, List.flatten_append, ah_two]
    refine List.Perm.append_right _ ?_
    have e1 : ah_rot η 200 0 = η 200 0 + 1 + 1 := by unfold ah_rot; rw [if_neg (by decide), if_neg (by decide), if_pos rfl, if_pos rfl]
    unfold ahB
    rw [e1]
    exact List.Perm.append_left _ ah_rotP.symm
  have hP1 := bq_Pp hf hP
  have hD1 := bq_Dp hf hD
  have hq : ahG aa η 0 = some (ahA aa η 0 0) := if_pos (by decide)
  have hM1 : bq_M l yJ2_remove cJ2_remove 4 (some (.object "java/lang/Object")) 2 90 D bqCl (bqTy d) am [.ref (ka 5), .int 0] (List.flatten [alB d (ka 5) (ka 6) (η 200 0) 40 40 (ahG aa η), ((List.range 40).map (ahF d aa η)).flatten]) (some (.ref (ahA aa η 0 0))) (List.flatten [alB d (ka 5) (ka 6) (η 200 0 + 1) 39 40 (al_rm (ahG aa η)), ((List.range 40).map (ahF d aa η)).flatten]) := by
    rw [ah_two, ah_two]
    exact met_al_remove hok hamb ah_sts hq
  have hmem : (ahA aa η 0 0, (.inr (5, stF (ahA aa η 0) (ahS η 0)) : va_E)) ∈ ((List.range 40).map (ahF d aa η)).flatten :=
    List.mem_flatten.mpr ⟨ahF d aa η 0, List.mem_map.mpr ⟨0, List.mem_range.mpr (by decide), rfl⟩, by simp [ahF, stB]⟩
  refine bq_cV (n := 1) (bs' := [alB d (ka 5) (ka 6) (η 200 0 + 1) 39 40 (al_rm (ahG aa η)), ((List.range 40).map (ahF d aa η)).flatten] ++ br) (As := [.int 0]) (rest := [.ref (ka 5)]) (o := some (.ref (ahA aa η 0 0))) C0 hkc hks hM1 (List.Perm.refl _) (List.Perm.refl _) (lw_V q825 q826 q827 q117 q828) (by decide +kernel) (Nat.le_trans (by decide) hNF) (Nat.le_trans (by decide) hNL)
    (va_recv hK hP1 (ci := 14) (q0 := 0) rfl rfl) rfl hls rfl (Nat.le_of_ble_eq_true rfl) dX5_keeps_18 hP1 hD1 hS (fun H locs hP hD hS => ?_)
  refine va_castS hx hb hown (hts _ q592) (hK.1 5 _ rfl).2 ?_ dX5_keeps_21 ?_
  · obtain ⟨i, hi⟩ := List.getElem?_of_mem (show _ ∈ List.flatten ([alB d (ka 5) (ka 6) (η 200 0 + 1) 39 40 (al_rm (ahG aa η)), ((List.range 40).map (ahF d aa η)).flatten] ++ br) by rw [List.flatten_append, ah_two]; exact List.mem_append_left _ (List.mem_append_right _ hmem))
    exact va_recv hK hP (ci := 5) (q0 := i) (q := (RX6, TX6, 10)) rfl hi
  obtain ⟨i, hi⟩ := List.getElem?_of_mem hmem
  have hM2 : bq_M l yJ2_add cJ2_add 2 (some .boolean) 1 30 D bqCl (bqTy d) am [.ref (ka 5), .ref (ahA aa η 0 0)] (List.flatten [alB d (ka 5) (ka 6) (η 200 0 + 1) 39 40 (al_rm (ahG aa η)), ((List.range 40).map (ahF d aa η)).flatten]) (some (.int 1)) (List.flatten [alB d (ka 5) (ka 6) (η 200 0 + 1 + 1) 40 40 (ahG aa (ah_rot η)), ((List.range 40).map (ahF d aa η)).flatten]) := by
    rw [ah_two, ah_two, ← ah_rotG]
    exact met_al_add hok (by decide) hamb hi rfl (by decide +kernel)
  refine bq_cV (n := 1) (bs' := [alB d (ka 5) (ka 6) (η 200 0 + 1 + 1) 40 40 (ahG aa (ah_rot η)), ((List.range 40).map (ahF d aa η)).flatten] ++ br) (As := [.ref (ahA aa η 0 0)]) (rest := []) (o := some (.int 1)) C0 hkc hks hM2 (List.Perm.refl _) (List.Perm.refl _) (lw_V q640 q641 q642 q117 q643) (by decide +kernel) (Nat.le_trans (by decide) hNF) (Nat.le_trans (by decide) hNL)
    (va_recv hK hP (ci := 14) (q0 := 0) rfl rfl) rfl hls rfl (Nat.le_of_ble_eq_true rfl) dX5_keeps_24 hP hD hS (fun H locs hP hD hS => ?_)
  refine lv_pop hx hb dX5_keeps_27 rfl ?_
  exact kk H locs (bq_Pp hf'.symm hP) (bq_Dp hf'.symm hD) hS
end AHK
theorem bq_bst {p : Program} {l : Launch} {e : Env} {R : Room} {s : State} {m : MethodId} {args : Array Value} {below : List Frame} {meth : Method} {c : Code} {H H0 : Heap} {locs : List Loc} {Q : State → Prop} {A : Nat → Prop} {D : va_G} {cc : ByteArray} {pc kc ks : Nat} {ls : Array Slot} {rest : List Value} {cl : List vw_C} {d : Nat → ClassId} {n j a : Nat} {i x : Int32} {f : Nat → Int32} {ws ws' : va_W} (hx : p.tables.exec = Jvm.exec) (hb : c.code = cc) (hK : va_K D cl (bqTy d) s) (hP : va_P D cl ws H) (hD : va_D A ws) (hS : va_S A H0 H locs) (q : Nat) (ha : ws[q]? = some (a, .inl (d 2, n, .inl f))) (hj : i.toNatClampNeg = j) (hin : vp_in i n) (hw : ws.set q (a, .inl (d 2, n, .inl (upd f j (vp_nar .byte x)))) = ws') (hdg : decode cc pc = .ok (.bastore, 1))
    (kk : ∀ (H1 : Heap) (locs1 : List Loc), va_P D cl ws' H1 → va_D A ws' → va_S A H0 H1 locs1 → W p l e R s m args below meth c H1 locs1 kc ks Q (F0 m (pc + 1) ls rest)) : W p l e R s m args below meth c H locs kc ks Q (F0 m pc ls (.int x :: .int i :: .ref a :: rest)) := by
  refine va_bast hx hb hK hP hD hS q 2 ha rfl hin hdg (fun H1 locs1 hP hD hS => ?_)
  rw [hj, hw] at hP hD
  exact kk H1 locs1 hP hD hS
