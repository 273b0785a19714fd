/-! Value.values(), View() -/
def vlA (vE : Nat → Nat) (d : Nat → ClassId) (q : Nat) : va_W := [(q, .inl (d 6, 6, .inr (.inr (.inr (.inr (fun i => if i < 6 then some (vE i) else none))))))]
section VLS2
variable {l : Launch} {D : va_G} {am : bqAm} {X vE sE : Nat → Nat} {d : Nat → ClassId} {h0 : Nat}
theorem nw_values (hok : bq_Ok am) (hamb : bq_Amb am X vE sE) : bq_N l yX4_values cX4_values 0 (some (.array (.object "BlueBag$Value"))) 1 30 1 6 D bqCl (bqTy d) am [] (List.flatten ([] : List va_W)) (fun o w' => ∃ q, o = some (.ref q) ∧ w' = vlA vE d q) := by
  refine bq_ofN hok (by decide +kernel) (Nat.le_of_ble_eq_true rfl) ?_
  intro p e s m below meth c A ls C hr hin hP hD hS hl
  have C0 := C
  obtain ⟨hx, hb, hown, hts, hml, hlocks, hA, hK, hm, hRf, hRl, hok⟩ := C
  obtain ⟨t, cell, hZ, hc, hnA, hns, hnu, hfc, harr, hsz, hel⟩ := bq_vA hamb hm
  refine va_gets hx hb hZ hS hown (hts _ q516) (fun _ h => h) dX4_values_0 ?_
  have hRA := (hK.2 6 _ rfl).2
  have hnm : s.vm.findClass "[LBlueBag$Value;" = some (d 6) := by
    have e : "[" ++ (FieldType.object "BlueBag$Value").toString = "[LBlueBag$Value;" := by decide +kernel
    rw [← e]
    obtain ⟨_, _, _, _, _, h⟩ := hRA
    exact h
  have hcls : cell.cls = d 6 := Option.some.inj (hfc.symm.trans hnm)
  have hcell : ({ cls := cell.cls, slots := cell.slots } : Cell) = vp_cell (d 6) (6, .inr (.inr (.inr (.inr (fun i => if i < 6 then some (vE i) else none))))) := by
    rw [vp_cell_q, hcls]
    show _ = ({ cls := d 6, slots := _, vm := .none } : Cell)
    congr 1
    refine Array.ext_getElem? fun i => ?_
    by_cases hi : i < 6
    · rw [hel i hi]
      have h2 := arrV_read (d 6) (fun j => va_rf (if j < 6 then some (vE j) else none)) hi
      refine Eq.trans ?_ h2.symm
      show _ = some (va_rf (if i < 6 then some (vE i) else none))
      rw [if_pos hi]
      rfl
    · rw [Array.getElem?_eq_none (by rw [hsz]; omega)]
      have h2 : (arrV (d 6) 6 (fun j => va_rf (if j < 6 then some (vE j) else none))).slots[i]? = none := Array.getElem?_eq_none (by rw [arrV_size]; omega)
      exact h2.symm
  obtain ⟨c0, t0', f1, f2, f3⟩ := Cond.castable_spec (va_Nw.use (A := #[]) rfl (bq_nC hamb hm (a := "[LBlueBag$Value;") (b := "java/lang/Cloneable") (by decide +kernel)))
  cases hfc.symm.trans f1
  intro T hT Y
  obtain ⟨-, kA, hkA, comp, hkind⟩ := State.isArrayOf_alike Y.warmed.alike ((hK.2 6 _ rfl).1 0 (fun _ => .null))
  obtain ⟨-, kS, hkS, compS, hkindS⟩ := (hK.2 6 _ rfl).1 0 (fun _ => .null)
  have hcT : T.heap[t]? = some cell := by rw [hT]; exact hc
  obtain ⟨vm', X', st⟩ := Y.cloneArray hx hown (hts _ q518) (hts _ q519) (hts _ q292) (hts _ q293) (hts _ q520) hcT (fun k h => by rw [h] at hns; cases hns) hnu hfc f2 f3
    (fun i v hv => by
      rw [hcls]
      have hk' : T.vm.classes[d 6]? = some kA := hkA
      have hf : fits (FieldType.object "BlueBag$Value") v = true := by
        by_cases hi : i < 6
        · rw [hel i hi] at hv
          cases hv
          rfl
        · rw [Array.getElem?_eq_none (by rw [hsz]; omega)] at hv
          cases hv
      simpa [State.fitsSlot, State.slotType?, hk', hkind] using hf)
    (g := F0 m 3 ls [.ref t]) rfl (by rw [hml]; exact hl.1) rfl (by rw [hb]; exact dX4_values_3) (Nat.le_of_ble_eq_true rfl) (Nat.le_of_ble_eq_true rfl) (Nat.le_of_ble_eq_true rfl) (by rw [hsz]; exact Nat.le_of_ble_eq_true rfl) (hloader := by rw [hcls]; exact Vm.clonesLoader_of_array hkS hkindS)
  rw [hcell, hsz] at X'
  generalize hH1 : s.heap.push (vp_cell (d 6) (6, .inr (.inr (.inr (.inr (fun i => if i < 6 then some (vE i) else none)))))) = H1 at X'
  have z1 : H1.size = s.heap.size + 1 := by rw [← hH1, Array.size_push]
  have e1 : H1[s.heap.size]? = some (vp_cell (d 6) (6, .inr (.inr (.inr (.inr (fun i => if i < 6 then some (vE i) else none)))))) := by rw [← hH1, Array.getElem?_push_size]
  have o1 : ∀ q : Nat, q < s.heap.size → H1[q]? = s.heap[q]? := fun q hq => by rw [← hH1, Array.getElem?_push, if_neg (Nat.ne_of_lt hq)]
  have hP1 : va_P D bqCl (vlA vE d s.heap.size) H1 := fun k y hy => by
    have hz : k < 1 := (List.getElem?_eq_some_iff.mp hy).1
    rw [show k = 0 by omega] at hy
    cases hy
    exact e1
  have hD1 : va_D A (vlA vE d s.heap.size) := bq_Dn.mpr ⟨by simp [vlA], fun q hq => by
    have : q = (s.heap.size, (.inl (d 6, 6, .inr (.inr (.inr (.inr (fun i => if i < 6 then some (vE i) else none))))) : va_E)) := by simpa [vlA] using hq
    rw [this]
    exact hA _ (Nat.le_refl _)⟩
  have hS1 : va_S A s.heap H1 [] := ⟨by omega, fun y h1 h2 => o1 y h1, fun q hq => by cases hq⟩
  have key : W p l e { frames := 1, cells := 1, slots := 6, locals := 30 } s m [].toArray below meth c H1 [] (0 + 1) (0 + 6) (MQ below (bq_QN D bqCl (fun o w' => ∃ q, o = some (.ref q) ∧ w' = vlA vE d q) A) [].toArray s 1 6 A) (F0 m (3 + 3) ls [.ref s.heap.size]) := by
    refine va_castA hx hb hown (hts _ q523) hP1 0 rfl hnm dX4_values_6 ?_
    exact bq_aretN C0 hr (Or.inr ⟨_, rfl⟩) (Nat.le_of_ble_eq_true rfl) (Nat.le_of_ble_eq_true rfl) ⟨_, rfl, rfl⟩ hP1 hD1 hS1 dX4_values_9
  obtain ⟨tt, b1, b2⟩ := key ((T.setVm vm').pushCell (vp_cell (d 6) (6, .inr (.inr (.inr (.inr (fun i => if i < 6 then some (vE i) else none))))))) (by rw [← hH1, ← hT]; rfl) X'
  refine ⟨tt, st tt ?_, b2⟩
  rw [hcell, hT]
  exact b1
end VLS2
