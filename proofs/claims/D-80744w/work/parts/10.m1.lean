set_option maxHeartbeats 400000 in
set_option maxRecDepth 100000 in
theorem metX1_in (l : Launch) (G : va_G) (d : Nat → Nat) (v lo hi : Int32) : Met l yX1_in (ws_ yX1_in cX1_in 3 (some FieldType.boolean)) ({ frames := 0, cells := 0, slots := 0, locals := 0 } : Room) (va_Pc [.int v, .int lo, .int hi] (pR G d ([]))) (vp_Si (fun r => r = bI (inR v lo hi))) 0 0 (fun _ => False) := by
  refine Met.ofW (cc := cX1_in) (maxL := 3) (ret := (some FieldType.boolean)) (by decide) rfl ?_
  intro p e s m args below meth c s₁ B hml hv
  obtain ⟨rfl, hP, hK⟩ := hv
  have hx := B.exec
  have hb := B.bytes
  have hr := B.returns
  have hts := atoms_spec (ws := (ws_ yX1_in cX1_in 3 (some FieldType.boolean))) B.pre
  have hts : ∀ w ∈ lw_all, w.before _ s = true := fun w h => hts w (List.mem_cons_of_mem _ h)
  have hown : s.vm.findClass RX1 = some m.cls := findClass_of_methodNamed B.named
  have hlocks := B.notSynchronized
  have hl := lv_entry ([.int v, .int lo, .int hi]) (n := 3) (Nat.le_of_ble_eq_true rfl)
  rw [lg_entry_eq]
  generalize (lg_sl ([.int v, .int lo, .int hi]) ++ List.replicate (3 - (lg_sl ([.int v, .int lo, .int hi])).length) Slot.unset).toArray = ls at hl ⊢
  have hl : lv_has ls 3 [(0, .int v), (1, .int lo), (2, .int hi)] := hl
  refine lv_iload_n hx hb dX1_in_0 rfl (lv_at hl 0 rfl) ?_
  refine lv_iload_n hx hb dX1_in_1 rfl (lv_at hl 1 rfl) ?_
  refine lv_icmp_lt (tgt := 14) hx hb dX1_in_2 (by decide) (fun c_1 => ?_) (fun c_1 => ?_)
  · have c_1 := Int32.not_le.mpr c_1
    refine lv_iconst (v := 0) hx hb dX1_in_14 (by decide) ?_
    exact W.zret (v := 0) hx hb hr rfl (fun t ht hW => ⟨0, rfl, (bI_f (fun h => c_1 h.1)).symm, ht⟩) (fun q h => by cases h) dX1_in_15
  · have c_1 := Int32.not_lt.mp c_1
    refine lv_iload_n hx hb dX1_in_5 rfl (lv_at hl 0 rfl) ?_
    refine lv_iload_n hx hb dX1_in_6 rfl (lv_at hl 2 rfl) ?_
    refine lv_icmp_gt (tgt := 14) hx hb dX1_in_7 (by decide) (fun c_2 => ?_) (fun c_2 => ?_)
    · have c_2 := Int32.not_le.mpr c_2
      refine lv_iconst (v := 0) hx hb dX1_in_14 (by decide) ?_
      exact W.zret (v := 0) hx hb hr rfl (fun t ht hW => ⟨0, rfl, (bI_f (fun h => c_2 h.2)).symm, ht⟩) (fun q h => by cases h) dX1_in_15
    · have c_2 := Int32.not_lt.mp c_2
      refine lv_iconst (v := 1) hx hb dX1_in_10 (by decide) ?_
      refine lv_goto (tgt := 15) hx hb dX1_in_11 (by decide) ?_
      exact W.zret (v := 1) hx hb hr rfl (fun t ht hW => ⟨1, rfl, (bI_t ⟨c_1, c_2⟩).symm, ht⟩) (fun q h => by cases h) dX1_in_15
set_option maxHeartbeats 400000 in
set_option maxRecDepth 100000 in
theorem metX0_in (l : Launch) (G : va_G) (d : Nat → Nat) (v lo hi : Int32) : Met l yX0_in (ws_ yX0_in cX0_in 3 (some FieldType.boolean)) ({ frames := 0, cells := 0, slots := 0, locals := 0 } : Room) (va_Pc [.int v, .int lo, .int hi] (pR G d ([]))) (vp_Si (fun r => r = bI (inR v lo hi))) 0 0 (fun _ => False) := by
  refine Met.ofW (cc := cX0_in) (maxL := 3) (ret := (some FieldType.boolean)) (by decide) rfl ?_
  intro p e s m args below meth c s₁ B hml hv
  obtain ⟨rfl, hP, hK⟩ := hv
  have hx := B.exec
  have hb := B.bytes
  have hr := B.returns
  have hts := atoms_spec (ws := (ws_ yX0_in cX0_in 3 (some FieldType.boolean))) B.pre
  have hts : ∀ w ∈ lw_all, w.before _ s = true := fun w h => hts w (List.mem_cons_of_mem _ h)
  have hown : s.vm.findClass RX0 = some m.cls := findClass_of_methodNamed B.named
  have hlocks := B.notSynchronized
  have hl := lv_entry ([.int v, .int lo, .int hi]) (n := 3) (Nat.le_of_ble_eq_true rfl)
  rw [lg_entry_eq]
  generalize (lg_sl ([.int v, .int lo, .int hi]) ++ List.replicate (3 - (lg_sl ([.int v, .int lo, .int hi])).length) Slot.unset).toArray = ls at hl ⊢
  have hl : lv_has ls 3 [(0, .int v), (1, .int lo), (2, .int hi)] := hl
  refine lv_iload_n hx hb dX0_in_0 rfl (lv_at hl 0 rfl) ?_
  refine lv_iload_n hx hb dX0_in_1 rfl (lv_at hl 1 rfl) ?_
  refine lv_icmp_lt (tgt := 14) hx hb dX0_in_2 (by decide) (fun c_1 => ?_) (fun c_1 => ?_)
  · have c_1 := Int32.not_le.mpr c_1
    refine lv_iconst (v := 0) hx hb dX0_in_14 (by decide) ?_
    exact W.zret (v := 0) hx hb hr rfl (fun t ht hW => ⟨0, rfl, (bI_f (fun h => c_1 h.1)).symm, ht⟩) (fun q h => by cases h) dX0_in_15
  · have c_1 := Int32.not_lt.mp c_1
    refine lv_iload_n hx hb dX0_in_5 rfl (lv_at hl 0 rfl) ?_
    refine lv_iload_n hx hb dX0_in_6 rfl (lv_at hl 2 rfl) ?_
    refine lv_icmp_gt (tgt := 14) hx hb dX0_in_7 (by decide) (fun c_2 => ?_) (fun c_2 => ?_)
    · have c_2 := Int32.not_le.mpr c_2
      refine lv_iconst (v := 0) hx hb dX0_in_14 (by decide) ?_
      exact W.zret (v := 0) hx hb hr rfl (fun t ht hW => ⟨0, rfl, (bI_f (fun h => c_2 h.2)).symm, ht⟩) (fun q h => by cases h) dX0_in_15
    · have c_2 := Int32.not_lt.mp c_2
      refine lv_iconst (v := 1) hx hb dX0_in_10 (by decide) ?_
      refine lv_goto (tgt := 15) hx hb dX0_in_11 (by decide) ?_
      exact W.zret (v := 1) hx hb hr rfl (fun t ht hW => ⟨1, rfl, (bI_t ⟨c_1, c_2⟩).symm, ht⟩) (fun q h => by cases h) dX0_in_15
set_option maxHeartbeats 400000 in
set_option maxRecDepth 100000 in
theorem metX1_isNumber (l : Launch) (G : va_G) (d : Nat → Nat) (v : Int32) : Met l yX1_isNumber (ws_ yX1_isNumber cX1_isNumber 1 (some FieldType.boolean)) ({ frames := 1, cells := 0, slots := 0, locals := 22 } : Room) (va_Pc [.int v] (pR G d ([]))) (vp_Si (fun r => r = bI (inR v 0 3))) 0 0 (fun _ => False) := by
  refine Met.ofW (cc := cX1_isNumber) (maxL := 1) (ret := (some FieldType.boolean)) (by decide) rfl ?_
  intro p e s m args below meth c s₁ B hml hv
  obtain ⟨rfl, hP, hK⟩ := hv
  have hx := B.exec
  have hb := B.bytes
  have hr := B.returns
  have hts := atoms_spec (ws := (ws_ yX1_isNumber cX1_isNumber 1 (some FieldType.boolean))) B.pre
  have hts : ∀ w ∈ lw_all, w.before _ s = true := fun w h => hts w (List.mem_cons_of_mem _ h)
  have hown : s.vm.findClass RX1 = some m.cls := findClass_of_methodNamed B.named
  have hlocks := B.notSynchronized
  have hl := lv_entry ([.int v]) (n := 1) (Nat.le_of_ble_eq_true rfl)
  rw [lg_entry_eq]
  generalize (lg_sl ([.int v]) ++ List.replicate (1 - (lg_sl ([.int v])).length) Slot.unset).toArray = ls at hl ⊢
  have hl : lv_has ls 1 [(0, .int v)] := hl
  refine lv_iload_n hx hb dX1_isNumber_0 rfl (lv_at hl 0 rfl) ?_
  refine lv_iconst (v := 0) hx hb dX1_isNumber_1 (by decide) ?_
  refine lv_iconst (v := 3) hx hb dX1_isNumber_2 (by decide) ?_
  refine y_rS (As := [.int v, .int 0, .int 3]) (rest := []) ⟨hx, hb, hml, hown, hts⟩ hK (ws := []) (fun _ _ h => by cases h) (metX1_in l G d v 0 3) (va_cwS 3 hts (lw_S q994 q995 q39 q996) rfl rfl rfl (by decide +kernel) ⟨Nat.le_of_ble_eq_true rfl, Nat.le_of_ble_eq_true rfl⟩) rfl hl.1 rfl (lv_room (Nat.le_of_ble_eq_true rfl)) dX1_isNumber_3 ⟨Nat.le_of_ble_eq_true rfl, Nat.le_of_ble_eq_true rfl⟩ (fun r_1 hr_2 => ?_)
  exact W.zret (v := r_1) hx hb hr (nar_01 (by rw [hr_2]; exact bI_01 _)) (fun t ht hW => ⟨r_1, rfl, hr_2, ht⟩) (fun q h => by cases h) dX1_isNumber_6
set_option maxHeartbeats 400000 in
set_option maxRecDepth 100000 in
theorem metX0_isScan (l : Launch) (G : va_G) (d : Nat → Nat) (v : Int32) : Met l yX0_isScan (ws_ yX0_isScan cX0_isScan 1 (some FieldType.boolean)) ({ frames := 1, cells := 0, slots := 0, locals := 22 } : Room) (va_Pc [.int v] (pR G d ([]))) (vp_Si (fun r => r = bI (inR v 0 3))) 0 0 (fun _ => False) := by
  refine Met.ofW (cc := cX0_isScan) (maxL := 1) (ret := (some FieldType.boolean)) (by decide) rfl ?_
  intro p e s m args below meth c s₁ B hml hv
  obtain ⟨rfl, hP, hK⟩ := hv
  have hx := B.exec
  have hb := B.bytes
  have hr := B.returns
  have hts := atoms_spec (ws := (ws_ yX0_isScan cX0_isScan 1 (some FieldType.boolean))) B.pre
  have hts : ∀ w ∈ lw_all, w.before _ s = true := fun w h => hts w (List.mem_cons_of_mem _ h)
  have hown : s.vm.findClass RX0 = some m.cls := findClass_of_methodNamed B.named
  have hlocks := B.notSynchronized
  have hl := lv_entry ([.int v]) (n := 1) (Nat.le_of_ble_eq_true rfl)
  rw [lg_entry_eq]
  generalize (lg_sl ([.int v]) ++ List.replicate (1 - (lg_sl ([.int v])).length) Slot.unset).toArray = ls at hl ⊢
  have hl : lv_has ls 1 [(0, .int v)] := hl
  refine lv_iload_n hx hb dX0_isScan_0 rfl (lv_at hl 0 rfl) ?_
  refine lv_iconst (v := 0) hx hb dX0_isScan_1 (by decide) ?_
  refine lv_iconst (v := 3) hx hb dX0_isScan_2 (by decide) ?_
  refine y_rS (As := [.int v, .int 0, .int 3]) (rest := []) ⟨hx, hb, hml, hown, hts⟩ hK (ws := []) (fun _ _ h => by cases h) (metX0_in l G d v 0 3) (va_cwS 3 hts (lw_S q204 q205 q35 q206) rfl rfl rfl (by decide +kernel) ⟨Nat.le_of_ble_eq_true rfl, Nat.le_of_ble_eq_true rfl⟩) rfl hl.1 rfl (lv_room (Nat.le_of_ble_eq_true rfl)) dX0_isScan_3 ⟨Nat.le_of_ble_eq_true rfl, Nat.le_of_ble_eq_true rfl⟩ (fun r_1 hr_2 => ?_)
  exact W.zret (v := r_1) hx hb hr (nar_01 (by rw [hr_2]; exact bI_01 _)) (fun t ht hW => ⟨r_1, rfl, hr_2, ht⟩) (fun q h => by cases h) dX0_isScan_6
set_option maxHeartbeats 400000 in
set_option maxRecDepth 100000 in
theorem metX0_isEnd (l : Launch) (G : va_G) (d : Nat → Nat) (v : Int32) : Met l yX0_isEnd (ws_ yX0_isEnd cX0_isEnd 1 (some FieldType.boolean)) ({ frames := 1, cells := 0, slots := 0, locals := 22 } : Room) (va_Pc [.int v] (pR G d ([]))) (vp_Si (fun r => r = bI (inR v 0 7))) 0 0 (fun _ => False) := by
  refine Met.ofW (cc := cX0_isEnd) (maxL := 1) (ret := (some FieldType.boolean)) (by decide) rfl ?_
  intro p e s m args below meth c s₁ B hml hv
  obtain ⟨rfl, hP, hK⟩ := hv
  have hx := B.exec
  have hb := B.bytes
  have hr := B.returns
  have hts := atoms_spec (ws := (ws_ yX0_isEnd cX0_isEnd 1 (some FieldType.boolean))) B.pre
  have hts : ∀ w ∈ lw_all, w.before _ s = true := fun w h => hts w (List.mem_cons_of_mem _ h)
  have hown : s.vm.findClass RX0 = some m.cls := findClass_of_methodNamed B.named
  have hlocks := B.notSynchronized
  have hl := lv_entry ([.int v]) (n := 1) (Nat.le_of_ble_eq_true rfl)
  rw [lg_entry_eq]
  generalize (lg_sl ([.int v]) ++ List.replicate (1 - (lg_sl ([.int v])).length) Slot.unset).toArray = ls at hl ⊢
  have hl : lv_has ls 1 [(0, .int v)] := hl
  refine lv_iload_n hx hb dX0_isEnd_0 rfl (lv_at hl 0 rfl) ?_
  refine lv_iconst (v := 0) hx hb dX0_isEnd_1 (by decide) ?_
  refine lv_bipush (v := 7) hx hb dX0_isEnd_2 (by decide +kernel) ?_
  refine y_rS (As := [.int v, .int 0, .int 7]) (rest := []) ⟨hx, hb, hml, hown, hts⟩ hK (ws := []) (fun _ _ h => by cases h) (metX0_in l G d v 0 7) (va_cwS 3 hts (lw_S q204 q205 q35 q206) rfl rfl rfl (by decide +kernel) ⟨Nat.le_of_ble_eq_true rfl, Nat.le_of_ble_eq_true rfl⟩) rfl hl.1 rfl (lv_room (Nat.le_of_ble_eq_true rfl)) dX0_isEnd_4 ⟨Nat.le_of_ble_eq_true rfl, Nat.le_of_ble_eq_true rfl⟩ (fun r_1 hr_2 => ?_)
  exact W.zret (v := r_1) hx hb hr (nar_01 (by rw [hr_2]; exact bI_01 _)) (fun t ht hW => ⟨r_1, rfl, hr_2, ht⟩) (fun q h => by cases h) dX0_isEnd_7
set_option maxHeartbeats 400000 in
set_option maxRecDepth 100000 in
theorem metX1_isRing (l : Launch) (G : va_G) (d : Nat → Nat) (v : Int32) : Met l yX1_isRing (ws_ yX1_isRing cX1_isRing 1 (some FieldType.boolean)) ({ frames := 1, cells := 0, slots := 0, locals := 22 } : Room) (va_Pc [.int v] (pR G d ([]))) (vp_Si (fun r => r = bI (inR v 0 11))) 0 0 (fun _ => False) := by
  refine Met.ofW (cc := cX1_isRing) (maxL := 1) (ret := (some FieldType.boolean)) (by decide) rfl ?_
  intro p e s m args below meth c s₁ B hml hv
  obtain ⟨rfl, hP, hK⟩ := hv
  have hx := B.exec
  have hb := B.bytes
  have hr := B.returns
  have hts := atoms_spec (ws := (ws_ yX1_isRing cX1_isRing 1 (some FieldType.boolean))) B.pre
  have hts : ∀ w ∈ lw_all, w.before _ s = true := fun w h => hts w (List.mem_cons_of_mem _ h)
  have hown : s.vm.findClass RX1 = some m.cls := findClass_of_methodNamed B.named
  have hlocks := B.notSynchronized
  have hl := lv_entry ([.int v]) (n := 1) (Nat.le_of_ble_eq_true rfl)
  rw [lg_entry_eq]
  generalize (lg_sl ([.int v]) ++ List.replicate (1 - (lg_sl ([.int v])).length) Slot.unset).toArray = ls at hl ⊢
  have hl : lv_has ls 1 [(0, .int v)] := hl
  refine lv_iload_n hx hb dX1_isRing_0 rfl (lv_at hl 0 rfl) ?_
  refine lv_iconst (v := 0) hx hb dX1_isRing_1 (by decide) ?_
  refine lv_bipush (v := 11) hx hb dX1_isRing_2 (by decide +kernel) ?_
  refine y_rS (As := [.int v, .int 0, .int 11]) (rest := []) ⟨hx, hb, hml, hown, hts⟩ hK (ws := []) (fun _ _ h => by cases h) (metX1_in l G d v 0 11) (va_cwS 3 hts (lw_S q994 q995 q39 q996) rfl rfl rfl (by decide +kernel) ⟨Nat.le_of_ble_eq_true rfl, Nat.le_of_ble_eq_true rfl⟩) rfl hl.1 rfl (lv_room (Nat.le_of_ble_eq_true rfl)) dX1_isRing_4 ⟨Nat.le_of_ble_eq_true rfl, Nat.le_of_ble_eq_true rfl⟩ (fun r_1 hr_2 => ?_)
  exact W.zret (v := r_1) hx hb hr (nar_01 (by rw [hr_2]; exact bI_01 _)) (fun t ht hW => ⟨r_1, rfl, hr_2, ht⟩) (fun q h => by cases h) dX1_isRing_7
set_option maxHeartbeats 400000 in
set_option maxRecDepth 100000 in
theorem metX1_isPlace (l : Launch) (G : va_G) (d : Nat → Nat) (v w : Int32) : Met l yX1_isPlace (ws_ yX1_isPlace cX1_isPlace 2 (some FieldType.boolean)) ({ frames := 2, cells := 0, slots := 0, locals := 64 } : Room) (va_Pc [.int v, .int w] (pR G d ([]))) (vp_Si (fun r => r = bI (inR v 0 11 ∧ inR w 0 7))) 0 0 (fun _ => False) := by
  refine Met.ofW (cc := cX1_isPlace) (maxL := 2) (ret := (some FieldType.boolean)) (by decide) rfl ?_
  intro p e s m args below meth c s₁ B hml hv
  obtain ⟨rfl, hP, hK⟩ := hv
  have hx := B.exec
  have hb := B.bytes
  have hr := B.returns
  have hts := atoms_spec (ws := (ws_ yX1_isPlace cX1_isPlace 2 (some FieldType.boolean))) B.pre
  have hts : ∀ w ∈ lw_all, w.before _ s = true := fun w h => hts w (List.mem_cons_of_mem _ h)
  have hown : s.vm.findClass RX1 = some m.cls := findClass_of_methodNamed B.named
  have hlocks := B.notSynchronized
  have hl := lv_entry ([.int v, .int w]) (n := 2) (Nat.le_of_ble_eq_true rfl)
  rw [lg_entry_eq]
  generalize (lg_sl ([.int v, .int w]) ++ List.replicate (2 - (lg_sl ([.int v, .int w])).length) Slot.unset).toArray = ls at hl ⊢
  have hl : lv_has ls 2 [(0, .int v), (1, .int w)] := hl
  refine lv_iload_n hx hb dX1_isPlace_0 rfl (lv_at hl 0 rfl) ?_
  refine y_rS (As := [.int v]) (rest := []) ⟨hx, hb, hml, hown, hts⟩ hK (ws := []) (fun _ _ h => by cases h) (metX1_isRing l G d v) (va_cwS 1 hts (lw_S q1012 q1013 q39 q1014) rfl rfl rfl (by decide +kernel) ⟨Nat.le_of_ble_eq_true rfl, Nat.le_of_ble_eq_true rfl⟩) rfl hl.1 rfl (lv_room (Nat.le_of_ble_eq_true rfl)) dX1_isPlace_1 ⟨Nat.le_of_ble_eq_true rfl, Nat.le_of_ble_eq_true rfl⟩ (fun r_1 hr_2 => ?_)
  refine lv_if_eq (tgt := 21) hx hb dX1_isPlace_4 (by decide) (fun c_3 => ?_) (fun c_3 => ?_)
  · have c_3 := bI_eq hr_2 c_3
    refine lv_iconst (v := 0) hx hb dX1_isPlace_21 (by decide) ?_
    exact W.zret (v := 0) hx hb hr rfl (fun t ht hW => ⟨0, rfl, (bI_f (fun h => c_3 h.1)).symm, ht⟩) (fun q h => by cases h) dX1_isPlace_22
  · have c_3 := bI_ne hr_2 c_3
    refine lv_iload_n hx hb dX1_isPlace_7 rfl (lv_at hl 1 rfl) ?_
    refine lv_iconst (v := 0) hx hb dX1_isPlace_8 (by decide) ?_
    refine lv_bipush (v := 7) hx hb dX1_isPlace_9 (by decide +kernel) ?_
    refine y_rS (As := [.int w, .int 0, .int 7]) (rest := []) ⟨hx, hb, hml, hown, hts⟩ hK (ws := []) (fun _ _ h => by cases h) (metX1_in l G d w 0 7) (va_cwS 3 hts (lw_S q994 q995 q39 q996) rfl rfl rfl (by decide +kernel) ⟨Nat.le_of_ble_eq_true rfl, Nat.le_of_ble_eq_true rfl⟩) rfl hl.1 rfl (lv_room (Nat.le_of_ble_eq_true rfl)) dX1_isPlace_11 ⟨Nat.le_of_ble_eq_true rfl, Nat.le_of_ble_eq_true rfl⟩ (fun r_4 hr_5 => ?_)
    refine lv_if_eq (tgt := 21) hx hb dX1_isPlace_14 (by decide) (fun c_6 => ?_) (fun c_6 => ?_)
    · have c_6 := bI_eq hr_5 c_6
      refine lv_iconst (v := 0) hx hb dX1_isPlace_21 (by decide) ?_
      exact W.zret (v := 0) hx hb hr rfl (fun t ht hW => ⟨0, rfl, (bI_f (fun h => c_6 h.2)).symm, ht⟩) (fun q h => by cases h) dX1_isPlace_22
    · have c_6 := bI_ne hr_5 c_6
      refine lv_iconst (v := 1) hx hb dX1_isPlace_17 (by decide) ?_
      refine lv_goto (tgt := 22) hx hb dX1_isPlace_18 (by decide) ?_
      exact W.zret (v := 1) hx hb hr rfl (fun t ht hW => ⟨1, rfl, (bI_t ⟨c_3, c_6⟩).symm, ht⟩) (fun q h => by cases h) dX1_isPlace_22
set_option maxHeartbeats 400000 in
set_option maxRecDepth 100000 in
theorem metX0_isPlace (l : Launch) (G : va_G) (d : Nat → Nat) (v w : Int32) : Met l yX0_isPlace (ws_ yX0_isPlace cX0_isPlace 2 (some FieldType.boolean)) ({ frames := 1, cells := 0, slots := 0, locals := 22 } : Room) (va_Pc [.int v, .int w] (pR G d ([]))) (vp_Si (fun r => r = bI (inR v 0 11 ∧ inR w 0 7))) 0 0 (fun _ => False) := by
  refine Met.ofW (cc := cX0_isPlace) (maxL := 2) (ret := (some FieldType.boolean)) (by decide) rfl ?_
  intro p e s m args below meth c s₁ B hml hv
  obtain ⟨rfl, hP, hK⟩ := hv
  have hx := B.exec
  have hb := B.bytes
  have hr := B.returns
  have hts := atoms_spec (ws := (ws_ yX0_isPlace cX0_isPlace 2 (some FieldType.boolean))) B.pre
  have hts : ∀ w ∈ lw_all, w.before _ s = true := fun w h => hts w (List.mem_cons_of_mem _ h)
  have hown : s.vm.findClass RX0 = some m.cls := findClass_of_methodNamed B.named
  have hlocks := B.notSynchronized
  have hl := lv_entry ([.int v, .int w]) (n := 2) (Nat.le_of_ble_eq_true rfl)
  rw [lg_entry_eq]
  generalize (lg_sl ([.int v, .int w]) ++ List.replicate (2 - (lg_sl ([.int v, .int w])).length) Slot.unset).toArray = ls at hl ⊢
  have hl : lv_has ls 2 [(0, .int v), (1, .int w)] := hl
  refine lv_iload_n hx hb dX0_isPlace_0 rfl (lv_at hl 0 rfl) ?_
  refine lv_iconst (v := 0) hx hb dX0_isPlace_1 (by decide) ?_
  refine lv_bipush (v := 11) hx hb dX0_isPlace_2 (by decide +kernel) ?_
  refine y_rS (As := [.int v, .int 0, .int 11]) (rest := []) ⟨hx, hb, hml, hown, hts⟩ hK (ws := []) (fun _ _ h => by cases h) (metX0_in l G d v 0 11) (va_cwS 3 hts (lw_S q204 q205 q35 q206) rfl rfl rfl (by decide +kernel) ⟨Nat.le_of_ble_eq_true rfl, Nat.le_of_ble_eq_true rfl⟩) rfl hl.1 rfl (lv_room (Nat.le_of_ble_eq_true rfl)) dX0_isPlace_4 ⟨Nat.le_of_ble_eq_true rfl, Nat.le_of_ble_eq_true rfl⟩ (fun r_1 hr_2 => ?_)
  refine lv_if_eq (tgt := 24) hx hb dX0_isPlace_7 (by decide) (fun c_3 => ?_) (fun c_3 => ?_)
  · have c_3 := bI_eq hr_2 c_3
    refine lv_iconst (v := 0) hx hb dX0_isPlace_24 (by decide) ?_
    exact W.zret (v := 0) hx hb hr rfl (fun t ht hW => ⟨0, rfl, (bI_f (fun h => c_3 h.1)).symm, ht⟩) (fun q h => by cases h) dX0_isPlace_25
  · have c_3 := bI_ne hr_2 c_3
    refine lv_iload_n hx hb dX0_isPlace_10 rfl (lv_at hl 1 rfl) ?_
    refine lv_iconst (v := 0) hx hb dX0_isPlace_11 (by decide) ?_
    refine lv_bipush (v := 7) hx hb dX0_isPlace_12 (by decide +kernel) ?_
    refine y_rS (As := [.int w, .int 0, .int 7]) (rest := []) ⟨hx, hb, hml, hown, hts⟩ hK (ws := []) (fun _ _ h => by cases h) (metX0_in l G d w 0 7) (va_cwS 3 hts (lw_S q204 q205 q35 q206) rfl rfl rfl (by decide +kernel) ⟨Nat.le_of_ble_eq_true rfl, Nat.le_of_ble_eq_true rfl⟩) rfl hl.1 rfl (lv_room (Nat.le_of_ble_eq_true rfl)) dX0_isPlace_14 ⟨Nat.le_of_ble_eq_true rfl, Nat.le_of_ble_eq_true rfl⟩ (fun r_4 hr_5 => ?_)
    refine lv_if_eq (tgt := 24) hx hb dX0_isPlace_17 (by decide) (fun c_6 => ?_) (fun c_6 => ?_)
    · have c_6 := bI_eq hr_5 c_6
      refine lv_iconst (v := 0) hx hb dX0_isPlace_24 (by decide) ?_
      exact W.zret (v := 0) hx hb hr rfl (fun t ht hW => ⟨0, rfl, (bI_f (fun h => c_6 h.2)).symm, ht⟩) (fun q h => by cases h) dX0_isPlace_25
    · have c_6 := bI_ne hr_5 c_6
      refine lv_iconst (v := 1) hx hb dX0_isPlace_20 (by decide) ?_
      refine lv_goto (tgt := 25) hx hb dX0_isPlace_21 (by decide) ?_
      exact W.zret (v := 1) hx hb hr rfl (fun t ht hW => ⟨1, rfl, (bI_t ⟨c_3, c_6⟩).symm, ht⟩) (fun q h => by cases h) dX0_isPlace_25
set_option maxHeartbeats 400000 in
set_option maxRecDepth 100000 in
theorem metX1_meets (l : Launch) (G : va_G) (d : Nat → Nat) (sz : Nat) (b : Nat → Nat) (J : Nat → Int32) (E : Nat → Nat → Int32) (f : Nat) (hf : f < 6) : Met l yX1_meets (ws_ yX1_meets cX1_meets 2 (some FieldType.int)) ({ frames := 0, cells := 0, slots := 0, locals := 0 } : Room) (va_Pc [.ref (b 0), .int (nI f)] (pW G d sz (MW b J E d))) (va_Qi (fun (r : Int32) (u : MS) => r = -3 ∧ u = uFind (J, E) f) (fun (u : MS) t => bW G d (va_A (MW b J E d) sz) (MW b u.1 u.2 d) t) (va_A (MW b J E d) sz)) 0 0 (va_A (MW b J E d) sz) := by
  refine Met.ofW (cc := cX1_meets) (maxL := 2) (ret := (some FieldType.int)) (by decide) rfl ?_
  intro p e s m args below meth c s₁ B hml hv
  obtain ⟨rfl, hsz, hP, hK, hD0⟩ := hv
  have hx := B.exec
  have hb := B.bytes
  have hr := B.returns
  have hts := atoms_spec (ws := (ws_ yX1_meets cX1_meets 2 (some FieldType.int))) B.pre
  have hts : ∀ w ∈ lw_all, w.before _ s = true := fun w h => hts w (List.mem_cons_of_mem _ h)
  have hown : s.vm.findClass RX1 = some m.cls := findClass_of_methodNamed B.named
  have hlocks := B.notSynchronized
  subst hsz
  have hD := hD0.self (sz := s.heap.size)
  generalize hAe : va_A (MW b J E d) s.heap.size = A at hD ⊢
  have hA : ∀ q : Nat, s.heap.size ≤ q → A q := fun q h => by rw [← hAe]; exact Or.inr h
  have hS : va_S A s.heap s.heap [] := va_S.rf
  have hl := lv_entry ([.ref (b 0), .int (nI f)]) (n := 2) (Nat.le_of_ble_eq_true rfl)
  rw [lg_entry_eq]
  generalize (lg_sl ([.ref (b 0), .int (nI f)]) ++ List.replicate (2 - (lg_sl ([.ref (b 0), .int (nI f)])).length) Slot.unset).toArray = ls at hl ⊢
  have hl : lv_has ls 2 [(0, .ref (b 0)), (1, .int (nI f))] := hl
  have hP : va_P G CLS (MW b J E d) s.heap := hP
  refine lv_aload_n hx hb dX1_meets_0 rfl (lv_at hl 0 rfl) ?_
  refine lv_iload_n hx hb dX1_meets_1 rfl (lv_at hl 1 rfl) ?_
  refine va_put (D := G) (ci := 1) (v := .int (nI f)) (ty := .int) (C := RX1) (T := TX1) (N := 33) hx hb hts in_X1 tyX1 tyX1_ok nmX1 hown hK hP hD hS 0 rfl rfl 0 (Nat.le_of_ble_eq_true rfl) (hts _ q886) (fun _ h9 => h9) rfl (by decide +kernel) rfl rfl (Nat.le_of_ble_eq_true rfl) dX1_meets_2 (fun H locs hP hD hS => ?_)
  have hP : va_P G CLS (MW b (upd J 0 (nI f)) E d) H := hP
  have hD : va_D A (MW b (upd J 0 (nI f)) E d) := hD
  refine lv_aload_n hx hb dX1_meets_5 rfl (lv_at hl 0 rfl) ?_
  refine va_get (D := G) (ci := 1) (v := .ref (b 1)) (C := RX1) (T := TX1) (N := 33) hx hb hts in_X1 hown hK hP 0 rfl rfl 1 (Nat.le_of_ble_eq_true rfl) (hts _ q887) (fun _ h9 => h9) rfl dX1_meets_6 ?_
  refine lv_iload_n hx hb dX1_meets_9 rfl (lv_at hl 1 rfl) ?_
  refine lv_dup2_11 hx hb dX1_meets_10 rfl rfl ?_
  refine y_iald (N := f) (f := E 1) hx hb hK hP 1 0 rfl rfl rfl (by omega) (by decide) dX1_meets_11 ?_
  refine lv_iconst (v := 1) hx hb dX1_meets_12 (by decide) ?_
  refine lv_iadd hx hb dX1_meets_13 ?_
  refine y_iast (N := f) (f := E 1) hx hb hK hP hD hS 1 0 rfl rfl rfl (by omega) (by decide) dX1_meets_14 (fun H locs hP hD hS => ?_)
  have hP : va_P G CLS (MW b (upd J 0 (nI f)) (va_up E 1 (upd (E 1) f (((E 1) f) + 1))) d) H := hP
  have hD : va_D A (MW b (upd J 0 (nI f)) (va_up E 1 (upd (E 1) f (((E 1) f) + 1))) d) := hD
  refine lv_bipush (v := (-3)) hx hb dX1_meets_15 (by decide +kernel) ?_
  exact W.iret (v := (-3)) hx hb hr (fun t ht hW => ⟨⟨(-3), (upd J 0 (nI f), va_up E 1 (upd (E 1) f (((E 1) f) + 1))), rfl, ⟨rfl, rfl⟩, by rw [ht]; exact hP, va_K.moved hW.alike hK, hD⟩, hS.F ht⟩) hS.2.2 dX1_meets_17
set_option maxHeartbeats 400000 in
set_option maxRecDepth 100000 in
theorem metX1_tell (l : Launch) (G : va_G) (d : Nat → Nat) (sz : Nat) (b : Nat → Nat) (J : Nat → Int32) (E : Nat → Nat → Int32) (v a : Int32) : Met l yX1_tell (ws_ yX1_tell cX1_tell 3 (some FieldType.int)) ({ frames := 0, cells := 0, slots := 0, locals := 0 } : Room) (va_Pc [.ref (b 0), .int v, .int a] (pW G d sz (MW b J E d))) (va_Qi (fun (r : Int32) (u : MS) => r = a ∧ u = (upd J 2 v, E)) (fun (u : MS) t => bW G d (va_A (MW b J E d) sz) (MW b u.1 u.2 d) t) (va_A (MW b J E d) sz)) 0 0 (va_A (MW b J E d) sz) := by
  refine Met.ofW (cc := cX1_tell) (maxL := 3) (ret := (some FieldType.int)) (by decide) rfl ?_
  intro p e s m args below meth c s₁ B hml hv
  obtain ⟨rfl, hsz, hP, hK, hD0⟩ := hv
  have hx := B.exec
  have hb := B.bytes
  have hr := B.returns
  have hts := atoms_spec (ws := (ws_ yX1_tell cX1_tell 3 (some FieldType.int))) B.pre
  have hts : ∀ w ∈ lw_all, w.before _ s = true := fun w h => hts w (List.mem_cons_of_mem _ h)
  have hown : s.vm.findClass RX1 = some m.cls := findClass_of_methodNamed B.named
  have hlocks := B.notSynchronized
  subst hsz
  have hD := hD0.self (sz := s.heap.size)
  generalize hAe : va_A (MW b J E d) s.heap.size = A at hD ⊢
  have hA : ∀ q : Nat, s.heap.size ≤ q → A q := fun q h => by rw [← hAe]; exact Or.inr h
  have hS : va_S A s.heap s.heap [] := va_S.rf
  have hl := lv_entry ([.ref (b 0), .int v, .int a]) (n := 3) (Nat.le_of_ble_eq_true rfl)
  rw [lg_entry_eq]
  generalize (lg_sl ([.ref (b 0), .int v, .int a]) ++ List.replicate (3 - (lg_sl ([.ref (b 0), .int v, .int a])).length) Slot.unset).toArray = ls at hl ⊢
  have hl : lv_has ls 3 [(0, .ref (b 0)), (1, .int v), (2, .int a)] := hl
  have hP : va_P G CLS (MW b J E d) s.heap := hP
  refine lv_aload_n hx hb dX1_tell_0 rfl (lv_at hl 0 rfl) ?_
  refine lv_iload_n hx hb dX1_tell_1 rfl (lv_at hl 1 rfl) ?_
  refine va_put (D := G) (ci := 1) (v := .int v) (ty := .int) (C := RX1) (T := TX1) (N := 33) hx hb hts in_X1 tyX1 tyX1_ok nmX1 hown hK hP hD hS 0 rfl rfl 2 (Nat.le_of_ble_eq_true rfl) (hts _ q888) (fun _ h9 => h9) rfl (by decide +kernel) rfl rfl (Nat.le_of_ble_eq_true rfl) dX1_tell_2 (fun H locs hP hD hS => ?_)
  have hP : va_P G CLS (MW b (upd J 2 v) E d) H := hP
  have hD : va_D A (MW b (upd J 2 v) E d) := hD
  refine lv_iload_n hx hb dX1_tell_5 rfl (lv_at hl 2 rfl) ?_
  exact W.iret (v := a) hx hb hr (fun t ht hW => ⟨⟨a, (upd J 2 v, E), rfl, ⟨rfl, rfl⟩, by rw [ht]; exact hP, va_K.moved hW.alike hK, hD⟩, hS.F ht⟩) hS.2.2 dX1_tell_6
set_option maxHeartbeats 400000 in
set_option maxRecDepth 100000 in
theorem metX1_looked (l : Launch) (G : va_G) (d : Nat → Nat) (sz : Nat) (b : Nat → Nat) (J : Nat → Int32) (E : Nat → Nat → Int32) (v : Int32) : Met l yX1_looked (ws_ yX1_looked cX1_looked 2 (some FieldType.int)) ({ frames := 2, cells := 0, slots := 0, locals := 42 } : Room) (va_Pc [.ref (b 0), .int v] (pW G d sz (MW b J E d))) (va_Qi (fun (r : Int32) (u : MS) => (¬ inR v 0 3 ∧ r = -1 ∧ u = (J, E)) ∨ (∃ k : Nat, k < 4 ∧ v = nI k ∧ E 3 k = 0 ∧ r = -3 ∧ u = uFind (J, E) 1) ∨ (∃ k : Nat, k < 4 ∧ v = nI k ∧ ¬ E 3 k = 0 ∧ r = 0 ∧ u = (J, E))) (fun (u : MS) t => bW G d (va_A (MW b J E d) sz) (MW b u.1 u.2 d) t) (va_A (MW b J E d) sz)) 0 0 (va_A (MW b J E d) sz) := by
  refine Met.ofW (cc := cX1_looked) (maxL := 2) (ret := (some FieldType.int)) (by decide) rfl ?_
  intro p e s m args below meth c s₁ B hml hv
  obtain ⟨rfl, hsz, hP, hK, hD0⟩ := hv
  have hx := B.exec
  have hb := B.bytes
  have hr := B.returns
  have hts := atoms_spec (ws := (ws_ yX1_looked cX1_looked 2 (some FieldType.int))) B.pre
  have hts : ∀ w ∈ lw_all, w.before _ s = true := fun w h => hts w (List.mem_cons_of_mem _ h)
  have hown : s.vm.findClass RX1 = some m.cls := findClass_of_methodNamed B.named
  have hlocks := B.notSynchronized
  subst hsz
  have hD := hD0.self (sz := s.heap.size)
  generalize hAe : va_A (MW b J E d) s.heap.size = A at hD ⊢
  have hA : ∀ q : Nat, s.heap.size ≤ q → A q := fun q h => by rw [← hAe]; exact Or.inr h
  have hS : va_S A s.heap s.heap [] := va_S.rf
  have hl := lv_entry ([.ref (b 0), .int v]) (n := 2) (Nat.le_of_ble_eq_true rfl)
  rw [lg_entry_eq]
  generalize (lg_sl ([.ref (b 0), .int v]) ++ List.replicate (2 - (lg_sl ([.ref (b 0), .int v])).length) Slot.unset).toArray = ls at hl ⊢
  have hl : lv_has ls 2 [(0, .ref (b 0)), (1, .int v)] := hl
  have hP : va_P G CLS (MW b J E d) s.heap := hP
  refine lv_iload_n hx hb dX1_looked_0 rfl (lv_at hl 1 rfl) ?_
  refine y_rS (As := [.int v]) (rest := []) ⟨hx, hb, hml, hown, hts⟩ hK (ws := []) (fun _ _ h => by cases h) (metX1_isNumber l G d v) (va_cwS 1 hts (lw_S q991 q992 q39 q993) rfl rfl rfl (by decide +kernel) ⟨Nat.le_of_ble_eq_true rfl, Nat.le_of_ble_eq_true rfl⟩) rfl hl.1 rfl (lv_room (Nat.le_of_ble_eq_true rfl)) dX1_looked_1 ⟨Nat.le_of_ble_eq_true rfl, Nat.le_of_ble_eq_true rfl⟩ (fun r_1 hr_2 => ?_)
  refine lv_if_ne (tgt := 11) hx hb dX1_looked_4 (by decide) (fun c_3 => ?_) (fun c_3 => ?_)
  · have c_3 := bI_ne hr_2 c_3
    obtain ⟨k, hk, rfl⟩ := inR_n (n := 3) (by decide) c_3
    refine lv_aload_n hx hb dX1_looked_11 rfl (lv_at hl 0 rfl) ?_
    refine va_get (D := G) (ci := 1) (v := .ref (b 3)) (C := RX1) (T := TX1) (N := 33) hx hb hts in_X1 hown hK hP 0 rfl rfl 3 (Nat.le_of_ble_eq_true rfl) (hts _ q889) (fun _ h9 => h9) rfl dX1_looked_12 ?_
    refine lv_iload_n hx hb dX1_looked_15 rfl (lv_at hl 1 rfl) ?_
    refine y_zald (N := k) (f := E 3) hx hb hK hP 2 1 rfl rfl rfl (by omega) (by decide) dX1_looked_16 ?_
    refine lv_if_eq (tgt := 24) hx hb dX1_looked_17 (by decide) (fun c_4 => ?_) (fun c_4 => ?_)
    · refine lv_aload_n hx hb dX1_looked_24 rfl (lv_at hl 0 rfl) ?_
      refine lv_iconst (v := 1) hx hb dX1_looked_25 (by decide) ?_
      refine y_cVi (As := [.int 1]) (rest := []) (ci := 1) (q0 := 0) ⟨hx, hb, hml, hown, hts⟩ hK hP hD hS hA (metX1_meets l G d s.heap.size b J E 1 (by omega)) (cwV 1 hts (lw_V q1005 q1007 qs19 q39 q1008) rfl rfl rfl (by decide +kernel) ⟨Nat.le_of_ble_eq_true rfl, Nat.le_of_ble_eq_true rfl⟩) rfl rfl rfl hl.1 rfl (lv_room (Nat.le_of_ble_eq_true rfl)) dX1_looked_26 ⟨Nat.le_of_ble_eq_true rfl, Nat.le_of_ble_eq_true rfl⟩ (fun r_5 u_7 H locs hw_6 hP hD hS => ?_)
      obtain ⟨rfl, rfl⟩ := hw_6
      exact W.iret (v := (-3)) hx hb hr (fun t ht hW => ⟨⟨(-3), (uFind (J, E) 1), rfl, Or.inr (Or.inl ⟨k, hk, rfl, c_4, rfl, rfl⟩), by rw [ht]; exact hP, va_K.moved hW.alike hK, hD⟩, hS.F ht⟩) hS.2.2 dX1_looked_29
    · refine lv_iconst (v := 0) hx hb dX1_looked_20 (by decide) ?_
      refine lv_goto (tgt := 29) hx hb dX1_looked_21 (by decide) ?_
      exact W.iret (v := 0) hx hb hr (fun t ht hW => ⟨⟨0, (J, E), rfl, Or.inr (Or.inr ⟨k, hk, rfl, c_4, rfl, rfl⟩), by rw [ht]; exact hP, va_K.moved hW.alike hK, hD⟩, hS.F ht⟩) hS.2.2 dX1_looked_29
  · have c_3 := bI_eq hr_2 c_3
    refine lv_iconst (v := (-1)) hx hb dX1_looked_7 (by decide) ?_
    refine lv_goto (tgt := 29) hx hb dX1_looked_8 (by decide) ?_
    exact W.iret (v := (-1)) hx hb hr (fun t ht hW => ⟨⟨(-1), (J, E), rfl, Or.inl ⟨c_3, rfl, rfl⟩, by rw [ht]; exact hP, va_K.moved hW.alike hK, hD⟩, hS.F ht⟩) hS.2.2 dX1_looked_29
