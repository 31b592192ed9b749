set_option maxHeartbeats 400000 in
set_option maxRecDepth 100000 in
theorem metX2_kind (l : Launch) (G : va_G) (d : Nat → Nat) (y : Nat) (ws : va_W) : Met l yX2_kind (ws_ yX2_kind cX2_kind 1 (some FieldType.int)) ({ frames := 0, cells := 0, slots := 0, locals := 0 } : Room) (va_Pc [.ref y] (pR G d ws)) (vp_Si (fun r => r = 0)) 0 0 (fun _ => False) := by
  refine Met.ofW (cc := cX2_kind) (maxL := 1) (ret := (some FieldType.int)) (by decide) rfl ?_
  intro p e s m args below meth c s₁ B hml hv
  obtain ⟨rfl, hP, hK⟩ := hv
  have hx := B.exec
  have hb := B.bytes
  have hr := B.returns
  have hts := atoms_spec (ws := (ws_ yX2_kind cX2_kind 1 (some FieldType.int))) B.pre
  have hts : ∀ w ∈ lw_all, w.before _ s = true := fun w h => hts w (List.mem_cons_of_mem _ h)
  have hown : s.vm.findClass RX2 = some m.cls := findClass_of_methodNamed B.named
  have hlocks := B.notSynchronized
  have hl := lv_entry ([.ref y]) (n := 1) (Nat.le_of_ble_eq_true rfl)
  rw [lg_entry_eq]
  generalize (lg_sl ([.ref y]) ++ List.replicate (1 - (lg_sl ([.ref y])).length) Slot.unset).toArray = ls at hl ⊢
  have hl : lv_has ls 1 [(0, .ref y)] := hl
  refine lv_iconst (v := 0) hx hb dX2_kind_0 (by decide) ?_
  exact W.iret (v := 0) hx hb hr (fun t ht hW => ⟨0, rfl, rfl, ht⟩) (fun q h => by cases h) dX2_kind_1
set_option maxHeartbeats 400000 in
set_option maxRecDepth 100000 in
theorem metX4_kind (l : Launch) (G : va_G) (d : Nat → Nat) (y : Nat) (ws : va_W) : Met l yX4_kind (ws_ yX4_kind cX4_kind 1 (some FieldType.int)) ({ frames := 0, cells := 0, slots := 0, locals := 0 } : Room) (va_Pc [.ref y] (pR G d ws)) (vp_Si (fun r => r = 2)) 0 0 (fun _ => False) := by
  refine Met.ofW (cc := cX4_kind) (maxL := 1) (ret := (some FieldType.int)) (by decide) rfl ?_
  intro p e s m args below meth c s₁ B hml hv
  obtain ⟨rfl, hP, hK⟩ := hv
  have hx := B.exec
  have hb := B.bytes
  have hr := B.returns
  have hts := atoms_spec (ws := (ws_ yX4_kind cX4_kind 1 (some FieldType.int))) B.pre
  have hts : ∀ w ∈ lw_all, w.before _ s = true := fun w h => hts w (List.mem_cons_of_mem _ h)
  have hown : s.vm.findClass RX4 = some m.cls := findClass_of_methodNamed B.named
  have hlocks := B.notSynchronized
  have hl := lv_entry ([.ref y]) (n := 1) (Nat.le_of_ble_eq_true rfl)
  rw [lg_entry_eq]
  generalize (lg_sl ([.ref y]) ++ List.replicate (1 - (lg_sl ([.ref y])).length) Slot.unset).toArray = ls at hl ⊢
  have hl : lv_has ls 1 [(0, .ref y)] := hl
  refine lv_iconst (v := 2) hx hb dX4_kind_0 (by decide) ?_
  exact W.iret (v := 2) hx hb hr (fun t ht hW => ⟨2, rfl, rfl, ht⟩) (fun q h => by cases h) dX4_kind_1
set_option maxHeartbeats 400000 in
set_option maxRecDepth 100000 in
theorem metX5_kind (l : Launch) (G : va_G) (d : Nat → Nat) (y : Nat) (ws : va_W) : Met l yX5_kind (ws_ yX5_kind cX5_kind 1 (some FieldType.int)) ({ frames := 0, cells := 0, slots := 0, locals := 0 } : Room) (va_Pc [.ref y] (pR G d ws)) (vp_Si (fun r => r = 3)) 0 0 (fun _ => False) := by
  refine Met.ofW (cc := cX5_kind) (maxL := 1) (ret := (some FieldType.int)) (by decide) rfl ?_
  intro p e s m args below meth c s₁ B hml hv
  obtain ⟨rfl, hP, hK⟩ := hv
  have hx := B.exec
  have hb := B.bytes
  have hr := B.returns
  have hts := atoms_spec (ws := (ws_ yX5_kind cX5_kind 1 (some FieldType.int))) B.pre
  have hts : ∀ w ∈ lw_all, w.before _ s = true := fun w h => hts w (List.mem_cons_of_mem _ h)
  have hown : s.vm.findClass RX5 = some m.cls := findClass_of_methodNamed B.named
  have hlocks := B.notSynchronized
  have hl := lv_entry ([.ref y]) (n := 1) (Nat.le_of_ble_eq_true rfl)
  rw [lg_entry_eq]
  generalize (lg_sl ([.ref y]) ++ List.replicate (1 - (lg_sl ([.ref y])).length) Slot.unset).toArray = ls at hl ⊢
  have hl : lv_has ls 1 [(0, .ref y)] := hl
  refine lv_iconst (v := 3) hx hb dX5_kind_0 (by decide) ?_
  exact W.iret (v := 3) hx hb hr (fun t ht hW => ⟨3, rfl, rfl, ht⟩) (fun q h => by cases h) dX5_kind_1
set_option maxHeartbeats 400000 in
set_option maxRecDepth 100000 in
theorem metX6_kind (l : Launch) (G : va_G) (d : Nat → Nat) (y : Nat) (ws : va_W) : Met l yX6_kind (ws_ yX6_kind cX6_kind 1 (some FieldType.int)) ({ frames := 0, cells := 0, slots := 0, locals := 0 } : Room) (va_Pc [.ref y] (pR G d ws)) (vp_Si (fun r => r = 4)) 0 0 (fun _ => False) := by
  refine Met.ofW (cc := cX6_kind) (maxL := 1) (ret := (some FieldType.int)) (by decide) rfl ?_
  intro p e s m args below meth c s₁ B hml hv
  obtain ⟨rfl, hP, hK⟩ := hv
  have hx := B.exec
  have hb := B.bytes
  have hr := B.returns
  have hts := atoms_spec (ws := (ws_ yX6_kind cX6_kind 1 (some FieldType.int))) B.pre
  have hts : ∀ w ∈ lw_all, w.before _ s = true := fun w h => hts w (List.mem_cons_of_mem _ h)
  have hown : s.vm.findClass RX6 = some m.cls := findClass_of_methodNamed B.named
  have hlocks := B.notSynchronized
  have hl := lv_entry ([.ref y]) (n := 1) (Nat.le_of_ble_eq_true rfl)
  rw [lg_entry_eq]
  generalize (lg_sl ([.ref y]) ++ List.replicate (1 - (lg_sl ([.ref y])).length) Slot.unset).toArray = ls at hl ⊢
  have hl : lv_has ls 1 [(0, .ref y)] := hl
  refine lv_iconst (v := 4) hx hb dX6_kind_0 (by decide) ?_
  exact W.iret (v := 4) hx hb hr (fun t ht hW => ⟨4, rfl, rfl, ht⟩) (fun q h => by cases h) dX6_kind_1
set_option maxHeartbeats 400000 in
set_option maxRecDepth 100000 in
theorem metX3_kind (l : Launch) (G : va_G) (d : Nat → Nat) (y : Nat) (fs : List Value) : Met l yX3_kind (ws_ yX3_kind cX3_kind 1 (some FieldType.int)) ({ frames := 1, cells := 0, slots := 0, locals := 20 } : Room) (va_Pc [.ref y] (pR G d ([(y, .inr (3, fs))]))) (vp_Si (fun r => r = 1)) 0 0 (fun _ => False) := by
  refine Met.ofW (cc := cX3_kind) (maxL := 1) (ret := (some FieldType.int)) (by decide) rfl ?_
  intro p e s m args below meth c s₁ B hml hv
  obtain ⟨rfl, hP, hK⟩ := hv
  have hx := B.exec
  have hb := B.bytes
  have hr := B.returns
  have hts := atoms_spec (ws := (ws_ yX3_kind cX3_kind 1 (some FieldType.int))) B.pre
  have hts : ∀ w ∈ lw_all, w.before _ s = true := fun w h => hts w (List.mem_cons_of_mem _ h)
  have hown : s.vm.findClass RX3 = some m.cls := findClass_of_methodNamed B.named
  have hlocks := B.notSynchronized
  have hl := lv_entry ([.ref y]) (n := 1) (Nat.le_of_ble_eq_true rfl)
  rw [lg_entry_eq]
  generalize (lg_sl ([.ref y]) ++ List.replicate (1 - (lg_sl ([.ref y])).length) Slot.unset).toArray = ls at hl ⊢
  have hl : lv_has ls 1 [(0, .ref y)] := hl
  refine lv_aload_n hx hb dX3_kind_0 rfl (lv_at hl 0 rfl) ?_
  refine vp_callSi (va_Run.run (va_runSU (C := RX3) (As := []) (rest := []) ((hK.1 3 _ rfl).2) ⟨hx, hb, hml, hown, hts⟩ (metX2_kind l G d y [(y, .inr (3, fs))]) (va_cwSU 0 hts (lw_app (lw5 q570 q566 q483 q564 q50) (lw_meth q571)) rfl rfl rfl (by decide +kernel) ⟨Nat.le_of_ble_eq_true rfl, Nat.le_of_ble_eq_true rfl⟩) ⟨pR_blind, va_recv hK hP (ci := 3) (q0 := 0) rfl rfl, fun U hU hW => ⟨rfl, by rw [hU]; exact hP, va_K.moved hW.alike hK⟩⟩ rfl rfl hl.1 rfl (lv_room (Nat.le_of_ble_eq_true rfl)) dX3_kind_1 ⟨Nat.le_of_ble_eq_true rfl, Nat.le_of_ble_eq_true rfl⟩)) (fun r9 hr9 => ?_)
  rw [hr9]
  refine lv_iconst (v := 1) hx hb dX3_kind_4 (by decide) ?_
  refine lv_iadd hx hb dX3_kind_5 ?_
  refine y_top (y := nI (0 + 1)) (nI_add 0 1) ?_
  exact W.iret (v := nI (0 + 1)) hx hb hr (fun t ht hW => ⟨nI (0 + 1), rfl, rfl, ht⟩) (fun q h => by cases h) dX3_kind_6
set_option maxHeartbeats 400000 in
set_option maxRecDepth 100000 in
theorem metX6_cut (l : Launch) (G : va_G) (d : Nat → Nat) (y a0 q : Nat) (P : Nat → Nat → Int32) : Met l yX6_cut (ws_ yX6_cut cX6_cut 1 (some FieldType.int)) ({ frames := 0, cells := 0, slots := 0, locals := 0 } : Room) (va_Pc [.ref y] (pR G d ([(y, .inr (6, ptF a0 P q ++ [.int (P 6 q), .ref a0]))]))) (vp_Si (fun r => r = P 6 q)) 0 0 (fun _ => False) := by
  refine Met.ofW (cc := cX6_cut) (maxL := 1) (ret := (some FieldType.int)) (by decide) rfl ?_
  intro p e s m args below meth c s₁ B hml hv
  obtain ⟨rfl, hP, hK⟩ := hv
  have hx := B.exec
  have hb := B.bytes
  have hr := B.returns
  have hts := atoms_spec (ws := (ws_ yX6_cut cX6_cut 1 (some FieldType.int))) B.pre
  have hts : ∀ w ∈ lw_all, w.before _ s = true := fun w h => hts w (List.mem_cons_of_mem _ h)
  have hown : s.vm.findClass RX6 = some m.cls := findClass_of_methodNamed B.named
  have hlocks := B.notSynchronized
  have hl := lv_entry ([.ref y]) (n := 1) (Nat.le_of_ble_eq_true rfl)
  rw [lg_entry_eq]
  generalize (lg_sl ([.ref y]) ++ List.replicate (1 - (lg_sl ([.ref y])).length) Slot.unset).toArray = ls at hl ⊢
  have hl : lv_has ls 1 [(0, .ref y)] := hl
  refine lv_aload_n hx hb dX6_cut_0 rfl (lv_at hl 0 rfl) ?_
  refine va_get (D := G) (ci := 6) (v := .int (P 6 q)) (C := RX6) (T := TX6) (N := 10) hx hb hts in_X6 hown hK hP 0 rfl rfl 8 (Nat.le_of_ble_eq_true rfl) (hts _ q526) (fun _ h9 => h9) rfl dX6_cut_1 ?_
  exact W.iret (v := P 6 q) hx hb hr (fun t ht hW => ⟨P 6 q, rfl, rfl, ht⟩) (fun q h => by cases h) dX6_cut_4
set_option maxHeartbeats 400000 in
set_option maxRecDepth 100000 in
theorem metX9_cut (l : Launch) (G : va_G) (d : Nat → Nat) (y : Nat) (ws : va_W) : Met l yX9_cut (ws_ yX9_cut cX9_cut 1 (some FieldType.int)) ({ frames := 0, cells := 0, slots := 0, locals := 0 } : Room) (va_Pc [.ref y] (pR G d ws)) (vp_Si (fun r => r = 0)) 0 0 (fun _ => False) := by
  refine Met.ofW (cc := cX9_cut) (maxL := 1) (ret := (some FieldType.int)) (by decide) rfl ?_
  intro p e s m args below meth c s₁ B hml hv
  obtain ⟨rfl, hP, hK⟩ := hv
  have hx := B.exec
  have hb := B.bytes
  have hr := B.returns
  have hts := atoms_spec (ws := (ws_ yX9_cut cX9_cut 1 (some FieldType.int))) B.pre
  have hts : ∀ w ∈ lw_all, w.before _ s = true := fun w h => hts w (List.mem_cons_of_mem _ h)
  have hown : s.vm.findClass RX9 = some m.cls := findClass_of_methodNamed B.named
  have hlocks := B.notSynchronized
  have hl := lv_entry ([.ref y]) (n := 1) (Nat.le_of_ble_eq_true rfl)
  rw [lg_entry_eq]
  generalize (lg_sl ([.ref y]) ++ List.replicate (1 - (lg_sl ([.ref y])).length) Slot.unset).toArray = ls at hl ⊢
  have hl : lv_has ls 1 [(0, .ref y)] := hl
  refine lv_iconst (v := 0) hx hb dX9_cut_0 (by decide) ?_
  exact W.iret (v := 0) hx hb hr (fun t ht hW => ⟨0, rfl, rfl, ht⟩) (fun q h => by cases h) dX9_cut_1
