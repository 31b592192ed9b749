set_option maxHeartbeats 400000 in
set_option maxRecDepth 100000 in
theorem metX0_found (l : Launch) (G : va_G) (d : Nat → Nat) (sz : Nat) (a : Nat → Nat) (I : Nat → Int32) (F : Nat → Nat → Int32) (S : Nat → Nat → Option Nat) (lm : Int32 × Nat × Int32) (LP : List Nat) (fp : Nat → va_E) (q : Nat) (hq : q < 6) : Met l yX0_found (ws_ yX0_found cX0_found 2 (some FieldType.int)) ({ frames := 0, cells := 0, slots := 0, locals := 0 } : Room) (va_Pc [.ref (a 0), .int (nI q)] (pW G d sz (XW a I F S lm LP fp d))) (va_Qi (fun (r : Int32) (u : MS) => r = -3 ∧ u = uFind (I, F) q) (fun (u : MS) t => bW G d (va_A (XW a I F S lm LP fp d) sz) (XW a u.1 u.2 S lm LP fp d) t) (va_A (XW a I F S lm LP fp d) sz)) 0 0 (va_A (XW a I F S lm LP fp d) sz) := by
  refine Met.ofW (cc := cX0_found) (maxL := 2) (ret := (some FieldType.int)) (by decide) rfl ?_
  intro p e s m args below meth c s₁ B hml hv
  obtain ⟨rfl, hsz, hP, hK, hD0⟩ := hv
  have hx := B.exec
  have hb := B.bytes
  have hr := B.returns
  have hts := atoms_spec (ws := (ws_ yX0_found cX0_found 2 (some FieldType.int))) B.pre
  have hts : ∀ w ∈ lw_all, w.before _ s = true := fun w h => hts w (List.mem_cons_of_mem _ h)
  have hown : s.vm.findClass RX0 = some m.cls := findClass_of_methodNamed B.named
  have hlocks := B.notSynchronized
  subst hsz
  have hD := hD0.self (sz := s.heap.size)
  generalize hAe : va_A (XW a I F S lm LP fp d) s.heap.size = A at hD ⊢
  have hA : ∀ q : Nat, s.heap.size ≤ q → A q := fun q h => by rw [← hAe]; exact Or.inr h
  have hS : va_S A s.heap s.heap [] := va_S.rf
  have hl := lv_entry ([.ref (a 0), .int (nI q)]) (n := 2) (Nat.le_of_ble_eq_true rfl)
  rw [lg_entry_eq]
  generalize (lg_sl ([.ref (a 0), .int (nI q)]) ++ List.replicate (2 - (lg_sl ([.ref (a 0), .int (nI q)])).length) Slot.unset).toArray = ls at hl ⊢
  have hl : lv_has ls 2 [(0, .ref (a 0)), (1, .int (nI q))] := hl
  have hP : va_P G CLS (XW a I F S lm LP fp d) s.heap := hP
  refine lv_aload_n hx hb dX0_found_0 rfl (lv_at hl 0 rfl) ?_
  refine lv_iload_n hx hb dX0_found_1 rfl (lv_at hl 1 rfl) ?_
  refine va_put (D := G) (ci := 0) (v := .int (nI q)) (ty := .int) (C := RX0) (T := TX0) (N := 29) hx hb hts in_X0 tyX0 tyX0_ok nmX0 hown hK hP hD hS 0 rfl rfl 0 (Nat.le_of_ble_eq_true rfl) (hts _ q105) (fun _ h9 => h9) rfl (by decide +kernel) rfl rfl (Nat.le_of_ble_eq_true rfl) dX0_found_2 (fun H locs hP hD hS => ?_)
  have hP : va_P G CLS (XW a (upd I 0 (nI q)) F S lm LP fp d) H := hP
  have hD : va_D A (XW a (upd I 0 (nI q)) F S lm LP fp d) := hD
  refine lv_aload_n hx hb dX0_found_5 rfl (lv_at hl 0 rfl) ?_
  refine va_get (D := G) (ci := 0) (v := .ref (a 1)) (C := RX0) (T := TX0) (N := 29) hx hb hts in_X0 hown hK hP 0 rfl rfl 1 (Nat.le_of_ble_eq_true rfl) (hts _ q106) (fun _ h9 => h9) rfl dX0_found_6 ?_
  refine lv_iload_n hx hb dX0_found_9 rfl (lv_at hl 1 rfl) ?_
  refine lv_dup2_11 hx hb dX0_found_10 rfl rfl ?_
  refine y_iald (N := q) (f := F 1) hx hb hK hP 1 0 rfl rfl rfl (by omega) (by decide) dX0_found_11 ?_
  refine lv_iconst (v := 1) hx hb dX0_found_12 (by decide) ?_
  refine lv_iadd hx hb dX0_found_13 ?_
  refine y_iast (N := q) (f := F 1) hx hb hK hP hD hS 1 0 rfl rfl rfl (by omega) (by decide) dX0_found_14 (fun H locs hP hD hS => ?_)
  have hP : va_P G CLS (XW a (upd I 0 (nI q)) (va_up F 1 (upd (F 1) q (((F 1) q) + 1))) S lm LP fp d) H := hP
  have hD : va_D A (XW a (upd I 0 (nI q)) (va_up F 1 (upd (F 1) q (((F 1) q) + 1))) S lm LP fp d) := hD
  refine lv_bipush (v := (-3)) hx hb dX0_found_15 (by decide +kernel) ?_
  exact W.iret (v := (-3)) hx hb hr (fun t ht hW => ⟨⟨(-3), (upd I 0 (nI q), va_up F 1 (upd (F 1) q (((F 1) q) + 1))), rfl, ⟨rfl, rfl⟩, by rw [ht]; exact hP, va_K.moved hW.alike hK, hD⟩, hS.F ht⟩) hS.2.2 dX0_found_17
set_option maxHeartbeats 400000 in
set_option maxRecDepth 100000 in
theorem metX0_tells (l : Launch) (G : va_G) (d : Nat → Nat) (sz : Nat) (a : Nat → Nat) (I : Nat → Int32) (F : Nat → Nat → Int32) (S : Nat → Nat → Option Nat) (lm : Int32 × Nat × Int32) (LP : List Nat) (fp : Nat → va_E) (v w : Int32) : Met l yX0_tells (ws_ yX0_tells cX0_tells 3 (some FieldType.int)) ({ frames := 0, cells := 0, slots := 0, locals := 0 } : Room) (va_Pc [.ref (a 0), .int v, .int w] (pW G d sz (XW a I F S lm LP fp d))) (va_Qi (fun (r : Int32) (u : MS) => r = w ∧ u = (upd I 2 v, F)) (fun (u : MS) t => bW G d (va_A (XW a I F S lm LP fp d) sz) (XW a u.1 u.2 S lm LP fp d) t) (va_A (XW a I F S lm LP fp d) sz)) 0 0 (va_A (XW a I F S lm LP fp d) sz) := by
  refine Met.ofW (cc := cX0_tells) (maxL := 3) (ret := (some FieldType.int)) (by decide) rfl ?_
  intro p e s m args below meth c s₁ B hml hv
  obtain ⟨rfl, hsz, hP, hK, hD0⟩ := hv
  have hx := B.exec
  have hb := B.bytes
  have hr := B.returns
  have hts := atoms_spec (ws := (ws_ yX0_tells cX0_tells 3 (some FieldType.int))) B.pre
  have hts : ∀ w ∈ lw_all, w.before _ s = true := fun w h => hts w (List.mem_cons_of_mem _ h)
  have hown : s.vm.findClass RX0 = some m.cls := findClass_of_methodNamed B.named
  have hlocks := B.notSynchronized
  subst hsz
  have hD := hD0.self (sz := s.heap.size)
  generalize hAe : va_A (XW a I F S lm LP fp d) s.heap.size = A at hD ⊢
  have hA : ∀ q : Nat, s.heap.size ≤ q → A q := fun q h => by rw [← hAe]; exact Or.inr h
  have hS : va_S A s.heap s.heap [] := va_S.rf
  have hl := lv_entry ([.ref (a 0), .int v, .int w]) (n := 3) (Nat.le_of_ble_eq_true rfl)
  rw [lg_entry_eq]
  generalize (lg_sl ([.ref (a 0), .int v, .int w]) ++ List.replicate (3 - (lg_sl ([.ref (a 0), .int v, .int w])).length) Slot.unset).toArray = ls at hl ⊢
  have hl : lv_has ls 3 [(0, .ref (a 0)), (1, .int v), (2, .int w)] := hl
  have hP : va_P G CLS (XW a I F S lm LP fp d) s.heap := hP
  refine lv_aload_n hx hb dX0_tells_0 rfl (lv_at hl 0 rfl) ?_
  refine lv_iload_n hx hb dX0_tells_1 rfl (lv_at hl 1 rfl) ?_
  refine va_put (D := G) (ci := 0) (v := .int v) (ty := .int) (C := RX0) (T := TX0) (N := 29) hx hb hts in_X0 tyX0 tyX0_ok nmX0 hown hK hP hD hS 0 rfl rfl 2 (Nat.le_of_ble_eq_true rfl) (hts _ q107) (fun _ h9 => h9) rfl (by decide +kernel) rfl rfl (Nat.le_of_ble_eq_true rfl) dX0_tells_2 (fun H locs hP hD hS => ?_)
  have hP : va_P G CLS (XW a (upd I 2 v) F S lm LP fp d) H := hP
  have hD : va_D A (XW a (upd I 2 v) F S lm LP fp d) := hD
  refine lv_iload_n hx hb dX0_tells_5 rfl (lv_at hl 2 rfl) ?_
  exact W.iret (v := w) hx hb hr (fun t ht hW => ⟨⟨w, (upd I 2 v, F), rfl, ⟨rfl, rfl⟩, by rw [ht]; exact hP, va_K.moved hW.alike hK, hD⟩, hS.F ht⟩) hS.2.2 dX0_tells_6
set_option maxHeartbeats 400000 in
set_option maxRecDepth 100000 in
theorem metX0_asked (l : Launch) (G : va_G) (d : Nat → Nat) (a : Nat → Nat) (I : Nat → Int32) (F : Nat → Nat → Int32) (S : Nat → Nat → Option Nat) (lm : Int32 × Nat × Int32) (LP : List Nat) (fp : Nat → va_E) : Met l yX0_asked (ws_ yX0_asked cX0_asked 1 (some FieldType.int)) ({ frames := 0, cells := 0, slots := 0, locals := 0 } : Room) (va_Pc [.ref (a 0)] (pR G d (XW a I F S lm LP fp d))) (vp_Si (fun x => x = I 2)) 0 0 (fun _ => False) := by
  refine Met.ofW (cc := cX0_asked) (maxL := 1) (ret := (some FieldType.int)) (by decide) rfl ?_
  intro p e s m args below meth c s₁ B hml hv
  obtain ⟨rfl, hP, hK⟩ := hv
  have hx := B.exec
  have hb := B.bytes
  have hr := B.returns
  have hts := atoms_spec (ws := (ws_ yX0_asked cX0_asked 1 (some FieldType.int))) B.pre
  have hts : ∀ w ∈ lw_all, w.before _ s = true := fun w h => hts w (List.mem_cons_of_mem _ h)
  have hown : s.vm.findClass RX0 = some m.cls := findClass_of_methodNamed B.named
  have hlocks := B.notSynchronized
  have hl := lv_entry ([.ref (a 0)]) (n := 1) (Nat.le_of_ble_eq_true rfl)
  rw [lg_entry_eq]
  generalize (lg_sl ([.ref (a 0)]) ++ List.replicate (1 - (lg_sl ([.ref (a 0)])).length) Slot.unset).toArray = ls at hl ⊢
  have hl : lv_has ls 1 [(0, .ref (a 0))] := hl
  refine lv_aload_n hx hb dX0_asked_0 rfl (lv_at hl 0 rfl) ?_
  refine va_get (D := G) (ci := 0) (v := .int (I 2)) (C := RX0) (T := TX0) (N := 29) hx hb hts in_X0 hown hK hP 0 rfl rfl 2 (Nat.le_of_ble_eq_true rfl) (hts _ q107) (fun _ h9 => h9) rfl dX0_asked_1 ?_
  exact W.iret (v := I 2) hx hb hr (fun t ht hW => ⟨I 2, rfl, rfl, ht⟩) (fun q h => by cases h) dX0_asked_4
set_option maxHeartbeats 400000 in
set_option maxRecDepth 100000 in
theorem metX0_finding (l : Launch) (G : va_G) (d : Nat → Nat) (a : Nat → Nat) (I : Nat → Int32) (F : Nat → Nat → Int32) (S : Nat → Nat → Option Nat) (lm : Int32 × Nat × Int32) (LP : List Nat) (fp : Nat → va_E) : Met l yX0_finding (ws_ yX0_finding cX0_finding 1 (some FieldType.int)) ({ frames := 0, cells := 0, slots := 0, locals := 0 } : Room) (va_Pc [.ref (a 0)] (pR G d (XW a I F S lm LP fp d))) (vp_Si (fun x => x = I 0)) 0 0 (fun _ => False) := by
  refine Met.ofW (cc := cX0_finding) (maxL := 1) (ret := (some FieldType.int)) (by decide) rfl ?_
  intro p e s m args below meth c s₁ B hml hv
  obtain ⟨rfl, hP, hK⟩ := hv
  have hx := B.exec
  have hb := B.bytes
  have hr := B.returns
  have hts := atoms_spec (ws := (ws_ yX0_finding cX0_finding 1 (some FieldType.int))) B.pre
  have hts : ∀ w ∈ lw_all, w.before _ s = true := fun w h => hts w (List.mem_cons_of_mem _ h)
  have hown : s.vm.findClass RX0 = some m.cls := findClass_of_methodNamed B.named
  have hlocks := B.notSynchronized
  have hl := lv_entry ([.ref (a 0)]) (n := 1) (Nat.le_of_ble_eq_true rfl)
  rw [lg_entry_eq]
  generalize (lg_sl ([.ref (a 0)]) ++ List.replicate (1 - (lg_sl ([.ref (a 0)])).length) Slot.unset).toArray = ls at hl ⊢
  have hl : lv_has ls 1 [(0, .ref (a 0))] := hl
  refine lv_aload_n hx hb dX0_finding_0 rfl (lv_at hl 0 rfl) ?_
  refine va_get (D := G) (ci := 0) (v := .int (I 0)) (C := RX0) (T := TX0) (N := 29) hx hb hts in_X0 hown hK hP 0 rfl rfl 0 (Nat.le_of_ble_eq_true rfl) (hts _ q105) (fun _ h9 => h9) rfl dX0_finding_1 ?_
  exact W.iret (v := I 0) hx hb hr (fun t ht hW => ⟨I 0, rfl, rfl, ht⟩) (fun q h => by cases h) dX0_finding_4
set_option maxHeartbeats 400000 in
set_option maxRecDepth 100000 in
theorem metX0_tries (l : Launch) (G : va_G) (d : Nat → Nat) (a : Nat → Nat) (I : Nat → Int32) (F : Nat → Nat → Int32) (S : Nat → Nat → Option Nat) (lm : Int32 × Nat × Int32) (LP : List Nat) (fp : Nat → va_E) : Met l yX0_tries (ws_ yX0_tries cX0_tries 1 (some FieldType.int)) ({ frames := 0, cells := 0, slots := 0, locals := 0 } : Room) (va_Pc [.ref (a 0)] (pR G d (XW a I F S lm LP fp d))) (vp_Si (fun x => x = I 17)) 0 0 (fun _ => False) := by
  refine Met.ofW (cc := cX0_tries) (maxL := 1) (ret := (some FieldType.int)) (by decide) rfl ?_
  intro p e s m args below meth c s₁ B hml hv
  obtain ⟨rfl, hP, hK⟩ := hv
  have hx := B.exec
  have hb := B.bytes
  have hr := B.returns
  have hts := atoms_spec (ws := (ws_ yX0_tries cX0_tries 1 (some FieldType.int))) B.pre
  have hts : ∀ w ∈ lw_all, w.before _ s = true := fun w h => hts w (List.mem_cons_of_mem _ h)
  have hown : s.vm.findClass RX0 = some m.cls := findClass_of_methodNamed B.named
  have hlocks := B.notSynchronized
  have hl := lv_entry ([.ref (a 0)]) (n := 1) (Nat.le_of_ble_eq_true rfl)
  rw [lg_entry_eq]
  generalize (lg_sl ([.ref (a 0)]) ++ List.replicate (1 - (lg_sl ([.ref (a 0)])).length) Slot.unset).toArray = ls at hl ⊢
  have hl : lv_has ls 1 [(0, .ref (a 0))] := hl
  refine lv_aload_n hx hb dX0_tries_0 rfl (lv_at hl 0 rfl) ?_
  refine va_get (D := G) (ci := 0) (v := .int (I 17)) (C := RX0) (T := TX0) (N := 29) hx hb hts in_X0 hown hK hP 0 rfl rfl 17 (Nat.le_of_ble_eq_true rfl) (hts _ q126) (fun _ h9 => h9) rfl dX0_tries_1 ?_
  exact W.iret (v := I 17) hx hb hr (fun t ht hW => ⟨I 17, rfl, rfl, ht⟩) (fun q h => by cases h) dX0_tries_4
set_option maxHeartbeats 400000 in
set_option maxRecDepth 100000 in
theorem metX0_need (l : Launch) (G : va_G) (d : Nat → Nat) (sz : Nat) (a : Nat → Nat) (I : Nat → Int32) (F : Nat → Nat → Int32) (S : Nat → Nat → Option Nat) (lm : Int32 × Nat × Int32) (LP : List Nat) (fp : Nat → va_E) (v : Int32) : Met l yX0_need (ws_ yX0_need cX0_need 2 (some FieldType.int)) ({ frames := 2, cells := 0, slots := 0, locals := 42 } : Room) (va_Pc [.ref (a 0), .int v] (pW G d sz (XW a I F S lm LP fp d))) (va_Qi (fun (r : Int32) (u : MS) => (¬ inR v 0 3 ∧ r = -1 ∧ u = (I, F)) ∨ (∃ k : Nat, k < 4 ∧ v = nI k ∧ S 3 k = none ∧ r = -3 ∧ u = uFind (I, F) 1) ∨ (∃ k y : Nat, k < 4 ∧ v = nI k ∧ S 3 k = some y ∧ r = 0 ∧ u = (I, F))) (fun (u : MS) t => bW G d (va_A (XW a I F S lm LP fp d) sz) (XW a u.1 u.2 S lm LP fp d) t) (va_A (XW a I F S lm LP fp d) sz)) 0 0 (va_A (XW a I F S lm LP fp d) sz) := by
  refine Met.ofW (cc := cX0_need) (maxL := 2) (ret := (some FieldType.int)) (by decide) rfl ?_
  intro p e s m args below meth c s₁ B hml hv
  obtain ⟨rfl, hsz, hP, hK, hD0⟩ := hv
  have hx := B.exec
  have hb := B.bytes
  have hr := B.returns
  have hts := atoms_spec (ws := (ws_ yX0_need cX0_need 2 (some FieldType.int))) B.pre
  have hts : ∀ w ∈ lw_all, w.before _ s = true := fun w h => hts w (List.mem_cons_of_mem _ h)
  have hown : s.vm.findClass RX0 = some m.cls := findClass_of_methodNamed B.named
  have hlocks := B.notSynchronized
  subst hsz
  have hD := hD0.self (sz := s.heap.size)
  generalize hAe : va_A (XW a I F S lm LP fp d) s.heap.size = A at hD ⊢
  have hA : ∀ q : Nat, s.heap.size ≤ q → A q := fun q h => by rw [← hAe]; exact Or.inr h
  have hS : va_S A s.heap s.heap [] := va_S.rf
  have hl := lv_entry ([.ref (a 0), .int v]) (n := 2) (Nat.le_of_ble_eq_true rfl)
  rw [lg_entry_eq]
  generalize (lg_sl ([.ref (a 0), .int v]) ++ List.replicate (2 - (lg_sl ([.ref (a 0), .int v])).length) Slot.unset).toArray = ls at hl ⊢
  have hl : lv_has ls 2 [(0, .ref (a 0)), (1, .int v)] := hl
  have hP : va_P G CLS (XW a I F S lm LP fp d) s.heap := hP
  refine lv_iload_n hx hb dX0_need_0 rfl (lv_at hl 1 rfl) ?_
  refine y_rS (As := [.int v]) (rest := []) ⟨hx, hb, hml, hown, hts⟩ hK (ws := []) (fun _ _ h => by cases h) (metX0_isScan l G d v) (va_cwS 1 hts (lw_S q201 q202 q35 q203) rfl rfl rfl (by decide +kernel) ⟨Nat.le_of_ble_eq_true rfl, Nat.le_of_ble_eq_true rfl⟩) rfl hl.1 rfl (lv_room (Nat.le_of_ble_eq_true rfl)) dX0_need_1 ⟨Nat.le_of_ble_eq_true rfl, Nat.le_of_ble_eq_true rfl⟩ (fun r_1 hr_2 => ?_)
  refine lv_if_ne (tgt := 11) hx hb dX0_need_4 (by decide) (fun c_3 => ?_) (fun c_3 => ?_)
  · have c_3 := bI_ne hr_2 c_3
    obtain ⟨k, hk, rfl⟩ := inR_n (n := 3) (by decide) c_3
    refine lv_aload_n hx hb dX0_need_11 rfl (lv_at hl 0 rfl) ?_
    refine va_get (D := G) (ci := 0) (v := .ref (a 3)) (C := RX0) (T := TX0) (N := 29) hx hb hts in_X0 hown hK hP 0 rfl rfl 3 (Nat.le_of_ble_eq_true rfl) (hts _ q108) (fun _ h9 => h9) rfl dX0_need_12 ?_
    refine lv_iload_n hx hb dX0_need_15 rfl (lv_at hl 1 rfl) ?_
    refine y_aldA (N := k) (g := S 3) hx hb hK hP 2 2 rfl rfl rfl (by omega) (by decide) dX0_need_16 ?_
    rcases hq9 : S 3 k with _ | y9
    · refine y_topv (y := .null) rfl ?_
      refine lv_ifnonnullN hx hb dX0_need_17 ?_
      refine lv_aload_n hx hb dX0_need_20 rfl (lv_at hl 0 rfl) ?_
      refine lv_iconst (v := 1) hx hb dX0_need_21 (by decide) ?_
      refine y_cVi (As := [.int 1]) (rest := []) (ci := 0) (q0 := 0) ⟨hx, hb, hml, hown, hts⟩ hK hP hD hS hA (metX0_found l G d s.heap.size a I F S lm LP fp 1 (by omega)) (cwV 1 hts (lw_V q215 q217 qs1 q35 q218) rfl rfl rfl (by decide +kernel) ⟨Nat.le_of_ble_eq_true rfl, Nat.le_of_ble_eq_true rfl⟩) rfl rfl rfl hl.1 rfl (lv_room (Nat.le_of_ble_eq_true rfl)) dX0_need_22 ⟨Nat.le_of_ble_eq_true rfl, Nat.le_of_ble_eq_true rfl⟩ (fun r_4 u_6 H locs hw_5 hP hD hS => ?_)
      obtain ⟨rfl, rfl⟩ := hw_5
      refine lv_goto (tgt := 29) hx hb dX0_need_25 (by decide) ?_
      exact W.iret (v := (-3)) hx hb hr (fun t ht hW => ⟨⟨(-3), (uFind (I, F) 1), rfl, Or.inr (Or.inl ⟨k, hk, rfl, hq9, rfl, rfl⟩), by rw [ht]; exact hP, va_K.moved hW.alike hK, hD⟩, hS.F ht⟩) hS.2.2 dX0_need_29
    · refine y_topv (y := .ref y9) rfl ?_
      refine lv_ifnonnull (tgt := 28) hx hb dX0_need_17 (by decide) ?_
      refine lv_iconst (v := 0) hx hb dX0_need_28 (by decide) ?_
      exact W.iret (v := 0) hx hb hr (fun t ht hW => ⟨⟨0, (I, F), rfl, Or.inr (Or.inr ⟨k, y9, hk, rfl, hq9, rfl, rfl⟩), by rw [ht]; exact hP, va_K.moved hW.alike hK, hD⟩, hS.F ht⟩) hS.2.2 dX0_need_29
  · have c_3 := bI_eq hr_2 c_3
    refine lv_iconst (v := (-1)) hx hb dX0_need_7 (by decide) ?_
    refine lv_goto (tgt := 29) hx hb dX0_need_8 (by decide) ?_
    exact W.iret (v := (-1)) hx hb hr (fun t ht hW => ⟨⟨(-1), (I, F), rfl, Or.inl ⟨c_3, rfl, rfl⟩, by rw [ht]; exact hP, va_K.moved hW.alike hK, hD⟩, hS.F ht⟩) hS.2.2 dX0_need_29
set_option maxHeartbeats 400000 in
set_option maxRecDepth 100000 in
theorem metX0_lay (l : Launch) (G : va_G) (d : Nat → Nat) (sz : Nat) (a : Nat → Nat) (I : Nat → Int32) (F : Nat → Nat → Int32) (S : Nat → Nat → Option Nat) (lm : Int32 × Nat × Int32) (LP : List Nat) (fp : Nat → va_E) (R : Nat → Nat → Int32) (v ring place z : Int32) (hrows : rowsIn S R LP fp (d 0))  : Met l yX0_lay (ws_ yX0_lay cX0_lay 7 (some FieldType.int)) ({ frames := 3, cells := 0, slots := 0, locals := 63 } : Room) (va_Pc [.ref (a 0), .int v, .int ring, .int place, .int z] (pW G d sz (XW a I F S lm LP fp d))) (va_Qi (fun (r : Int32) (u : YS) => (r, u) = xLay S R (d 0) (I, F) fp v ring place z) (fun (u : YS) t => bW G d (va_A (XW a I F S lm LP fp d) sz) (XW a u.1.1 u.1.2 S lm LP u.2 d) t) (va_A (XW a I F S lm LP fp d) sz)) 0 0 (va_A (XW a I F S lm LP fp d) sz) := by
  refine Met.ofW (cc := cX0_lay) (maxL := 7) (ret := (some FieldType.int)) (by decide) rfl ?_
  intro p e s m args below meth c s₁ B hml hv
  obtain ⟨rfl, hsz, hP, hK, hD0⟩ := hv
  have hx := B.exec
  have hb := B.bytes
  have hr := B.returns
  have hts := atoms_spec (ws := (ws_ yX0_lay cX0_lay 7 (some FieldType.int))) B.pre
  have hts : ∀ w ∈ lw_all, w.before _ s = true := fun w h => hts w (List.mem_cons_of_mem _ h)
  have hown : s.vm.findClass RX0 = some m.cls := findClass_of_methodNamed B.named
  have hlocks := B.notSynchronized
  subst hsz
  have hD := hD0.self (sz := s.heap.size)
  generalize hAe : va_A (XW a I F S lm LP fp d) s.heap.size = A at hD ⊢
  have hA : ∀ q : Nat, s.heap.size ≤ q → A q := fun q h => by rw [← hAe]; exact Or.inr h
  have hS : va_S A s.heap s.heap [] := va_S.rf
  have hl := lv_entry ([.ref (a 0), .int v, .int ring, .int place, .int z]) (n := 7) (Nat.le_of_ble_eq_true rfl)
  rw [lg_entry_eq]
  generalize (lg_sl ([.ref (a 0), .int v, .int ring, .int place, .int z]) ++ List.replicate (7 - (lg_sl ([.ref (a 0), .int v, .int ring, .int place, .int z])).length) Slot.unset).toArray = ls at hl ⊢
  have hl : lv_has ls 7 [(0, .ref (a 0)), (1, .int v), (2, .int ring), (3, .int place), (4, .int z)] := hl
  have hP : va_P G CLS (XW a I F S lm LP fp d) s.heap := hP
  refine lv_iload_n hx hb dX0_lay_0 rfl (lv_at hl 1 rfl) ?_
  refine y_rS (As := [.int v]) (rest := []) ⟨hx, hb, hml, hown, hts⟩ hK (ws := []) (fun _ _ h => by cases h) (metX0_isScan l G d v) (va_cwS 1 hts (lw_S q201 q202 q35 q203) rfl rfl rfl (by decide +kernel) ⟨Nat.le_of_ble_eq_true rfl, Nat.le_of_ble_eq_true rfl⟩) rfl hl.1 rfl (lv_room (Nat.le_of_ble_eq_true rfl)) dX0_lay_1 ⟨Nat.le_of_ble_eq_true rfl, Nat.le_of_ble_eq_true rfl⟩ (fun r_1 hr_2 => ?_)
  refine lv_if_eq (tgt := 26) hx hb dX0_lay_4 (by decide) (fun c_3 => ?_) (fun c_3 => ?_)
  · have c_3 := bI_eq hr_2 c_3
    refine lv_iconst (v := (-1)) hx hb dX0_lay_26 (by decide) ?_
    exact W.iret (v := (-1)) hx hb hr (fun t ht hW => ⟨⟨(-1), ((I, F), fp), rfl, by
        unfold xLay lookY
        by_cases hc : ¬ z = -9 ∧ ¬ inR z 0 500
        · rw [if_pos hc]
        · rw [if_neg hc, if_pos c_3], by rw [ht]; exact hP, va_K.moved hW.alike hK, hD⟩, hS.F ht⟩) hS.2.2 dX0_lay_27
  · have c_3 := bI_ne hr_2 c_3
    have hj_4 : ∀ (hc : ¬ (¬ z = -9 ∧ ¬ inR z 0 500)), W p l e (headSpec (ws_ yX0_lay cX0_lay 7 (some FieldType.int)) ({ frames := 3, cells := 0, slots := 0, locals := 63 } : Room)).room s m ([.ref (a 0), .int v, .int ring, .int place, .int z] : List Value).toArray below meth c s.heap [] 0 0 (MQ below (va_Qi (fun (r : Int32) (u : YS) => (r, u) = xLay S R (d 0) (I, F) fp v ring place z) (fun (u : YS) t => bW G d A (XW a u.1.1 u.1.2 S lm LP u.2 d) t) A) ([.ref (a 0), .int v, .int ring, .int place, .int z] : List Value).toArray s 0 0 A) (F0 m 28 ls []) := by
      intro hc
      refine lv_aload_n hx hb dX0_lay_28 rfl (lv_at hl 0 rfl) ?_
      refine lv_iload_n hx hb dX0_lay_29 rfl (lv_at hl 1 rfl) ?_
      refine y_cVi (As := [.int v]) (rest := []) (ci := 0) (q0 := 0) ⟨hx, hb, hml, hown, hts⟩ hK hP hD hS hA (metX0_need l G d s.heap.size a I F S lm LP fp v) (cwV 1 hts (lw_V q211 q213 qs0 q35 q214) rfl rfl rfl (by decide +kernel) ⟨Nat.le_of_ble_eq_true rfl, Nat.le_of_ble_eq_true rfl⟩) rfl rfl rfl hl.1 rfl (lv_room (Nat.le_of_ble_eq_true rfl)) dX0_lay_30 ⟨Nat.le_of_ble_eq_true rfl, Nat.le_of_ble_eq_true rfl⟩ (fun r_5 u_7 H locs hw_6 hP hD hS => ?_)
      rcases hw_6 with ⟨ha_8, hr_9, hu_10⟩ | ⟨k, hk, hv_11, he_12, hr_9, hu_10⟩ | ⟨k, y9, hk, hv_11, he_12, hr_9, hu_10⟩
      · subst hr_9; subst hu_10
        have hP : va_P G CLS (XW a I F S lm LP fp d) H := hP
        have hD : va_D A (XW a I F S lm LP fp d) := hD
        refine lv_istore (lv' := [(5, .int (-1)), (0, .ref (a 0)), (1, .int v), (2, .int ring), (3, .int place), (4, .int z)]) hx hb dX0_lay_33 hl (Nat.le_of_ble_eq_true rfl) rfl (fun ls hl => ?_)
        refine lv_iload hx hb dX0_lay_35 (lv_at hl 0 rfl) ?_
        refine lv_if_ge (tgt := 43) hx hb dX0_lay_37 (by decide) (fun c_13 => ?_) (fun c_13 => ?_)
        · exact absurd c_13 (by decide)
        · refine lv_iload hx hb dX0_lay_40 (lv_at hl 0 rfl) ?_
          exact W.iret (v := (-1)) hx hb hr (fun t ht hW => ⟨⟨(-1), ((I, F), fp), rfl, by unfold xLay lookY; rw [if_neg hc, if_pos ha_8], by rw [ht]; exact hP, va_K.moved hW.alike hK, hD⟩, hS.F ht⟩) hS.2.2 dX0_lay_42
      · subst hr_9; subst hu_10; subst hv_11
        have hP : va_P G CLS (XW a ((uFind (I, F) 1).1) ((uFind (I, F) 1).2) S lm LP fp d) H := hP
        have hD : va_D A (XW a ((uFind (I, F) 1).1) ((uFind (I, F) 1).2) S lm LP fp d) := hD
        refine lv_istore (lv' := [(5, .int (-3)), (0, .ref (a 0)), (1, .int (nI k)), (2, .int ring), (3, .int place), (4, .int z)]) hx hb dX0_lay_33 hl (Nat.le_of_ble_eq_true rfl) rfl (fun ls hl => ?_)
        refine lv_iload hx hb dX0_lay_35 (lv_at hl 0 rfl) ?_
        refine lv_if_ge (tgt := 43) hx hb dX0_lay_37 (by decide) (fun c_14 => ?_) (fun c_14 => ?_)
        · exact absurd c_14 (by decide)
        · refine lv_iload hx hb dX0_lay_40 (lv_at hl 0 rfl) ?_
          exact W.iret (v := (-3)) hx hb hr (fun t ht hW => ⟨⟨(-3), (uFind (I, F) 1, fp), rfl, by unfold xLay lookY; rw [if_neg hc, if_neg (not_not_intro (show inR (nI k) 0 3 from nI_inR (n := 3) (by omega) (by decide))), show S3 S (nI k) = false by rw [S3, cl_nI (show k < 2 ^ 31 by omega), he_12]; rfl, if_neg (by decide)], by rw [ht]; exact hP, va_K.moved hW.alike hK, hD⟩, hS.F ht⟩) hS.2.2 dX0_lay_42
      · subst hr_9; subst hu_10; subst hv_11
        obtain ⟨hy9, hf9⟩ := hrows k y9 (by omega) he_12
        have hP : va_P G CLS (XW a I F S lm LP fp d) H := hP
        have hD : va_D A (XW a I F S lm LP fp d) := hD
        refine lv_istore (lv' := [(5, .int 0), (0, .ref (a 0)), (1, .int (nI k)), (2, .int ring), (3, .int place), (4, .int z)]) hx hb dX0_lay_33 hl (Nat.le_of_ble_eq_true rfl) rfl (fun ls hl => ?_)
        refine lv_iload hx hb dX0_lay_35 (lv_at hl 0 rfl) ?_
        refine lv_if_ge (tgt := 43) hx hb dX0_lay_37 (by decide) (fun c_15 => ?_) (fun c_15 => ?_)
        · refine lv_iload_n hx hb dX0_lay_43 rfl (lv_at hl 3 rfl) ?_
          refine lv_iload_n hx hb dX0_lay_44 rfl (lv_at hl 4 rfl) ?_
          refine y_rS (As := [.int ring, .int place]) (rest := []) ⟨hx, hb, hml, hown, hts⟩ hK (ws := []) (fun _ _ h => by cases h) (metX0_isPlace l G d ring place) (va_cwS 2 hts (lw_S q219 q220 q35 q221) rfl rfl rfl (by decide +kernel) ⟨Nat.le_of_ble_eq_true rfl, Nat.le_of_ble_eq_true rfl⟩) rfl hl.1 rfl (lv_room (Nat.le_of_ble_eq_true rfl)) dX0_lay_45 ⟨Nat.le_of_ble_eq_true rfl, Nat.le_of_ble_eq_true rfl⟩ (fun r_16 hr_17 => ?_)
          refine lv_if_ne (tgt := 57) hx hb dX0_lay_48 (by decide) (fun c_18 => ?_) (fun c_18 => ?_)
          · have c_18 := bI_ne hr_17 c_18
            obtain ⟨rr, hrr, rfl⟩ := inR_n (n := 11) (by decide) c_18.1
            obtain ⟨qq, hqq, rfl⟩ := inR_n (n := 7) (by decide) c_18.2
            refine lv_aload_n hx hb dX0_lay_57 rfl (lv_at hl 1 rfl) ?_
            refine va_get (D := G) (ci := 0) (v := .ref (a 3)) (C := RX0) (T := TX0) (N := 29) hx hb hts in_X0 hown hK hP 0 rfl rfl 3 (Nat.le_of_ble_eq_true rfl) (hts _ q108) (fun _ h9 => h9) rfl dX0_lay_58 ?_
            refine lv_iload_n hx hb dX0_lay_61 rfl (lv_at hl 2 rfl) ?_
            refine y_aldA (N := k) (g := S 3) hx hb hK hP 2 2 rfl rfl rfl (by omega) (by decide) dX0_lay_62 ?_
            refine y_topv (y := .ref y9) (by rw [he_12]; rfl) ?_
            refine lv_bipush (v := 8) hx hb dX0_lay_63 (by decide +kernel) ?_
            refine lv_iload_n hx hb dX0_lay_65 rfl (lv_at hl 3 rfl) ?_
            refine lv_imul hx hb dX0_lay_66 ?_
            refine y_top (y := nI (8 * rr)) (pk_mul 8 rr) ?_
            refine lv_iload_n hx hb dX0_lay_67 rfl (lv_at hl 4 rfl) ?_
            refine lv_iadd hx hb dX0_lay_68 ?_
            refine y_top (y := nI ((8 * rr) + qq)) (nI_add (8 * rr) qq) ?_
            refine y_ialdP (N := (8 * rr) + qq) (g := (R k)) hx hb hK hP 0 hy9 hf9 rfl rfl (by omega) (by decide) dX0_lay_69 ?_
            refine lv_istore (lv' := [(6, .int ((R k) ((8 * rr) + qq))), (5, .int 0), (0, .ref (a 0)), (1, .int (nI k)), (2, .int (nI rr)), (3, .int (nI qq)), (4, .int z)]) hx hb dX0_lay_70 hl (Nat.le_of_ble_eq_true rfl) rfl (fun ls hl => ?_)
            refine lv_aload_n hx hb dX0_lay_72 rfl (lv_at hl 2 rfl) ?_
            refine va_get (D := G) (ci := 0) (v := .ref (a 3)) (C := RX0) (T := TX0) (N := 29) hx hb hts in_X0 hown hK hP 0 rfl rfl 3 (Nat.le_of_ble_eq_true rfl) (hts _ q108) (fun _ h9 => h9) rfl dX0_lay_73 ?_
            refine lv_iload_n hx hb dX0_lay_76 rfl (lv_at hl 3 rfl) ?_
            refine y_aldA (N := k) (g := S 3) hx hb hK hP 2 2 rfl rfl rfl (by omega) (by decide) dX0_lay_77 ?_
            refine y_topv (y := .ref y9) (by rw [he_12]; rfl) ?_
            refine lv_bipush (v := 8) hx hb dX0_lay_78 (by decide +kernel) ?_
            refine lv_iload_n hx hb dX0_lay_80 rfl (lv_at hl 4 rfl) ?_
            refine lv_imul hx hb dX0_lay_81 ?_
            refine y_top (y := nI (8 * rr)) (pk_mul 8 rr) ?_
            refine lv_iload_n hx hb dX0_lay_82 rfl (lv_at hl 5 rfl) ?_
            refine lv_iadd hx hb dX0_lay_83 ?_
            refine y_top (y := nI ((8 * rr) + qq)) (nI_add (8 * rr) qq) ?_
            refine lv_iload hx hb dX0_lay_84 (lv_at hl 6 rfl) ?_
            refine y_iastP (N := (8 * rr) + qq) (g := (R k)) hx hb hK hP hD hS 0 hy9 hf9 rfl rfl (by omega) (by decide) dX0_lay_86 (fun H locs hP hD hS => ?_)
            have hP : va_P G CLS (XW a I F S lm LP (va_up fp y9 (.inl (d 0, 96, .inl (upd (R k) ((8 * rr) + qq) z)))) d) H := hP
            have hD : va_D A (XW a I F S lm LP (va_up fp y9 (.inl (d 0, 96, .inl (upd (R k) ((8 * rr) + qq) z)))) d) := hD
            refine lv_iload hx hb dX0_lay_87 (lv_at hl 0 rfl) ?_
            exact W.iret (v := (R k) ((8 * rr) + qq)) hx hb hr (fun t ht hW => ⟨⟨(R k) ((8 * rr) + qq), ((I, F), va_up fp y9 (.inl (d 0, 96, .inl (upd (R k) ((8 * rr) + qq) z)))), rfl, by unfold xLay lookY; rw [if_neg hc, if_neg (not_not_intro (show inR (nI k) 0 3 from nI_inR (n := 3) (by omega) (by decide))), show S3 S (nI k) = true by rw [S3, cl_nI (show k < 2 ^ 31 by omega), he_12]; rfl, if_pos rfl, if_neg (not_not_intro ⟨(show inR (nI rr) 0 11 from nI_inR (n := 11) (by omega) (by decide)), (show inR (nI qq) 0 7 from nI_inR (n := 7) (by omega) (by decide))⟩), cl_nI (show rr < 2 ^ 31 by omega), cl_nI (show qq < 2 ^ 31 by omega), cl_nI (show k < 2 ^ 31 by omega), he_12]; rfl, by rw [ht]; exact hP, va_K.moved hW.alike hK, hD⟩, hS.F ht⟩) hS.2.2 dX0_lay_89
          · have c_18 := bI_eq hr_17 c_18
            refine lv_aload_n hx hb dX0_lay_51 rfl (lv_at hl 1 rfl) ?_
            refine lv_iconst (v := 2) hx hb dX0_lay_52 (by decide) ?_
            refine y_cVi (As := [.int 2]) (rest := []) (ci := 0) (q0 := 0) ⟨hx, hb, hml, hown, hts⟩ hK hP hD hS hA (metX0_found l G d H.size a I F S lm LP fp 2 (by omega)) (cwV 1 hts (lw_V q215 q217 qs1 q35 q218) rfl rfl rfl (by decide +kernel) ⟨Nat.le_of_ble_eq_true rfl, Nat.le_of_ble_eq_true rfl⟩) rfl rfl rfl hl.1 rfl (lv_room (Nat.le_of_ble_eq_true rfl)) dX0_lay_53 ⟨Nat.le_of_ble_eq_true rfl, Nat.le_of_ble_eq_true rfl⟩ (fun r_19 u_21 H locs hw_20 hP hD hS => ?_)
            obtain ⟨rfl, rfl⟩ := hw_20
            exact W.iret (v := (-3)) hx hb hr (fun t ht hW => ⟨⟨(-3), (uFind (I, F) 2, fp), rfl, by unfold xLay lookY; rw [if_neg hc, if_neg (not_not_intro (show inR (nI k) 0 3 from nI_inR (n := 3) (by omega) (by decide))), show S3 S (nI k) = true by rw [S3, cl_nI (show k < 2 ^ 31 by omega), he_12]; rfl, if_pos rfl, if_pos c_18], by rw [ht]; exact hP, va_K.moved hW.alike hK, hD⟩, hS.F ht⟩) hS.2.2 dX0_lay_56
        · exact absurd c_15 (by decide)
    refine lv_iload hx hb dX0_lay_7 (lv_at hl 4 rfl) ?_
    refine lv_bipush (v := (-9)) hx hb dX0_lay_9 (by decide +kernel) ?_
    refine lv_icmp_eq (tgt := 28) hx hb dX0_lay_11 (by decide) (fun c_22 => ?_) (fun c_22 => ?_)
    · exact hj_4 (fun h => h.1 c_22)
    · refine lv_iload hx hb dX0_lay_14 (lv_at hl 4 rfl) ?_
      refine lv_iconst (v := 0) hx hb dX0_lay_16 (by decide) ?_
      refine lv_sipush (v := 500) hx hb dX0_lay_17 (by decide +kernel) ?_
      refine y_rS (As := [.int z, .int 0, .int 500]) (rest := []) ⟨hx, hb, hml, hown, hts⟩ hK (ws := []) (fun _ _ h => by cases h) (metX0_in l G d z 0 500) (va_cwS 3 hts (lw_S q204 q205 q35 q206) rfl rfl rfl (by decide +kernel) ⟨Nat.le_of_ble_eq_true rfl, Nat.le_of_ble_eq_true rfl⟩) rfl hl.1 rfl (lv_room (Nat.le_of_ble_eq_true rfl)) dX0_lay_20 ⟨Nat.le_of_ble_eq_true rfl, Nat.le_of_ble_eq_true rfl⟩ (fun r_23 hr_24 => ?_)
      refine lv_if_ne (tgt := 28) hx hb dX0_lay_23 (by decide) (fun c_25 => ?_) (fun c_25 => ?_)
      · have c_25 := bI_ne hr_24 c_25
        exact hj_4 (fun h => h.2 c_25)
      · have c_25 := bI_eq hr_24 c_25
        refine lv_iconst (v := (-1)) hx hb dX0_lay_26 (by decide) ?_
        exact W.iret (v := (-1)) hx hb hr (fun t ht hW => ⟨⟨(-1), ((I, F), fp), rfl, (if_pos ⟨c_22, c_25⟩).symm, by rw [ht]; exact hP, va_K.moved hW.alike hK, hD⟩, hS.F ht⟩) hS.2.2 dX0_lay_27
set_option maxHeartbeats 400000 in
set_option maxRecDepth 100000 in
theorem metX0_shaped (l : Launch) (G : va_G) (d : Nat → Nat) (a : Nat → Nat) (I : Nat → Int32) (F : Nat → Nat → Int32) (S : Nat → Nat → Option Nat) (lm : Int32 × Nat × Int32) (LP : List Nat) (fp : Nat → va_E) (y : Nat) (g : Nat → Int32) (r q n : Nat) (hy : y ∈ LP) (hfy : fp y = .inl (d 0, 96, .inl g)) (h12 : r < 12) (hq : q < 8) (hn12 : n ≤ 12) (hn : I 4 = nI n) : Met l yX0_shaped (ws_ yX0_shaped cX0_shaped 7 (some FieldType.int)) ({ frames := 3, cells := 0, slots := 0, locals := 72 } : Room) (va_Pc [.ref (a 0), .ref y, .int (nI r), .int (nI q)] (pR G d (XW a I F S lm LP fp d))) (vp_Si (fun x => x = shapeV (F 5) (F 6) (F 7) (F 8) n r q (fillV (gR g r) q))) 0 0 (fun _ => False) := by
  refine Met.ofW (cc := cX0_shaped) (maxL := 7) (ret := (some FieldType.int)) (by decide) rfl ?_
  intro p e s m args below meth c s₁ B hml hv
  obtain ⟨rfl, hP, hK⟩ := hv
  have hx := B.exec
  have hb := B.bytes
  have hr := B.returns
  have hts := atoms_spec (ws := (ws_ yX0_shaped cX0_shaped 7 (some FieldType.int))) B.pre
  have hts : ∀ w ∈ lw_all, w.before _ s = true := fun w h => hts w (List.mem_cons_of_mem _ h)
  have hown : s.vm.findClass RX0 = some m.cls := findClass_of_methodNamed B.named
  have hlocks := B.notSynchronized
  have hl := lv_entry ([.ref (a 0), .ref y, .int (nI r), .int (nI q)]) (n := 7) (Nat.le_of_ble_eq_true rfl)
  rw [lg_entry_eq]
  generalize (lg_sl ([.ref (a 0), .ref y, .int (nI r), .int (nI q)]) ++ List.replicate (7 - (lg_sl ([.ref (a 0), .ref y, .int (nI r), .int (nI q)])).length) Slot.unset).toArray = ls at hl ⊢
  have hl : lv_has ls 7 [(0, .ref (a 0)), (1, .ref y), (2, .int (nI r)), (3, .int (nI q))] := hl
  refine lv_aload_n hx hb dX0_shaped_0 rfl (lv_at hl 1 rfl) ?_
  refine lv_iload_n hx hb dX0_shaped_1 rfl (lv_at hl 2 rfl) ?_
  refine lv_iload_n hx hb dX0_shaped_2 rfl (lv_at hl 3 rfl) ?_
  refine y_rS (As := [.ref y, .int (nI r), .int (nI q)]) (rest := []) ⟨hx, hb, hml, hown, hts⟩ hK (pool_one hP hy hfy) (metX0_filled l G d y g r q (by omega) (by omega)) (va_cwS 3 hts (lw_S q230 q231 q35 q232) rfl rfl rfl (by decide +kernel) ⟨Nat.le_of_ble_eq_true rfl, Nat.le_of_ble_eq_true rfl⟩) rfl hl.1 rfl (lv_room (Nat.le_of_ble_eq_true rfl)) dX0_shaped_3 ⟨Nat.le_of_ble_eq_true rfl, Nat.le_of_ble_eq_true rfl⟩ (fun r_1 hr_2 => ?_)
  rw [hr_2]
  refine lv_istore (lv' := [(4, .int (fillV (gR g r) q)), (0, .ref (a 0)), (1, .ref y), (2, .int (nI r)), (3, .int (nI q))]) hx hb dX0_shaped_6 hl (Nat.le_of_ble_eq_true rfl) rfl (fun ls hl => ?_)
  refine lv_iload hx hb dX0_shaped_8 (lv_at hl 0 rfl) ?_
  refine lv_bipush (v := (-9)) hx hb dX0_shaped_10 (by decide +kernel) ?_
  refine lv_icmp_ne (tgt := 18) hx hb dX0_shaped_12 (by decide) (fun c_3 => ?_) (fun c_3 => ?_)
  · refine lv_iconst (v := 0) hx hb dX0_shaped_18 (by decide) ?_
    refine lv_istore (lv' := [(5, .int 0), (4, .int (fillV (gR g r) q)), (0, .ref (a 0)), (1, .ref y), (2, .int (nI r)), (3, .int (nI q))]) hx hb dX0_shaped_19 hl (Nat.le_of_ble_eq_true rfl) rfl (fun ls hl => ?_)
    have lp_4 : ∀ (fu : Nat) (i : Nat) (v : Int32) (hi : i ≤ n) (hm : n < i + fu) (hv : v = ruleS (F 5) (F 6) (F 7) (F 8) r q (fillV (gR g r) q) i) (ls : Array Slot) (hl : lv_has ls 7 [(5, .int (nI i)), (4, .int v), (0, .ref (a 0)), (1, .ref y), (2, .int (nI r)), (3, .int (nI q))]), W p l e (headSpec (ws_ yX0_shaped cX0_shaped 7 (some FieldType.int)) ({ frames := 3, cells := 0, slots := 0, locals := 72 } : Room)).room s m ([.ref (a 0), .ref y, .int (nI r), .int (nI q)] : List Value).toArray below meth c s.heap [] 0 0 (MQ below (vp_Si (fun x => x = shapeV (F 5) (F 6) (F 7) (F 8) n r q (fillV (gR g r) q))) ([.ref (a 0), .ref y, .int (nI r), .int (nI q)] : List Value).toArray s 0 0 (fun _ => False)) (F0 m 21 ls []) := by
      intro fu
      induction fu with
      | zero =>
        intro i v hi hm hv ls hl
        exfalso; omega
      | succ fu ih_lp_4 =>
        intro i v hi hm hv ls hl
        refine lv_iload hx hb dX0_shaped_21 (lv_at hl 0 rfl) ?_
        refine lv_aload_n hx hb dX0_shaped_23 rfl (lv_at hl 2 rfl) ?_
        refine va_get (D := G) (ci := 0) (v := .int (I 4)) (C := RX0) (T := TX0) (N := 29) hx hb hts in_X0 hown hK hP 0 rfl rfl 4 (Nat.le_of_ble_eq_true rfl) (hts _ q109) (fun _ h9 => h9) rfl dX0_shaped_24 ?_
        refine y_top (y := nI n) hn ?_
        refine lv_icmp_ge (tgt := 100) hx hb dX0_shaped_27 (by decide) (fun c_5 => ?_) (fun c_5 => ?_)
        · have c_5 : n ≤ i := (nI_leI (a := n) (b := i) (by omega) (by omega)).mp c_5
          refine lv_iconst (v := 0) hx hb dX0_shaped_100 (by decide) ?_
          refine lv_iload hx hb dX0_shaped_101 (lv_at hl 1 rfl) ?_
          refine va_mmax hx hb (by rw [hml, hl.1]) hown (hts _ q239) (hts _ q240) (hts _ q40) (hts _ q241) (Nat.le_of_ble_eq_true rfl) (Nat.le_of_ble_eq_true rfl) (Nat.le_of_ble_eq_true rfl) (Nat.le_of_ble_eq_true rfl) dX0_shaped_103 ?_
          exact W.iret (v := if 0 < v then v else 0) hx hb hr (fun t ht hW => ⟨if 0 < v then v else 0, rfl, by
              rw [shapeV, if_neg c_3, ← (show i = n by omega), ← hv]
              by_cases w : v < 0
              · rw [if_pos w, if_neg (Int32.not_lt.mpr (Int32.le_of_lt w))]
              · rw [if_neg w]
                by_cases w2 : 0 < v
                · rw [if_pos w2]
                · rw [if_neg w2]; exact i32_eq_of w2 w, ht⟩) (fun q h => by cases h) dX0_shaped_106
        · have c_5 : ¬ n ≤ i := fun h => c_5 ((nI_leI (a := n) (b := i) (by omega) (by omega)).mpr h)
          have hj_6 : ∀ (x : Int32) (hxx : x = bI (inR (nI r) (F 5 i) (F 6 i) ∧ (F 7 i >>> (nI q &&& 31)) &&& 1 = 1)), W p l e (headSpec (ws_ yX0_shaped cX0_shaped 7 (some FieldType.int)) ({ frames := 3, cells := 0, slots := 0, locals := 72 } : Room)).room s m ([.ref (a 0), .ref y, .int (nI r), .int (nI q)] : List Value).toArray below meth c s.heap [] 0 0 (MQ below (vp_Si (fun x => x = shapeV (F 5) (F 6) (F 7) (F 8) n r q (fillV (gR g r) q))) ([.ref (a 0), .ref y, .int (nI r), .int (nI q)] : List Value).toArray s 0 0 (fun _ => False)) (F0 m 71 ls [.int x]) := by
            intro x hxx
            refine lv_istore (lv' := [(6, .int x), (5, .int (nI i)), (4, .int v), (0, .ref (a 0)), (1, .ref y), (2, .int (nI r)), (3, .int (nI q))]) hx hb dX0_shaped_71 hl (Nat.le_of_ble_eq_true rfl) rfl (fun ls hl => ?_)
            refine lv_iload hx hb dX0_shaped_73 (lv_at hl 2 rfl) ?_
            refine lv_iload hx hb dX0_shaped_75 (lv_at hl 0 rfl) ?_
            refine lv_if_eq (tgt := 90) hx hb dX0_shaped_77 (by decide) (fun c_7 => ?_) (fun c_7 => ?_)
            · refine lv_iconst (v := 0) hx hb dX0_shaped_90 (by decide) ?_
              refine lv_iadd hx hb dX0_shaped_91 ?_
              refine lv_istore (lv' := [(4, .int (v + 0)), (6, .int x), (5, .int (nI i)), (0, .ref (a 0)), (1, .ref y), (2, .int (nI r)), (3, .int (nI q))]) hx hb dX0_shaped_92 hl (Nat.le_of_ble_eq_true rfl) rfl (fun ls hl => ?_)
              refine lv_iinc (v := nI (i + 1)) (lv' := [(5, .int (nI (i + 1))), (4, .int (v + 0)), (6, .int x), (0, .ref (a 0)), (1, .ref y), (2, .int (nI r)), (3, .int (nI q))]) hx hb dX0_shaped_94 hl (k := 2) rfl (nI_add i 1) (Nat.le_of_ble_eq_true rfl) rfl (fun ls hl => ?_)
              refine lv_goto (tgt := 21) hx hb dX0_shaped_97 (by decide) ?_
              exact ih_lp_4 (i + 1) _ (by omega) (by omega) (by rw [hv]; show _ = ruleS (F 5) (F 6) (F 7) (F 8) r q (fillV (gR g r) q) i + (if inR (nI r) (F 5 i) (F 6 i) ∧ (F 7 i >>> (nI q &&& 31)) &&& 1 = 1 then F 8 i else 0); rw [if_neg (bI_eq hxx c_7)]) ls (lv_sub hl [0, 1, 3, 4, 5, 6] rfl)
            · refine lv_aload_n hx hb dX0_shaped_80 rfl (lv_at hl 3 rfl) ?_
              refine va_get (D := G) (ci := 0) (v := .ref (a 8)) (C := RX0) (T := TX0) (N := 29) hx hb hts in_X0 hown hK hP 0 rfl rfl 8 (Nat.le_of_ble_eq_true rfl) (hts _ q113) (fun _ h9 => h9) rfl dX0_shaped_81 ?_
              refine lv_iload hx hb dX0_shaped_84 (lv_at hl 1 rfl) ?_
              refine y_iald (N := i) (f := F 8) hx hb hK hP 6 0 rfl rfl rfl (by omega) (by decide) dX0_shaped_86 ?_
              refine lv_goto (tgt := 91) hx hb dX0_shaped_87 (by decide) ?_
              refine lv_iadd hx hb dX0_shaped_91 ?_
              refine lv_istore (lv' := [(4, .int (v + ((F 8) i))), (6, .int x), (5, .int (nI i)), (0, .ref (a 0)), (1, .ref y), (2, .int (nI r)), (3, .int (nI q))]) hx hb dX0_shaped_92 hl (Nat.le_of_ble_eq_true rfl) rfl (fun ls hl => ?_)
              refine lv_iinc (v := nI (i + 1)) (lv' := [(5, .int (nI (i + 1))), (4, .int (v + ((F 8) i))), (6, .int x), (0, .ref (a 0)), (1, .ref y), (2, .int (nI r)), (3, .int (nI q))]) hx hb dX0_shaped_94 hl (k := 2) rfl (nI_add i 1) (Nat.le_of_ble_eq_true rfl) rfl (fun ls hl => ?_)
              refine lv_goto (tgt := 21) hx hb dX0_shaped_97 (by decide) ?_
              exact ih_lp_4 (i + 1) _ (by omega) (by omega) (by rw [hv]; show _ = ruleS (F 5) (F 6) (F 7) (F 8) r q (fillV (gR g r) q) i + (if inR (nI r) (F 5 i) (F 6 i) ∧ (F 7 i >>> (nI q &&& 31)) &&& 1 = 1 then F 8 i else 0); rw [if_pos (bI_ne hxx c_7)]) ls (lv_sub hl [0, 1, 3, 4, 5, 6] rfl)
          refine lv_iload_n hx hb dX0_shaped_30 rfl (lv_at hl 4 rfl) ?_
          refine lv_aload_n hx hb dX0_shaped_31 rfl (lv_at hl 2 rfl) ?_
          refine va_get (D := G) (ci := 0) (v := .ref (a 5)) (C := RX0) (T := TX0) (N := 29) hx hb hts in_X0 hown hK hP 0 rfl rfl 5 (Nat.le_of_ble_eq_true rfl) (hts _ q110) (fun _ h9 => h9) rfl dX0_shaped_32 ?_
          refine lv_iload hx hb dX0_shaped_35 (lv_at hl 0 rfl) ?_
          refine y_iald (N := i) (f := F 5) hx hb hK hP 3 0 rfl rfl rfl (by omega) (by decide) dX0_shaped_37 ?_
          refine lv_aload_n hx hb dX0_shaped_38 rfl (lv_at hl 2 rfl) ?_
          refine va_get (D := G) (ci := 0) (v := .ref (a 6)) (C := RX0) (T := TX0) (N := 29) hx hb hts in_X0 hown hK hP 0 rfl rfl 6 (Nat.le_of_ble_eq_true rfl) (hts _ q111) (fun _ h9 => h9) rfl dX0_shaped_39 ?_
          refine lv_iload hx hb dX0_shaped_42 (lv_at hl 0 rfl) ?_
          refine y_iald (N := i) (f := F 6) hx hb hK hP 4 0 rfl rfl rfl (by omega) (by decide) dX0_shaped_44 ?_
          refine y_rS (As := [.int (nI r), .int ((F 5) i), .int ((F 6) i)]) (rest := []) ⟨hx, hb, hml, hown, hts⟩ hK (ws := []) (fun _ _ h => by cases h) (metX0_in l G d (nI r) ((F 5) i) ((F 6) i)) (va_cwS 3 hts (lw_S q204 q205 q35 q206) rfl rfl rfl (by decide +kernel) ⟨Nat.le_of_ble_eq_true rfl, Nat.le_of_ble_eq_true rfl⟩) rfl hl.1 rfl (lv_room (Nat.le_of_ble_eq_true rfl)) dX0_shaped_45 ⟨Nat.le_of_ble_eq_true rfl, Nat.le_of_ble_eq_true rfl⟩ (fun r_8 hr_9 => ?_)
          refine lv_if_eq (tgt := 70) hx hb dX0_shaped_48 (by decide) (fun c_10 => ?_) (fun c_10 => ?_)
          · have c_10 := bI_eq hr_9 c_10
            refine lv_iconst (v := 0) hx hb dX0_shaped_70 (by decide) ?_
            exact hj_6 0 (bI_f (fun h => c_10 h.1)).symm
          · have c_10 := bI_ne hr_9 c_10
            refine lv_aload_n hx hb dX0_shaped_51 rfl (lv_at hl 2 rfl) ?_
            refine va_get (D := G) (ci := 0) (v := .ref (a 7)) (C := RX0) (T := TX0) (N := 29) hx hb hts in_X0 hown hK hP 0 rfl rfl 7 (Nat.le_of_ble_eq_true rfl) (hts _ q112) (fun _ h9 => h9) rfl dX0_shaped_52 ?_
            refine lv_iload hx hb dX0_shaped_55 (lv_at hl 0 rfl) ?_
            refine y_iald (N := i) (f := F 7) hx hb hK hP 5 0 rfl rfl rfl (by omega) (by decide) dX0_shaped_57 ?_
            refine lv_iload_n hx hb dX0_shaped_58 rfl (lv_at hl 5 rfl) ?_
            refine lv_ishr hx hb dX0_shaped_59 ?_
            refine lv_iconst (v := 1) hx hb dX0_shaped_60 (by decide) ?_
            refine lv_iand hx hb dX0_shaped_61 ?_
            refine lv_iconst (v := 1) hx hb dX0_shaped_62 (by decide) ?_
            refine lv_icmp_ne (tgt := 70) hx hb dX0_shaped_63 (by decide) (fun c_11 => ?_) (fun c_11 => ?_)
            · refine lv_iconst (v := 0) hx hb dX0_shaped_70 (by decide) ?_
              exact hj_6 0 (bI_f (fun h => c_11 h.2)).symm
            · refine lv_iconst (v := 1) hx hb dX0_shaped_66 (by decide) ?_
              refine lv_goto (tgt := 71) hx hb dX0_shaped_67 (by decide) ?_
              exact hj_6 1 (bI_t ⟨c_10, c_11⟩).symm
    exact lp_4 13 0 _ (by omega) (by omega) rfl ls (lv_sub hl [0, 1, 2, 3, 4, 5] rfl)
  · refine lv_bipush (v := (-9)) hx hb dX0_shaped_15 (by decide +kernel) ?_
    exact W.iret (v := (-9)) hx hb hr (fun t ht hW => ⟨(-9), rfl, (if_pos c_3).symm, ht⟩) (fun q h => by cases h) dX0_shaped_17
set_option maxHeartbeats 400000 in
set_option maxRecDepth 100000 in
theorem metX0_at (l : Launch) (G : va_G) (d : Nat → Nat) (sz : Nat) (a : Nat → Nat) (I : Nat → Int32) (F : Nat → Nat → Int32) (S : Nat → Nat → Option Nat) (lm : Int32 × Nat × Int32) (LP : List Nat) (fp : Nat → va_E) (R : Nat → Nat → Int32) (v ring place fl sh : Int32) (n : Nat) (hrows : rowsIn S R LP fp (d 0)) (hn12 : n ≤ 12) (hn : I 4 = nI n) : Met l yX0_at (ws_ yX0_at cX0_at 8 (some FieldType.int)) ({ frames := 4, cells := 0, slots := 0, locals := 98 } : Room) (va_Pc [.ref (a 0), .int v, .int ring, .int place, .int fl, .int sh] (pW G d sz (XW a I F S lm LP fp d))) (va_Qi (fun (r : Int32) (u : MS) => (r, u) = xAt S R n (I, F) v ring place fl sh) (fun (u : MS) t => bW G d (va_A (XW a I F S lm LP fp d) sz) (XW a u.1 u.2 S lm LP fp d) t) (va_A (XW a I F S lm LP fp d) sz)) 0 0 (va_A (XW a I F S lm LP fp d) sz) := by
  refine Met.ofW (cc := cX0_at) (maxL := 8) (ret := (some FieldType.int)) (by decide) rfl ?_
  intro p e s m args below meth c s₁ B hml hv
  obtain ⟨rfl, hsz, hP, hK, hD0⟩ := hv
  have hx := B.exec
  have hb := B.bytes
  have hr := B.returns
  have hts := atoms_spec (ws := (ws_ yX0_at cX0_at 8 (some FieldType.int))) B.pre
  have hts : ∀ w ∈ lw_all, w.before _ s = true := fun w h => hts w (List.mem_cons_of_mem _ h)
  have hown : s.vm.findClass RX0 = some m.cls := findClass_of_methodNamed B.named
  have hlocks := B.notSynchronized
  subst hsz
  have hD := hD0.self (sz := s.heap.size)
  generalize hAe : va_A (XW a I F S lm LP fp d) s.heap.size = A at hD ⊢
  have hA : ∀ q : Nat, s.heap.size ≤ q → A q := fun q h => by rw [← hAe]; exact Or.inr h
  have hS : va_S A s.heap s.heap [] := va_S.rf
  have hl := lv_entry ([.ref (a 0), .int v, .int ring, .int place, .int fl, .int sh]) (n := 8) (Nat.le_of_ble_eq_true rfl)
  rw [lg_entry_eq]
  generalize (lg_sl ([.ref (a 0), .int v, .int ring, .int place, .int fl, .int sh]) ++ List.replicate (8 - (lg_sl ([.ref (a 0), .int v, .int ring, .int place, .int fl, .int sh])).length) Slot.unset).toArray = ls at hl ⊢
  have hl : lv_has ls 8 [(0, .ref (a 0)), (1, .int v), (2, .int ring), (3, .int place), (4, .int fl), (5, .int sh)] := hl
  have hP : va_P G CLS (XW a I F S lm LP fp d) s.heap := hP
  refine lv_aload_n hx hb dX0_at_0 rfl (lv_at hl 0 rfl) ?_
  refine lv_iload_n hx hb dX0_at_1 rfl (lv_at hl 1 rfl) ?_
  refine y_cVi (As := [.int v]) (rest := []) (ci := 0) (q0 := 0) ⟨hx, hb, hml, hown, hts⟩ hK hP hD hS hA (metX0_need l G d s.heap.size a I F S lm LP fp v) (cwV 1 hts (lw_V q211 q213 qs0 q35 q214) rfl rfl rfl (by decide +kernel) ⟨Nat.le_of_ble_eq_true rfl, Nat.le_of_ble_eq_true rfl⟩) rfl rfl rfl hl.1 rfl (lv_room (Nat.le_of_ble_eq_true rfl)) dX0_at_2 ⟨Nat.le_of_ble_eq_true rfl, Nat.le_of_ble_eq_true rfl⟩ (fun r_1 u_3 H locs hw_2 hP hD hS => ?_)
  rcases hw_2 with ⟨ha_4, hr_5, hu_6⟩ | ⟨k, hk, hv_7, he_8, hr_5, hu_6⟩ | ⟨k, y9, hk, hv_7, he_8, hr_5, hu_6⟩
  · subst hr_5; subst hu_6
    have hP : va_P G CLS (XW a I F S lm LP fp d) H := hP
    have hD : va_D A (XW a I F S lm LP fp d) := hD
    refine lv_istore (lv' := [(6, .int (-1)), (0, .ref (a 0)), (1, .int v), (2, .int ring), (3, .int place), (4, .int fl), (5, .int sh)]) hx hb dX0_at_5 hl (Nat.le_of_ble_eq_true rfl) rfl (fun ls hl => ?_)
    refine lv_iload hx hb dX0_at_7 (lv_at hl 0 rfl) ?_
    refine lv_if_ge (tgt := 15) hx hb dX0_at_9 (by decide) (fun c_9 => ?_) (fun c_9 => ?_)
    · exact absurd c_9 (by decide)
    · refine lv_iload hx hb dX0_at_12 (lv_at hl 0 rfl) ?_
      exact W.iret (v := (-1)) hx hb hr (fun t ht hW => ⟨⟨(-1), (I, F), rfl, by unfold xAt lookY; rw [if_pos ha_4], by rw [ht]; exact hP, va_K.moved hW.alike hK, hD⟩, hS.F ht⟩) hS.2.2 dX0_at_14
  · subst hr_5; subst hu_6; subst hv_7
    have hP : va_P G CLS (XW a ((uFind (I, F) 1).1) ((uFind (I, F) 1).2) S lm LP fp d) H := hP
    have hD : va_D A (XW a ((uFind (I, F) 1).1) ((uFind (I, F) 1).2) S lm LP fp d) := hD
    refine lv_istore (lv' := [(6, .int (-3)), (0, .ref (a 0)), (1, .int (nI k)), (2, .int ring), (3, .int place), (4, .int fl), (5, .int sh)]) hx hb dX0_at_5 hl (Nat.le_of_ble_eq_true rfl) rfl (fun ls hl => ?_)
    refine lv_iload hx hb dX0_at_7 (lv_at hl 0 rfl) ?_
    refine lv_if_ge (tgt := 15) hx hb dX0_at_9 (by decide) (fun c_10 => ?_) (fun c_10 => ?_)
    · exact absurd c_10 (by decide)
    · refine lv_iload hx hb dX0_at_12 (lv_at hl 0 rfl) ?_
      exact W.iret (v := (-3)) hx hb hr (fun t ht hW => ⟨⟨(-3), (uFind (I, F) 1), rfl, by unfold xAt lookY; rw [if_neg (not_not_intro (show inR (nI k) 0 3 from nI_inR (n := 3) (by omega) (by decide))), show S3 S (nI k) = false by rw [S3, cl_nI (show k < 2 ^ 31 by omega), he_8]; rfl, if_neg (by decide)], by rw [ht]; exact hP, va_K.moved hW.alike hK, hD⟩, hS.F ht⟩) hS.2.2 dX0_at_14
  · subst hr_5; subst hu_6; subst hv_7
    obtain ⟨hy9, hf9⟩ := hrows k y9 (by omega) he_8
    have hP : va_P G CLS (XW a I F S lm LP fp d) H := hP
    have hD : va_D A (XW a I F S lm LP fp d) := hD
    refine lv_istore (lv' := [(6, .int 0), (0, .ref (a 0)), (1, .int (nI k)), (2, .int ring), (3, .int place), (4, .int fl), (5, .int sh)]) hx hb dX0_at_5 hl (Nat.le_of_ble_eq_true rfl) rfl (fun ls hl => ?_)
    refine lv_iload hx hb dX0_at_7 (lv_at hl 0 rfl) ?_
    refine lv_if_ge (tgt := 15) hx hb dX0_at_9 (by decide) (fun c_11 => ?_) (fun c_11 => ?_)
    · refine lv_iload_n hx hb dX0_at_15 rfl (lv_at hl 3 rfl) ?_
      refine lv_iload_n hx hb dX0_at_16 rfl (lv_at hl 4 rfl) ?_
      refine y_rS (As := [.int ring, .int place]) (rest := []) ⟨hx, hb, hml, hown, hts⟩ hK (ws := []) (fun _ _ h => by cases h) (metX0_isPlace l G d ring place) (va_cwS 2 hts (lw_S q219 q220 q35 q221) rfl rfl rfl (by decide +kernel) ⟨Nat.le_of_ble_eq_true rfl, Nat.le_of_ble_eq_true rfl⟩) rfl hl.1 rfl (lv_room (Nat.le_of_ble_eq_true rfl)) dX0_at_17 ⟨Nat.le_of_ble_eq_true rfl, Nat.le_of_ble_eq_true rfl⟩ (fun r_12 hr_13 => ?_)
      refine lv_if_ne (tgt := 29) hx hb dX0_at_20 (by decide) (fun c_14 => ?_) (fun c_14 => ?_)
      · have c_14 := bI_ne hr_13 c_14
        obtain ⟨rr, hrr, rfl⟩ := inR_n (n := 11) (by decide) c_14.1
        obtain ⟨qq, hqq, rfl⟩ := inR_n (n := 7) (by decide) c_14.2
        refine lv_aload_n hx hb dX0_at_29 rfl (lv_at hl 1 rfl) ?_
        refine va_get (D := G) (ci := 0) (v := .ref (a 3)) (C := RX0) (T := TX0) (N := 29) hx hb hts in_X0 hown hK hP 0 rfl rfl 3 (Nat.le_of_ble_eq_true rfl) (hts _ q108) (fun _ h9 => h9) rfl dX0_at_30 ?_
        refine lv_iload_n hx hb dX0_at_33 rfl (lv_at hl 2 rfl) ?_
        refine y_aldA (N := k) (g := S 3) hx hb hK hP 2 2 rfl rfl rfl (by omega) (by decide) dX0_at_34 ?_
        refine y_topv (y := .ref y9) (by rw [he_8]; rfl) ?_
        refine lv_astore (lv' := [(7, .ref y9), (6, .int 0), (0, .ref (a 0)), (1, .int (nI k)), (2, .int (nI rr)), (3, .int (nI qq)), (4, .int fl), (5, .int sh)]) hx hb dX0_at_35 hl (Nat.le_of_ble_eq_true rfl) rfl (fun ls hl => ?_)
        refine lv_iload hx hb dX0_at_37 (lv_at hl 7 rfl) ?_
        refine lv_if_eq (tgt := 53) hx hb dX0_at_39 (by decide) (fun c_15 => ?_) (fun c_15 => ?_)
        · refine lv_iload hx hb dX0_at_53 (lv_at hl 6 rfl) ?_
          refine lv_if_eq (tgt := 68) hx hb dX0_at_55 (by decide) (fun c_16 => ?_) (fun c_16 => ?_)
          · refine lv_aload hx hb dX0_at_68 (lv_at hl 0 rfl) ?_
            refine lv_bipush (v := 8) hx hb dX0_at_70 (by decide +kernel) ?_
            refine lv_iload_n hx hb dX0_at_72 rfl (lv_at hl 4 rfl) ?_
            refine lv_imul hx hb dX0_at_73 ?_
            refine y_top (y := nI (8 * rr)) (pk_mul 8 rr) ?_
            refine lv_iload_n hx hb dX0_at_74 rfl (lv_at hl 5 rfl) ?_
            refine lv_iadd hx hb dX0_at_75 ?_
            refine y_top (y := nI ((8 * rr) + qq)) (nI_add (8 * rr) qq) ?_
            refine y_ialdP (N := (8 * rr) + qq) (g := (R k)) hx hb hK hP 0 hy9 hf9 rfl rfl (by omega) (by decide) dX0_at_76 ?_
            exact W.iret (v := (R k) ((8 * rr) + qq)) hx hb hr (fun t ht hW => ⟨⟨(R k) ((8 * rr) + qq), (I, F), rfl, by unfold xAt lookY; rw [if_neg (not_not_intro (show inR (nI k) 0 3 from nI_inR (n := 3) (by omega) (by decide))), show S3 S (nI k) = true by rw [S3, cl_nI (show k < 2 ^ 31 by omega), he_8]; rfl, if_pos rfl, if_neg (not_not_intro ⟨(show inR (nI rr) 0 11 from nI_inR (n := 11) (by omega) (by decide)), (show inR (nI qq) 0 7 from nI_inR (n := 7) (by omega) (by decide))⟩), cl_nI (show rr < 2 ^ 31 by omega), cl_nI (show qq < 2 ^ 31 by omega), cl_nI (show k < 2 ^ 31 by omega), atV, if_neg (not_not_intro c_15), if_neg (not_not_intro c_16)], by rw [ht]; exact hP, va_K.moved hW.alike hK, hD⟩, hS.F ht⟩) hS.2.2 dX0_at_77
          · refine lv_aload hx hb dX0_at_58 (lv_at hl 0 rfl) ?_
            refine lv_iload_n hx hb dX0_at_60 rfl (lv_at hl 4 rfl) ?_
            refine lv_iload_n hx hb dX0_at_61 rfl (lv_at hl 5 rfl) ?_
            refine y_rS (As := [.ref y9, .int (nI rr), .int (nI qq)]) (rest := []) ⟨hx, hb, hml, hown, hts⟩ hK (pool_one hP hy9 hf9) (metX0_filled l G d y9 (R k) rr qq (by omega) (by omega)) (va_cwS 3 hts (lw_S q230 q231 q35 q232) rfl rfl rfl (by decide +kernel) ⟨Nat.le_of_ble_eq_true rfl, Nat.le_of_ble_eq_true rfl⟩) rfl hl.1 rfl (lv_room (Nat.le_of_ble_eq_true rfl)) dX0_at_62 ⟨Nat.le_of_ble_eq_true rfl, Nat.le_of_ble_eq_true rfl⟩ (fun r_17 hr_18 => ?_)
            rw [hr_18]
            refine lv_goto (tgt := 77) hx hb dX0_at_65 (by decide) ?_
            exact W.iret (v := fillV (gR (R k) rr) qq) hx hb hr (fun t ht hW => ⟨⟨fillV (gR (R k) rr) qq, (I, F), rfl, by unfold xAt lookY; rw [if_neg (not_not_intro (show inR (nI k) 0 3 from nI_inR (n := 3) (by omega) (by decide))), show S3 S (nI k) = true by rw [S3, cl_nI (show k < 2 ^ 31 by omega), he_8]; rfl, if_pos rfl, if_neg (not_not_intro ⟨(show inR (nI rr) 0 11 from nI_inR (n := 11) (by omega) (by decide)), (show inR (nI qq) 0 7 from nI_inR (n := 7) (by omega) (by decide))⟩), cl_nI (show rr < 2 ^ 31 by omega), cl_nI (show qq < 2 ^ 31 by omega), cl_nI (show k < 2 ^ 31 by omega), atV, if_neg (not_not_intro c_15), if_pos c_16], by rw [ht]; exact hP, va_K.moved hW.alike hK, hD⟩, hS.F ht⟩) hS.2.2 dX0_at_77
        · refine lv_aload_n hx hb dX0_at_42 rfl (lv_at hl 2 rfl) ?_
          refine lv_aload hx hb dX0_at_43 (lv_at hl 0 rfl) ?_
          refine lv_iload_n hx hb dX0_at_45 rfl (lv_at hl 4 rfl) ?_
          refine lv_iload_n hx hb dX0_at_46 rfl (lv_at hl 5 rfl) ?_
          refine y_rV (As := [.ref y9, .int (nI rr), .int (nI qq)]) (rest := []) (ci := 0) (q0 := 0) ⟨hx, hb, hml, hown, hts⟩ hK hP (metX0_shaped l G d a I F S lm LP fp y9 (R k) rr qq n hy9 hf9 (by omega) (by omega) hn12 hn) (cwV 3 hts (lw_V q226 q228 qs2 q35 q229) rfl rfl rfl (by decide +kernel) ⟨Nat.le_of_ble_eq_true rfl, Nat.le_of_ble_eq_true rfl⟩) rfl rfl rfl hl.1 rfl (lv_room (Nat.le_of_ble_eq_true rfl)) dX0_at_47 ⟨Nat.le_of_ble_eq_true rfl, Nat.le_of_ble_eq_true rfl⟩ (fun r_19 hw_20 => ?_)
          rw [hw_20]
          refine lv_goto (tgt := 77) hx hb dX0_at_50 (by decide) ?_
          exact W.iret (v := shapeV (F 5) (F 6) (F 7) (F 8) n rr qq (fillV (gR (R k) rr) qq)) hx hb hr (fun t ht hW => ⟨⟨shapeV (F 5) (F 6) (F 7) (F 8) n rr qq (fillV (gR (R k) rr) qq), (I, F), rfl, by unfold xAt lookY; rw [if_neg (not_not_intro (show inR (nI k) 0 3 from nI_inR (n := 3) (by omega) (by decide))), show S3 S (nI k) = true by rw [S3, cl_nI (show k < 2 ^ 31 by omega), he_8]; rfl, if_pos rfl, if_neg (not_not_intro ⟨(show inR (nI rr) 0 11 from nI_inR (n := 11) (by omega) (by decide)), (show inR (nI qq) 0 7 from nI_inR (n := 7) (by omega) (by decide))⟩), cl_nI (show rr < 2 ^ 31 by omega), cl_nI (show qq < 2 ^ 31 by omega), cl_nI (show k < 2 ^ 31 by omega), atV, if_pos c_15], by rw [ht]; exact hP, va_K.moved hW.alike hK, hD⟩, hS.F ht⟩) hS.2.2 dX0_at_77
      · have c_14 := bI_eq hr_13 c_14
        refine lv_aload_n hx hb dX0_at_23 rfl (lv_at hl 1 rfl) ?_
        refine lv_iconst (v := 2) hx hb dX0_at_24 (by decide) ?_
        refine y_cVi (As := [.int 2]) (rest := []) (ci := 0) (q0 := 0) ⟨hx, hb, hml, hown, hts⟩ hK hP hD hS hA (metX0_found l G d H.size a I F S lm LP fp 2 (by omega)) (cwV 1 hts (lw_V q215 q217 qs1 q35 q218) rfl rfl rfl (by decide +kernel) ⟨Nat.le_of_ble_eq_true rfl, Nat.le_of_ble_eq_true rfl⟩) rfl rfl rfl hl.1 rfl (lv_room (Nat.le_of_ble_eq_true rfl)) dX0_at_25 ⟨Nat.le_of_ble_eq_true rfl, Nat.le_of_ble_eq_true rfl⟩ (fun r_21 u_23 H locs hw_22 hP hD hS => ?_)
        obtain ⟨rfl, rfl⟩ := hw_22
        exact W.iret (v := (-3)) hx hb hr (fun t ht hW => ⟨⟨(-3), (uFind (I, F) 2), rfl, by unfold xAt lookY; rw [if_neg (not_not_intro (show inR (nI k) 0 3 from nI_inR (n := 3) (by omega) (by decide))), show S3 S (nI k) = true by rw [S3, cl_nI (show k < 2 ^ 31 by omega), he_8]; rfl, if_pos rfl, if_pos c_14], by rw [ht]; exact hP, va_K.moved hW.alike hK, hD⟩, hS.F ht⟩) hS.2.2 dX0_at_28
    · exact absurd c_11 (by decide)
set_option maxHeartbeats 400000 in
set_option maxRecDepth 100000 in
theorem metX0_tear (l : Launch) (G : va_G) (d : Nat → Nat) (sz : Nat) (a : Nat → Nat) (I : Nat → Int32) (F : Nat → Nat → Int32) (S : Nat → Nat → Option Nat) (lm : Int32 × Nat × Int32) (LP : List Nat) (fp : Nat → va_E) (R : Nat → Nat → Int32) (v : Int32) (hrows : rowsIn S R LP fp (d 0))  : Met l yX0_tear (ws_ yX0_tear cX0_tear 3 (some FieldType.int)) ({ frames := 3, cells := 0, slots := 0, locals := 63 } : Room) (va_Pc [.ref (a 0), .int v] (pW G d sz (XW a I F S lm LP fp d))) (va_Qi (fun (r : Int32) (u : MS × (Nat → Nat → Option Nat)) => (r, u) = xTear S (I, F) v) (fun (u : MS × (Nat → Nat → Option Nat)) t => bW G d (va_A (XW a I F S lm LP fp d) sz) (XW a u.1.1 u.1.2 u.2 lm LP fp d) t) (va_A (XW a I F S lm LP fp d) sz)) 0 0 (va_A (XW a I F S lm LP fp d) sz) := by
  refine Met.ofW (cc := cX0_tear) (maxL := 3) (ret := (some FieldType.int)) (by decide) rfl ?_
  intro p e s m args below meth c s₁ B hml hv
  obtain ⟨rfl, hsz, hP, hK, hD0⟩ := hv
  have hx := B.exec
  have hb := B.bytes
  have hr := B.returns
  have hts := atoms_spec (ws := (ws_ yX0_tear cX0_tear 3 (some FieldType.int))) B.pre
  have hts : ∀ w ∈ lw_all, w.before _ s = true := fun w h => hts w (List.mem_cons_of_mem _ h)
  have hown : s.vm.findClass RX0 = some m.cls := findClass_of_methodNamed B.named
  have hlocks := B.notSynchronized
  subst hsz
  have hD := hD0.self (sz := s.heap.size)
  generalize hAe : va_A (XW a I F S lm LP fp d) s.heap.size = A at hD ⊢
  have hA : ∀ q : Nat, s.heap.size ≤ q → A q := fun q h => by rw [← hAe]; exact Or.inr h
  have hS : va_S A s.heap s.heap [] := va_S.rf
  have hl := lv_entry ([.ref (a 0), .int v]) (n := 3) (Nat.le_of_ble_eq_true rfl)
  rw [lg_entry_eq]
  generalize (lg_sl ([.ref (a 0), .int v]) ++ List.replicate (3 - (lg_sl ([.ref (a 0), .int v])).length) Slot.unset).toArray = ls at hl ⊢
  have hl : lv_has ls 3 [(0, .ref (a 0)), (1, .int v)] := hl
  have hP : va_P G CLS (XW a I F S lm LP fp d) s.heap := hP
  refine lv_aload_n hx hb dX0_tear_0 rfl (lv_at hl 0 rfl) ?_
  refine lv_iload_n hx hb dX0_tear_1 rfl (lv_at hl 1 rfl) ?_
  refine y_cVi (As := [.int v]) (rest := []) (ci := 0) (q0 := 0) ⟨hx, hb, hml, hown, hts⟩ hK hP hD hS hA (metX0_need l G d s.heap.size a I F S lm LP fp v) (cwV 1 hts (lw_V q211 q213 qs0 q35 q214) rfl rfl rfl (by decide +kernel) ⟨Nat.le_of_ble_eq_true rfl, Nat.le_of_ble_eq_true rfl⟩) rfl rfl rfl hl.1 rfl (lv_room (Nat.le_of_ble_eq_true rfl)) dX0_tear_2 ⟨Nat.le_of_ble_eq_true rfl, Nat.le_of_ble_eq_true rfl⟩ (fun r_1 u_3 H locs hw_2 hP hD hS => ?_)
  rcases hw_2 with ⟨ha_4, hr_5, hu_6⟩ | ⟨k, hk, hv_7, he_8, hr_5, hu_6⟩ | ⟨k, y9, hk, hv_7, he_8, hr_5, hu_6⟩
  · subst hr_5; subst hu_6
    have hP : va_P G CLS (XW a I F S lm LP fp d) H := hP
    have hD : va_D A (XW a I F S lm LP fp d) := hD
    refine lv_istore_n (lv' := [(2, .int (-1)), (0, .ref (a 0)), (1, .int v)]) hx hb dX0_tear_5 rfl hl (Nat.le_of_ble_eq_true rfl) rfl (fun ls hl => ?_)
    refine lv_iload_n hx hb dX0_tear_6 rfl (lv_at hl 0 rfl) ?_
    refine lv_if_ge (tgt := 12) hx hb dX0_tear_7 (by decide) (fun c_9 => ?_) (fun c_9 => ?_)
    · exact absurd c_9 (by decide)
    · refine lv_iload_n hx hb dX0_tear_10 rfl (lv_at hl 0 rfl) ?_
      exact W.iret (v := (-1)) hx hb hr (fun t ht hW => ⟨⟨(-1), ((I, F), S), rfl, by unfold xTear lookY; rw [if_pos ha_4], by rw [ht]; exact hP, va_K.moved hW.alike hK, hD⟩, hS.F ht⟩) hS.2.2 dX0_tear_11
  · subst hr_5; subst hu_6; subst hv_7
    have hP : va_P G CLS (XW a ((uFind (I, F) 1).1) ((uFind (I, F) 1).2) S lm LP fp d) H := hP
    have hD : va_D A (XW a ((uFind (I, F) 1).1) ((uFind (I, F) 1).2) S lm LP fp d) := hD
    refine lv_istore_n (lv' := [(2, .int (-3)), (0, .ref (a 0)), (1, .int (nI k))]) hx hb dX0_tear_5 rfl hl (Nat.le_of_ble_eq_true rfl) rfl (fun ls hl => ?_)
    refine lv_iload_n hx hb dX0_tear_6 rfl (lv_at hl 0 rfl) ?_
    refine lv_if_ge (tgt := 12) hx hb dX0_tear_7 (by decide) (fun c_10 => ?_) (fun c_10 => ?_)
    · exact absurd c_10 (by decide)
    · refine lv_iload_n hx hb dX0_tear_10 rfl (lv_at hl 0 rfl) ?_
      exact W.iret (v := (-3)) hx hb hr (fun t ht hW => ⟨⟨(-3), (uFind (I, F) 1, S), rfl, by unfold xTear lookY; rw [if_neg (not_not_intro (show inR (nI k) 0 3 from nI_inR (n := 3) (by omega) (by decide))), show S3 S (nI k) = false by rw [S3, cl_nI (show k < 2 ^ 31 by omega), he_8]; rfl, if_neg (by decide)], by rw [ht]; exact hP, va_K.moved hW.alike hK, hD⟩, hS.F ht⟩) hS.2.2 dX0_tear_11
  · subst hr_5; subst hu_6; subst hv_7
    obtain ⟨hy9, hf9⟩ := hrows k y9 (by omega) he_8
    have hP : va_P G CLS (XW a I F S lm LP fp d) H := hP
    have hD : va_D A (XW a I F S lm LP fp d) := hD
    refine lv_istore_n (lv' := [(2, .int 0), (0, .ref (a 0)), (1, .int (nI k))]) hx hb dX0_tear_5 rfl hl (Nat.le_of_ble_eq_true rfl) rfl (fun ls hl => ?_)
    refine lv_iload_n hx hb dX0_tear_6 rfl (lv_at hl 0 rfl) ?_
    refine lv_if_ge (tgt := 12) hx hb dX0_tear_7 (by decide) (fun c_11 => ?_) (fun c_11 => ?_)
    · refine lv_aload_n hx hb dX0_tear_12 rfl (lv_at hl 1 rfl) ?_
      refine va_get (D := G) (ci := 0) (v := .ref (a 3)) (C := RX0) (T := TX0) (N := 29) hx hb hts in_X0 hown hK hP 0 rfl rfl 3 (Nat.le_of_ble_eq_true rfl) (hts _ q108) (fun _ h9 => h9) rfl dX0_tear_13 ?_
      refine lv_iload_n hx hb dX0_tear_16 rfl (lv_at hl 2 rfl) ?_
      refine lv_null hx hb dX0_tear_17 ?_
      refine y_astAN (N := k) (g := S 3) hx hb hK hP hD hS 2 2 rfl rfl rfl (by omega) (by decide) dX0_tear_18 (fun H locs hP hD hS => ?_)
      have hP : va_P G CLS (XW a I F (va_up S 3 (va_up (S 3) k none)) lm LP fp d) H := hP
      have hD : va_D A (XW a I F (va_up S 3 (va_up (S 3) k none)) lm LP fp d) := hD
      refine lv_iconst (v := 1) hx hb dX0_tear_19 (by decide) ?_
      exact W.iret (v := 1) hx hb hr (fun t ht hW => ⟨⟨1, ((I, F), va_up S 3 (va_up (S 3) k none)), rfl, by unfold xTear lookY; rw [if_neg (not_not_intro (show inR (nI k) 0 3 from nI_inR (n := 3) (by omega) (by decide))), show S3 S (nI k) = true by rw [S3, cl_nI (show k < 2 ^ 31 by omega), he_8]; rfl, if_pos rfl, cl_nI (show k < 2 ^ 31 by omega)], by rw [ht]; exact hP, va_K.moved hW.alike hK, hD⟩, hS.F ht⟩) hS.2.2 dX0_tear_20
    · exact absurd c_11 (by decide)
set_option maxHeartbeats 400000 in
set_option maxRecDepth 100000 in
theorem metX0_ring (l : Launch) (G : va_G) (d : Nat → Nat) (sz : Nat) (a : Nat → Nat) (I : Nat → Int32) (F : Nat → Nat → Int32) (S : Nat → Nat → Option Nat) (lm : Int32 × Nat × Int32) (LP : List Nat) (fp : Nat → va_E) (R : Nat → Nat → Int32) (v ring : Int32) (hrows : rowsIn S R LP fp (d 0))  : Met l yX0_ring (ws_ yX0_ring cX0_ring 4 (some FieldType.int)) ({ frames := 4, cells := 0, slots := 0, locals := 95 } : Room) (va_Pc [.ref (a 0), .int v, .int ring] (pW G d sz (XW a I F S lm LP fp d))) (va_Qi (fun (r : Int32) (u : MS) => (r, u) = xRing S R (I, F) v ring) (fun (u : MS) t => bW G d (va_A (XW a I F S lm LP fp d) sz) (XW a u.1 u.2 S lm LP fp d) t) (va_A (XW a I F S lm LP fp d) sz)) 0 0 (va_A (XW a I F S lm LP fp d) sz) := by
  refine Met.ofW (cc := cX0_ring) (maxL := 4) (ret := (some FieldType.int)) (by decide) rfl ?_
  intro p e s m args below meth c s₁ B hml hv
  obtain ⟨rfl, hsz, hP, hK, hD0⟩ := hv
  have hx := B.exec
  have hb := B.bytes
  have hr := B.returns
  have hts := atoms_spec (ws := (ws_ yX0_ring cX0_ring 4 (some FieldType.int))) B.pre
  have hts : ∀ w ∈ lw_all, w.before _ s = true := fun w h => hts w (List.mem_cons_of_mem _ h)
  have hown : s.vm.findClass RX0 = some m.cls := findClass_of_methodNamed B.named
  have hlocks := B.notSynchronized
  subst hsz
  have hD := hD0.self (sz := s.heap.size)
  generalize hAe : va_A (XW a I F S lm LP fp d) s.heap.size = A at hD ⊢
  have hA : ∀ q : Nat, s.heap.size ≤ q → A q := fun q h => by rw [← hAe]; exact Or.inr h
  have hS : va_S A s.heap s.heap [] := va_S.rf
  have hl := lv_entry ([.ref (a 0), .int v, .int ring]) (n := 4) (Nat.le_of_ble_eq_true rfl)
  rw [lg_entry_eq]
  generalize (lg_sl ([.ref (a 0), .int v, .int ring]) ++ List.replicate (4 - (lg_sl ([.ref (a 0), .int v, .int ring])).length) Slot.unset).toArray = ls at hl ⊢
  have hl : lv_has ls 4 [(0, .ref (a 0)), (1, .int v), (2, .int ring)] := hl
  have hP : va_P G CLS (XW a I F S lm LP fp d) s.heap := hP
  refine lv_aload_n hx hb dX0_ring_0 rfl (lv_at hl 0 rfl) ?_
  refine lv_iload_n hx hb dX0_ring_1 rfl (lv_at hl 1 rfl) ?_
  refine y_cVi (As := [.int v]) (rest := []) (ci := 0) (q0 := 0) ⟨hx, hb, hml, hown, hts⟩ hK hP hD hS hA (metX0_need l G d s.heap.size a I F S lm LP fp v) (cwV 1 hts (lw_V q211 q213 qs0 q35 q214) rfl rfl rfl (by decide +kernel) ⟨Nat.le_of_ble_eq_true rfl, Nat.le_of_ble_eq_true rfl⟩) rfl rfl rfl hl.1 rfl (lv_room (Nat.le_of_ble_eq_true rfl)) dX0_ring_2 ⟨Nat.le_of_ble_eq_true rfl, Nat.le_of_ble_eq_true rfl⟩ (fun r_1 u_3 H locs hw_2 hP hD hS => ?_)
  rcases hw_2 with ⟨ha_4, hr_5, hu_6⟩ | ⟨k, hk, hv_7, he_8, hr_5, hu_6⟩ | ⟨k, y9, hk, hv_7, he_8, hr_5, hu_6⟩
  · subst hr_5; subst hu_6
    have hP : va_P G CLS (XW a I F S lm LP fp d) H := hP
    have hD : va_D A (XW a I F S lm LP fp d) := hD
    refine lv_istore_n (lv' := [(3, .int (-1)), (0, .ref (a 0)), (1, .int v), (2, .int ring)]) hx hb dX0_ring_5 rfl hl (Nat.le_of_ble_eq_true rfl) rfl (fun ls hl => ?_)
    refine lv_iload_n hx hb dX0_ring_6 rfl (lv_at hl 0 rfl) ?_
    refine lv_if_ge (tgt := 14) hx hb dX0_ring_7 (by decide) (fun c_9 => ?_) (fun c_9 => ?_)
    · exact absurd c_9 (by decide)
    · refine lv_iload_n hx hb dX0_ring_10 rfl (lv_at hl 0 rfl) ?_
      refine lv_goto (tgt := 42) hx hb dX0_ring_11 (by decide) ?_
      exact W.iret (v := (-1)) hx hb hr (fun t ht hW => ⟨⟨(-1), (I, F), rfl, by unfold xRing lookY; rw [if_pos ha_4], by rw [ht]; exact hP, va_K.moved hW.alike hK, hD⟩, hS.F ht⟩) hS.2.2 dX0_ring_42
  · subst hr_5; subst hu_6; subst hv_7
    have hP : va_P G CLS (XW a ((uFind (I, F) 1).1) ((uFind (I, F) 1).2) S lm LP fp d) H := hP
    have hD : va_D A (XW a ((uFind (I, F) 1).1) ((uFind (I, F) 1).2) S lm LP fp d) := hD
    refine lv_istore_n (lv' := [(3, .int (-3)), (0, .ref (a 0)), (1, .int (nI k)), (2, .int ring)]) hx hb dX0_ring_5 rfl hl (Nat.le_of_ble_eq_true rfl) rfl (fun ls hl => ?_)
    refine lv_iload_n hx hb dX0_ring_6 rfl (lv_at hl 0 rfl) ?_
    refine lv_if_ge (tgt := 14) hx hb dX0_ring_7 (by decide) (fun c_10 => ?_) (fun c_10 => ?_)
    · exact absurd c_10 (by decide)
    · refine lv_iload_n hx hb dX0_ring_10 rfl (lv_at hl 0 rfl) ?_
      refine lv_goto (tgt := 42) hx hb dX0_ring_11 (by decide) ?_
      exact W.iret (v := (-3)) hx hb hr (fun t ht hW => ⟨⟨(-3), (uFind (I, F) 1), rfl, by unfold xRing lookY; rw [if_neg (not_not_intro (show inR (nI k) 0 3 from nI_inR (n := 3) (by omega) (by decide))), show S3 S (nI k) = false by rw [S3, cl_nI (show k < 2 ^ 31 by omega), he_8]; rfl, if_neg (by decide)], by rw [ht]; exact hP, va_K.moved hW.alike hK, hD⟩, hS.F ht⟩) hS.2.2 dX0_ring_42
  · subst hr_5; subst hu_6; subst hv_7
    obtain ⟨hy9, hf9⟩ := hrows k y9 (by omega) he_8
    have hP : va_P G CLS (XW a I F S lm LP fp d) H := hP
    have hD : va_D A (XW a I F S lm LP fp d) := hD
    refine lv_istore_n (lv' := [(3, .int 0), (0, .ref (a 0)), (1, .int (nI k)), (2, .int ring)]) hx hb dX0_ring_5 rfl hl (Nat.le_of_ble_eq_true rfl) rfl (fun ls hl => ?_)
    refine lv_iload_n hx hb dX0_ring_6 rfl (lv_at hl 0 rfl) ?_
    refine lv_if_ge (tgt := 14) hx hb dX0_ring_7 (by decide) (fun c_11 => ?_) (fun c_11 => ?_)
    · refine lv_iload_n hx hb dX0_ring_14 rfl (lv_at hl 3 rfl) ?_
      refine lv_iconst (v := 0) hx hb dX0_ring_15 (by decide) ?_
      refine lv_bipush (v := 11) hx hb dX0_ring_16 (by decide +kernel) ?_
      refine y_rS (As := [.int ring, .int 0, .int 11]) (rest := []) ⟨hx, hb, hml, hown, hts⟩ hK (ws := []) (fun _ _ h => by cases h) (metX0_in l G d ring 0 11) (va_cwS 3 hts (lw_S q204 q205 q35 q206) rfl rfl rfl (by decide +kernel) ⟨Nat.le_of_ble_eq_true rfl, Nat.le_of_ble_eq_true rfl⟩) rfl hl.1 rfl (lv_room (Nat.le_of_ble_eq_true rfl)) dX0_ring_18 ⟨Nat.le_of_ble_eq_true rfl, Nat.le_of_ble_eq_true rfl⟩ (fun r_12 hr_13 => ?_)
      refine lv_if_eq (tgt := 37) hx hb dX0_ring_21 (by decide) (fun c_14 => ?_) (fun c_14 => ?_)
      · have c_14 := bI_eq hr_13 c_14
        refine lv_aload_n hx hb dX0_ring_37 rfl (lv_at hl 1 rfl) ?_
        refine lv_iconst (v := 2) hx hb dX0_ring_38 (by decide) ?_
        refine y_cVi (As := [.int 2]) (rest := []) (ci := 0) (q0 := 0) ⟨hx, hb, hml, hown, hts⟩ hK hP hD hS hA (metX0_found l G d H.size a I F S lm LP fp 2 (by omega)) (cwV 1 hts (lw_V q215 q217 qs1 q35 q218) rfl rfl rfl (by decide +kernel) ⟨Nat.le_of_ble_eq_true rfl, Nat.le_of_ble_eq_true rfl⟩) rfl rfl rfl hl.1 rfl (lv_room (Nat.le_of_ble_eq_true rfl)) dX0_ring_39 ⟨Nat.le_of_ble_eq_true rfl, Nat.le_of_ble_eq_true rfl⟩ (fun r_15 u_17 H locs hw_16 hP hD hS => ?_)
        obtain ⟨rfl, rfl⟩ := hw_16
        exact W.iret (v := (-3)) hx hb hr (fun t ht hW => ⟨⟨(-3), (uFind (I, F) 2), rfl, by unfold xRing lookY; rw [if_neg (not_not_intro (show inR (nI k) 0 3 from nI_inR (n := 3) (by omega) (by decide))), show S3 S (nI k) = true by rw [S3, cl_nI (show k < 2 ^ 31 by omega), he_8]; rfl, if_pos rfl, if_neg c_14], by rw [ht]; exact hP, va_K.moved hW.alike hK, hD⟩, hS.F ht⟩) hS.2.2 dX0_ring_42
      · have c_14 := bI_ne hr_13 c_14
        obtain ⟨rr, hrr, rfl⟩ := inR_n (n := 11) (by decide) c_14
        refine lv_aload_n hx hb dX0_ring_24 rfl (lv_at hl 1 rfl) ?_
        refine va_get (D := G) (ci := 0) (v := .ref (a 3)) (C := RX0) (T := TX0) (N := 29) hx hb hts in_X0 hown hK hP 0 rfl rfl 3 (Nat.le_of_ble_eq_true rfl) (hts _ q108) (fun _ h9 => h9) rfl dX0_ring_25 ?_
        refine lv_iload_n hx hb dX0_ring_28 rfl (lv_at hl 2 rfl) ?_
        refine y_aldA (N := k) (g := S 3) hx hb hK hP 2 2 rfl rfl rfl (by omega) (by decide) dX0_ring_29 ?_
        refine y_topv (y := .ref y9) (by rw [he_8]; rfl) ?_
        refine lv_iload_n hx hb dX0_ring_30 rfl (lv_at hl 3 rfl) ?_
        refine y_rS (As := [.ref y9, .int (nI rr)]) (rest := []) ⟨hx, hb, hml, hown, hts⟩ hK (pool_one hP hy9 hf9) (metX0_ringRoom l G d y9 (R k) rr (by omega)) (va_cwS 2 hts (lw_S q372 q373 q35 q374) rfl rfl rfl (by decide +kernel) ⟨Nat.le_of_ble_eq_true rfl, Nat.le_of_ble_eq_true rfl⟩) rfl hl.1 rfl (lv_room (Nat.le_of_ble_eq_true rfl)) dX0_ring_31 ⟨Nat.le_of_ble_eq_true rfl, Nat.le_of_ble_eq_true rfl⟩ (fun r_18 hr_19 => ?_)
        rw [hr_19]
        refine lv_goto (tgt := 42) hx hb dX0_ring_34 (by decide) ?_
        exact W.iret (v := roomV (gR (R k) rr)) hx hb hr (fun t ht hW => ⟨⟨roomV (gR (R k) rr), (I, F), rfl, by unfold xRing lookY; rw [if_neg (not_not_intro (show inR (nI k) 0 3 from nI_inR (n := 3) (by omega) (by decide))), show S3 S (nI k) = true by rw [S3, cl_nI (show k < 2 ^ 31 by omega), he_8]; rfl, if_pos rfl, if_pos (show inR (nI rr) 0 11 from nI_inR (n := 11) (by omega) (by decide)), cl_nI (show rr < 2 ^ 31 by omega), cl_nI (show k < 2 ^ 31 by omega)], by rw [ht]; exact hP, va_K.moved hW.alike hK, hD⟩, hS.F ht⟩) hS.2.2 dX0_ring_42
    · exact absurd c_11 (by decide)
set_option maxHeartbeats 400000 in
set_option maxRecDepth 100000 in
theorem metX0_room (l : Launch) (G : va_G) (d : Nat → Nat) (sz : Nat) (a : Nat → Nat) (I : Nat → Int32) (F : Nat → Nat → Int32) (S : Nat → Nat → Option Nat) (lm : Int32 × Nat × Int32) (LP : List Nat) (fp : Nat → va_E) (R : Nat → Nat → Int32) (v most : Int32) (hrows : rowsIn S R LP fp (d 0)) (hm01 : most = 0 ∨ most = 1) : Met l yX0_room (ws_ yX0_room cX0_room 4 (some FieldType.int)) ({ frames := 6, cells := 0, slots := 0, locals := 147 } : Room) (va_Pc [.ref (a 0), .int v, .int most] (pW G d sz (XW a I F S lm LP fp d))) (va_Qi (fun (r : Int32) (u : MS) => (r, u) = xRoom S R (I, F) v most) (fun (u : MS) t => bW G d (va_A (XW a I F S lm LP fp d) sz) (XW a u.1 u.2 S lm LP fp d) t) (va_A (XW a I F S lm LP fp d) sz)) 0 0 (va_A (XW a I F S lm LP fp d) sz) := by
  refine Met.ofW (cc := cX0_room) (maxL := 4) (ret := (some FieldType.int)) (by decide) rfl ?_
  intro p e s m args below meth c s₁ B hml hv
  obtain ⟨rfl, hsz, hP, hK, hD0⟩ := hv
  have hx := B.exec
  have hb := B.bytes
  have hr := B.returns
  have hts := atoms_spec (ws := (ws_ yX0_room cX0_room 4 (some FieldType.int))) B.pre
  have hts : ∀ w ∈ lw_all, w.before _ s = true := fun w h => hts w (List.mem_cons_of_mem _ h)
  have hown : s.vm.findClass RX0 = some m.cls := findClass_of_methodNamed B.named
  have hlocks := B.notSynchronized
  subst hsz
  have hD := hD0.self (sz := s.heap.size)
  generalize hAe : va_A (XW a I F S lm LP fp d) s.heap.size = A at hD ⊢
  have hA : ∀ q : Nat, s.heap.size ≤ q → A q := fun q h => by rw [← hAe]; exact Or.inr h
  have hS : va_S A s.heap s.heap [] := va_S.rf
  have hl := lv_entry ([.ref (a 0), .int v, .int most]) (n := 4) (Nat.le_of_ble_eq_true rfl)
  rw [lg_entry_eq]
  generalize (lg_sl ([.ref (a 0), .int v, .int most]) ++ List.replicate (4 - (lg_sl ([.ref (a 0), .int v, .int most])).length) Slot.unset).toArray = ls at hl ⊢
  have hl : lv_has ls 4 [(0, .ref (a 0)), (1, .int v), (2, .int most)] := hl
  have hP : va_P G CLS (XW a I F S lm LP fp d) s.heap := hP
  refine lv_aload_n hx hb dX0_room_0 rfl (lv_at hl 0 rfl) ?_
  refine lv_iload_n hx hb dX0_room_1 rfl (lv_at hl 1 rfl) ?_
  refine y_cVi (As := [.int v]) (rest := []) (ci := 0) (q0 := 0) ⟨hx, hb, hml, hown, hts⟩ hK hP hD hS hA (metX0_need l G d s.heap.size a I F S lm LP fp v) (cwV 1 hts (lw_V q211 q213 qs0 q35 q214) rfl rfl rfl (by decide +kernel) ⟨Nat.le_of_ble_eq_true rfl, Nat.le_of_ble_eq_true rfl⟩) rfl rfl rfl hl.1 rfl (lv_room (Nat.le_of_ble_eq_true rfl)) dX0_room_2 ⟨Nat.le_of_ble_eq_true rfl, Nat.le_of_ble_eq_true rfl⟩ (fun r_1 u_3 H locs hw_2 hP hD hS => ?_)
  rcases hw_2 with ⟨ha_4, hr_5, hu_6⟩ | ⟨k, hk, hv_7, he_8, hr_5, hu_6⟩ | ⟨k, y9, hk, hv_7, he_8, hr_5, hu_6⟩
  · subst hr_5; subst hu_6
    have hP : va_P G CLS (XW a I F S lm LP fp d) H := hP
    have hD : va_D A (XW a I F S lm LP fp d) := hD
    refine lv_istore_n (lv' := [(3, .int (-1)), (0, .ref (a 0)), (1, .int v), (2, .int most)]) hx hb dX0_room_5 rfl hl (Nat.le_of_ble_eq_true rfl) rfl (fun ls hl => ?_)
    refine lv_iload_n hx hb dX0_room_6 rfl (lv_at hl 0 rfl) ?_
    refine lv_if_ge (tgt := 14) hx hb dX0_room_7 (by decide) (fun c_9 => ?_) (fun c_9 => ?_)
    · exact absurd c_9 (by decide)
    · refine lv_iload_n hx hb dX0_room_10 rfl (lv_at hl 0 rfl) ?_
      refine lv_goto (tgt := 24) hx hb dX0_room_11 (by decide) ?_
      exact W.iret (v := (-1)) hx hb hr (fun t ht hW => ⟨⟨(-1), (I, F), rfl, by unfold xRoom lookY; rw [if_pos ha_4], by rw [ht]; exact hP, va_K.moved hW.alike hK, hD⟩, hS.F ht⟩) hS.2.2 dX0_room_24
  · subst hr_5; subst hu_6; subst hv_7
    have hP : va_P G CLS (XW a ((uFind (I, F) 1).1) ((uFind (I, F) 1).2) S lm LP fp d) H := hP
    have hD : va_D A (XW a ((uFind (I, F) 1).1) ((uFind (I, F) 1).2) S lm LP fp d) := hD
    refine lv_istore_n (lv' := [(3, .int (-3)), (0, .ref (a 0)), (1, .int (nI k)), (2, .int most)]) hx hb dX0_room_5 rfl hl (Nat.le_of_ble_eq_true rfl) rfl (fun ls hl => ?_)
    refine lv_iload_n hx hb dX0_room_6 rfl (lv_at hl 0 rfl) ?_
    refine lv_if_ge (tgt := 14) hx hb dX0_room_7 (by decide) (fun c_10 => ?_) (fun c_10 => ?_)
    · exact absurd c_10 (by decide)
    · refine lv_iload_n hx hb dX0_room_10 rfl (lv_at hl 0 rfl) ?_
      refine lv_goto (tgt := 24) hx hb dX0_room_11 (by decide) ?_
      exact W.iret (v := (-3)) hx hb hr (fun t ht hW => ⟨⟨(-3), (uFind (I, F) 1), rfl, by unfold xRoom lookY; rw [if_neg (not_not_intro (show inR (nI k) 0 3 from nI_inR (n := 3) (by omega) (by decide))), show S3 S (nI k) = false by rw [S3, cl_nI (show k < 2 ^ 31 by omega), he_8]; rfl, if_neg (by decide)], by rw [ht]; exact hP, va_K.moved hW.alike hK, hD⟩, hS.F ht⟩) hS.2.2 dX0_room_24
  · subst hr_5; subst hu_6; subst hv_7
    obtain ⟨hy9, hf9⟩ := hrows k y9 (by omega) he_8
    have hP : va_P G CLS (XW a I F S lm LP fp d) H := hP
    have hD : va_D A (XW a I F S lm LP fp d) := hD
    refine lv_istore_n (lv' := [(3, .int 0), (0, .ref (a 0)), (1, .int (nI k)), (2, .int most)]) hx hb dX0_room_5 rfl hl (Nat.le_of_ble_eq_true rfl) rfl (fun ls hl => ?_)
    refine lv_iload_n hx hb dX0_room_6 rfl (lv_at hl 0 rfl) ?_
    refine lv_if_ge (tgt := 14) hx hb dX0_room_7 (by decide) (fun c_11 => ?_) (fun c_11 => ?_)
    · refine lv_aload_n hx hb dX0_room_14 rfl (lv_at hl 1 rfl) ?_
      refine va_get (D := G) (ci := 0) (v := .ref (a 3)) (C := RX0) (T := TX0) (N := 29) hx hb hts in_X0 hown hK hP 0 rfl rfl 3 (Nat.le_of_ble_eq_true rfl) (hts _ q108) (fun _ h9 => h9) rfl dX0_room_15 ?_
      refine lv_iload_n hx hb dX0_room_18 rfl (lv_at hl 2 rfl) ?_
      refine y_aldA (N := k) (g := S 3) hx hb hK hP 2 2 rfl rfl rfl (by omega) (by decide) dX0_room_19 ?_
      refine y_topv (y := .ref y9) (by rw [he_8]; rfl) ?_
      refine lv_iload_n hx hb dX0_room_20 rfl (lv_at hl 3 rfl) ?_
      refine y_rS (As := [.ref y9, .int most]) (rest := []) ⟨hx, hb, hml, hown, hts⟩ hK (pool_one hP hy9 hf9) (metX0_roomOf l G d y9 (R k) most hm01) (va_cwS 2 hts (lw_S q379 q380 q35 q381) rfl rfl rfl (by decide +kernel) ⟨Nat.le_of_ble_eq_true rfl, Nat.le_of_ble_eq_true rfl⟩) rfl hl.1 rfl (lv_room (Nat.le_of_ble_eq_true rfl)) dX0_room_21 ⟨Nat.le_of_ble_eq_true rfl, Nat.le_of_ble_eq_true rfl⟩ (fun r_12 hr_13 => ?_)
      rw [hr_13]
      exact W.iret (v := allV (fun r => roomV (gR (R k) r)) most) hx hb hr (fun t ht hW => ⟨⟨allV (fun r => roomV (gR (R k) r)) most, (I, F), rfl, by unfold xRoom lookY; rw [if_neg (not_not_intro (show inR (nI k) 0 3 from nI_inR (n := 3) (by omega) (by decide))), show S3 S (nI k) = true by rw [S3, cl_nI (show k < 2 ^ 31 by omega), he_8]; rfl, if_pos rfl, cl_nI (show k < 2 ^ 31 by omega)], by rw [ht]; exact hP, va_K.moved hW.alike hK, hD⟩, hS.F ht⟩) hS.2.2 dX0_room_24
    · exact absurd c_11 (by decide)
set_option maxHeartbeats 400000 in
set_option maxRecDepth 100000 in
theorem metX0_scan (l : Launch) (G : va_G) (d : Nat → Nat) (sz : Nat) (a : Nat → Nat) (I : Nat → Int32) (F : Nat → Nat → Int32) (S : Nat → Nat → Option Nat) (lm : Int32 × Nat × Int32) (LP : List Nat) (fp : Nat → va_E) (v : Int32) : Met l yX0_scan (ws_ yX0_scan cX0_scan 5 (some FieldType.int)) ({ frames := 2, cells := 1, slots := 96, locals := 42 } : Room) (va_Pc [.ref (a 0), .int v] (pE G d sz (XW a I F S lm LP fp d) (KA2 d))) (va_Qi (fun (r : Int32) (u : (Nat → Nat → Option Nat) × List Nat × (Nat → va_E)) => xScan S (d 0) LP fp v r u) (fun (u : (Nat → Nat → Option Nat) × List Nat × (Nat → va_E)) t => bW G d (va_A (XW a I F S lm LP fp d) sz) (XW a I F u.1 lm u.2.1 u.2.2 d) t) (va_A (XW a I F S lm LP fp d) sz)) 1 96 (va_A (XW a I F S lm LP fp d) sz) := by
  refine Met.ofW (cc := cX0_scan) (maxL := 5) (ret := (some FieldType.int)) (by decide) rfl ?_
  intro p e s m args below meth c s₁ B hml hv
  obtain ⟨rfl, hsz, hP, hK, hD0, hE⟩ := hv
  have hx := B.exec
  have hb := B.bytes
  have hr := B.returns
  have hts := atoms_spec (ws := (ws_ yX0_scan cX0_scan 5 (some FieldType.int))) B.pre
  have hts : ∀ w ∈ lw_all, w.before _ s = true := fun w h => hts w (List.mem_cons_of_mem _ h)
  have hown : s.vm.findClass RX0 = some m.cls := findClass_of_methodNamed B.named
  have hlocks := B.notSynchronized
  subst hsz
  have hD := hD0.self (sz := s.heap.size)
  generalize hAe : va_A (XW a I F S lm LP fp d) s.heap.size = A at hD ⊢
  have hA : ∀ q : Nat, s.heap.size ≤ q → A q := fun q h => by rw [← hAe]; exact Or.inr h
  have hS : va_S A s.heap s.heap [] := va_S.rf
  have hl := lv_entry ([.ref (a 0), .int v]) (n := 5) (Nat.le_of_ble_eq_true rfl)
  rw [lg_entry_eq]
  generalize (lg_sl ([.ref (a 0), .int v]) ++ List.replicate (5 - (lg_sl ([.ref (a 0), .int v])).length) Slot.unset).toArray = ls at hl ⊢
  have hl : lv_has ls 5 [(0, .ref (a 0)), (1, .int v)] := hl
  have hP : va_P G CLS (XW a I F S lm LP fp d) s.heap := hP
  refine lv_iload_n hx hb dX0_scan_0 rfl (lv_at hl 1 rfl) ?_
  refine y_rS (As := [.int v]) (rest := []) ⟨hx, hb, hml, hown, hts⟩ hK (ws := []) (fun _ _ h => by cases h) (metX0_isScan l G d v) (va_cwS 1 hts (lw_S q201 q202 q35 q203) rfl rfl rfl (by decide +kernel) ⟨Nat.le_of_ble_eq_true rfl, Nat.le_of_ble_eq_true rfl⟩) rfl hl.1 rfl (lv_room (Nat.le_of_ble_eq_true rfl)) dX0_scan_1 ⟨Nat.le_of_ble_eq_true rfl, Nat.le_of_ble_eq_true rfl⟩ (fun r_1 hr_2 => ?_)
  refine lv_if_ne (tgt := 9) hx hb dX0_scan_4 (by decide) (fun c_3 => ?_) (fun c_3 => ?_)
  · have c_3 := bI_ne hr_2 c_3
    obtain ⟨k, hk, rfl⟩ := inR_n (n := 3) (by decide) c_3
    refine lv_aload_n hx hb dX0_scan_9 rfl (lv_at hl 0 rfl) ?_
    refine va_get (D := G) (ci := 0) (v := .ref (a 3)) (C := RX0) (T := TX0) (N := 29) hx hb hts in_X0 hown hK hP 0 rfl rfl 3 (Nat.le_of_ble_eq_true rfl) (hts _ q108) (fun _ h9 => h9) rfl dX0_scan_10 ?_
    refine lv_iload_n hx hb dX0_scan_13 rfl (lv_at hl 1 rfl) ?_
    refine y_aldA (N := k) (g := S 3) hx hb hK hP 2 2 rfl rfl rfl (by omega) (by decide) dX0_scan_14 ?_
    have hj_4 : ∀ (x : Int32) (hxx : x = bI ((S 3 k).isSome = true)), W p l e (headSpec (ws_ yX0_scan cX0_scan 5 (some FieldType.int)) ({ frames := 2, cells := 1, slots := 96, locals := 42 } : Room)).room s m ([.ref (a 0), .int (nI k)] : List Value).toArray below meth c s.heap [] 0 0 (MQ below (va_Qi (fun (r : Int32) (u : (Nat → Nat → Option Nat) × List Nat × (Nat → va_E)) => xScan S (d 0) LP fp (nI k) r u) (fun (u : (Nat → Nat → Option Nat) × List Nat × (Nat → va_E)) t => bW G d A (XW a I F u.1 lm u.2.1 u.2.2 d) t) A) ([.ref (a 0), .int (nI k)] : List Value).toArray s 1 96 A) (F0 m 23 ls [.int x]) := by
      intro x hxx
      refine lv_istore_n (lv' := [(2, .int x), (0, .ref (a 0)), (1, .int (nI k))]) hx hb dX0_scan_23 rfl hl (Nat.le_of_ble_eq_true rfl) rfl (fun ls hl => ?_)
      refine lv_bipush (v := 96) hx hb dX0_scan_24 (by decide +kernel) ?_
      refine y_newiP (N' := 96) hx hb (hts _ q104) hK hP hD hS hA (by decide) (by decide +kernel) (Nat.le_of_ble_eq_true rfl) (Nat.le_of_ble_eq_true rfl) (Nat.le_of_ble_eq_true rfl) dX0_scan_26 (fun q_5 H hq_5 hP hD hS => ?_)
      have hP : va_P G CLS (XW a I F S lm (LP ++ [q_5]) (va_up fp q_5 (.inl (d 0, 96, .inl (fun _ => 0)))) d) H := hP
      have hD : va_D A (XW a I F S lm (LP ++ [q_5]) (va_up fp q_5 (.inl (d 0, 96, .inl (fun _ => 0)))) d) := hD
      refine lv_astore_n (lv' := [(3, .ref q_5), (2, .int x), (0, .ref (a 0)), (1, .int (nI k))]) hx hb dX0_scan_28 rfl hl (Nat.le_of_ble_eq_true rfl) rfl (fun ls hl => ?_)
      refine lv_iconst (v := 0) hx hb dX0_scan_29 (by decide) ?_
      refine lv_istore (lv' := [(4, .int 0), (3, .ref q_5), (2, .int x), (0, .ref (a 0)), (1, .int (nI k))]) hx hb dX0_scan_30 hl (Nat.le_of_ble_eq_true rfl) rfl (fun ls hl => ?_)
      have hP : va_P G CLS (XW a I F S lm (LP ++ [q_5]) (va_up fp q_5 (.inl (d 0, 96, .inl (fillR (fun _ => 0) 0 0 (-9))))) d) H := by rw [fillR_0]; exact hP
      have hD : va_D A (XW a I F S lm (LP ++ [q_5]) (va_up fp q_5 (.inl (d 0, 96, .inl (fillR (fun _ => 0) 0 0 (-9))))) d) := by rw [fillR_0]; exact hD
      have lp_6 : ∀ (fu : Nat) (i : Nat) (hi : i ≤ 96) (hm : 96 < i + fu) (H : Heap) (locs : List Loc) (hP : va_P G CLS (XW a I F S lm (LP ++ [q_5]) (va_up fp q_5 (.inl (d 0, 96, .inl (fillR (fun _ => 0) 0 i (-9))))) d) H) (hD : va_D A (XW a I F S lm (LP ++ [q_5]) (va_up fp q_5 (.inl (d 0, 96, .inl (fillR (fun _ => 0) 0 i (-9))))) d)) (hS : va_S A s.heap H locs) (ls : Array Slot) (hl : lv_has ls 5 [(4, .int (nI i)), (3, .ref q_5), (2, .int x), (0, .ref (a 0)), (1, .int (nI k))]), W p l e (headSpec (ws_ yX0_scan cX0_scan 5 (some FieldType.int)) ({ frames := 2, cells := 1, slots := 96, locals := 42 } : Room)).room s m ([.ref (a 0), .int (nI k)] : List Value).toArray below meth c H locs 1 96 (MQ below (va_Qi (fun (r : Int32) (u : (Nat → Nat → Option Nat) × List Nat × (Nat → va_E)) => xScan S (d 0) LP fp (nI k) r u) (fun (u : (Nat → Nat → Option Nat) × List Nat × (Nat → va_E)) t => bW G d A (XW a I F u.1 lm u.2.1 u.2.2 d) t) A) ([.ref (a 0), .int (nI k)] : List Value).toArray s 1 96 A) (F0 m 32 ls []) := by
        intro fu
        induction fu with
        | zero =>
          intro i hi hm H locs hP hD hS ls hl
          exfalso; omega
        | succ fu ih_lp_6 =>
          intro i hi hm H locs hP hD hS ls hl
          refine lv_iload hx hb dX0_scan_32 (lv_at hl 0 rfl) ?_
          refine lv_bipush (v := 96) hx hb dX0_scan_34 (by decide +kernel) ?_
          refine lv_icmp_ge (tgt := 51) hx hb dX0_scan_36 (by decide) (fun c_7 => ?_) (fun c_7 => ?_)
          · have c_7 : 96 ≤ i := (nI_leI (a := 96) (b := i) (by omega) (by omega)).mp c_7
            refine lv_aload_n hx hb dX0_scan_51 rfl (lv_at hl 3 rfl) ?_
            refine va_get (D := G) (ci := 0) (v := .ref (a 3)) (C := RX0) (T := TX0) (N := 29) hx hb hts in_X0 hown hK hP 0 rfl rfl 3 (Nat.le_of_ble_eq_true rfl) (hts _ q108) (fun _ h9 => h9) rfl dX0_scan_52 ?_
            refine lv_iload_n hx hb dX0_scan_55 rfl (lv_at hl 4 rfl) ?_
            refine lv_aload_n hx hb dX0_scan_56 rfl (lv_at hl 1 rfl) ?_
            refine y_astA (N := k) (g := S 3) hx hb hE hK hP hD hS 2 rfl (pool_one hP (cm_last _ _) (va_up_self _ _ _) 0 _ rfl) rfl (by omega) (by decide) dX0_scan_57 (fun H locs hP hD hS => ?_)
            have hP : va_P G CLS (XW a I F (va_up S 3 (va_up (S 3) k (some q_5))) lm (LP ++ [q_5]) (va_up fp q_5 (.inl (d 0, 96, .inl (fillR (fun _ => 0) 0 i (-9))))) d) H := hP
            have hD : va_D A (XW a I F (va_up S 3 (va_up (S 3) k (some q_5))) lm (LP ++ [q_5]) (va_up fp q_5 (.inl (d 0, 96, .inl (fillR (fun _ => 0) 0 i (-9))))) d) := hD
            refine lv_iload_n hx hb dX0_scan_58 rfl (lv_at hl 2 rfl) ?_
            exact W.iret (v := x) hx hb hr (fun t ht hW => ⟨⟨x, (va_up S 3 (va_up (S 3) k (some q_5)), LP ++ [q_5], va_up fp q_5 (.inl (d 0, 96, .inl (fillR (fun _ => 0) 0 i (-9))))), rfl, Or.inr ⟨c_3, by rw [S3, cl_nI (show k < 2 ^ 31 by omega), hxx], q_5, hq_5, by rw [cl_nI (show k < 2 ^ 31 by omega), show i = 96 by omega]⟩, by rw [ht]; exact hP, va_K.moved hW.alike hK, hD⟩, hS.F ht⟩) hS.2.2 dX0_scan_59
          · have c_7 : ¬ 96 ≤ i := fun h => c_7 ((nI_leI (a := 96) (b := i) (by omega) (by omega)).mpr h)
            refine lv_aload_n hx hb dX0_scan_39 rfl (lv_at hl 1 rfl) ?_
            refine lv_iload hx hb dX0_scan_40 (lv_at hl 0 rfl) ?_
            refine lv_bipush (v := (-9)) hx hb dX0_scan_42 (by decide +kernel) ?_
            refine y_iastP (N := i) (g := (fillR (fun _ => 0) 0 i (-9))) hx hb hK hP hD hS 0 (cm_last _ _) (va_up_self _ _ _) rfl rfl (by omega) (by decide) dX0_scan_44 (fun H locs hP hD hS => ?_)
            have hP : va_P G CLS (XW a I F S lm (LP ++ [q_5]) (va_up (va_up fp q_5 (.inl (d 0, 96, .inl (fillR (fun _ => 0) 0 i (-9))))) q_5 (.inl (d 0, 96, .inl (upd (fillR (fun _ => 0) 0 i (-9)) i (-9))))) d) H := hP
            have hD : va_D A (XW a I F S lm (LP ++ [q_5]) (va_up (va_up fp q_5 (.inl (d 0, 96, .inl (fillR (fun _ => 0) 0 i (-9))))) q_5 (.inl (d 0, 96, .inl (upd (fillR (fun _ => 0) 0 i (-9)) i (-9))))) d) := hD
            refine lv_iinc (v := nI (i + 1)) (lv' := [(4, .int (nI (i + 1))), (3, .ref q_5), (2, .int x), (0, .ref (a 0)), (1, .int (nI k))]) hx hb dX0_scan_45 hl (k := 0) rfl (nI_add i 1) (Nat.le_of_ble_eq_true rfl) rfl (fun ls hl => ?_)
            refine lv_goto (tgt := 32) hx hb dX0_scan_48 (by decide) ?_
            have hP : va_P G CLS (XW a I F S lm (LP ++ [q_5]) (va_up fp q_5 (.inl (d 0, 96, .inl (fillR (fun _ => 0) 0 (i + 1) (-9))))) d) H := by rw [← fillR_s, Nat.zero_add, ← bx_uu fp q_5 (.inl (d 0, 96, .inl (fillR (fun _ => 0) 0 i (-9))))]; exact hP
            have hD : va_D A (XW a I F S lm (LP ++ [q_5]) (va_up fp q_5 (.inl (d 0, 96, .inl (fillR (fun _ => 0) 0 (i + 1) (-9))))) d) := by rw [← fillR_s, Nat.zero_add, ← bx_uu fp q_5 (.inl (d 0, 96, .inl (fillR (fun _ => 0) 0 i (-9))))]; exact hD
            exact ih_lp_6 (i + 1) (by omega) (by omega) _ _ hP hD hS ls (lv_sub hl [0, 1, 2, 3, 4] rfl)
      exact lp_6 97 0 (by omega) (by omega) _ _ hP hD hS ls (lv_sub hl [0, 1, 2, 3, 4] rfl)
    rcases hq9 : S 3 k with _ | y9
    · refine y_topv (y := .null) rfl ?_
      refine lv_ifnonnullN hx hb dX0_scan_15 ?_
      refine lv_iconst (v := 0) hx hb dX0_scan_18 (by decide) ?_
      refine lv_goto (tgt := 23) hx hb dX0_scan_19 (by decide) ?_
      exact hj_4 0 (bI_f (by rw [hq9]; decide)).symm
    · refine y_topv (y := .ref y9) rfl ?_
      refine lv_ifnonnull (tgt := 22) hx hb dX0_scan_15 (by decide) ?_
      refine lv_iconst (v := 1) hx hb dX0_scan_22 (by decide) ?_
      exact hj_4 1 (bI_t (by rw [hq9]; rfl)).symm
  · have c_3 := bI_eq hr_2 c_3
    refine lv_iconst (v := (-1)) hx hb dX0_scan_7 (by decide) ?_
    refine W.widen (k := 1) (n := 96) (Nat.le_of_ble_eq_true rfl) (Nat.le_of_ble_eq_true rfl) ?_
    exact W.iret (v := (-1)) hx hb hr (fun t ht hW => ⟨⟨(-1), (S, LP, fp), rfl, Or.inl ⟨c_3, rfl, rfl⟩, by rw [ht]; exact hP, va_K.moved hW.alike hK, hD⟩, hS.F ht⟩) hS.2.2 dX0_scan_8
