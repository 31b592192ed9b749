set_option maxHeartbeats 400000 in
set_option maxRecDepth 100000 in
theorem metX1_isPart (l : Launch) (G : va_G) (d : Nat → Nat) (b : Nat → Nat) (J : Nat → Int32) (E : Nat → Nat → Int32) (n : Nat) (v : Int32) (hn16 : n ≤ 16) (hn : J 13 = nI n) : Met l yX1_isPart (ws_ yX1_isPart cX1_isPart 2 (some FieldType.boolean)) ({ frames := 1, cells := 0, slots := 0, locals := 22 } : Room) (va_Pc [.ref (b 0), .int v] (pR G d (MW b J E d))) (vp_Si (fun r => r = bI (inR v 0 (nI n - 1)))) 0 0 (fun _ => False) := by
  refine Met.ofW (cc := cX1_isPart) (maxL := 2) (ret := (some FieldType.boolean)) (by decide) rfl ?_
  intro p e s m args below meth c s₁ B hml hv
  obtain ⟨rfl, hP, hK⟩ := hv
  have hx := B.exec
  have hb := B.bytes
  have hr := B.returns
  have hts := atoms_spec (ws := (ws_ yX1_isPart cX1_isPart 2 (some FieldType.boolean))) B.pre
  have hts : ∀ w ∈ lw_all, w.before _ s = true := fun w h => hts w (List.mem_cons_of_mem _ h)
  have hown : s.vm.findClass RX1 = some m.cls := findClass_of_methodNamed B.named
  have hlocks := B.notSynchronized
  have hl := lv_entry ([.ref (b 0), .int v]) (n := 2) (Nat.le_of_ble_eq_true rfl)
  rw [lg_entry_eq]
  generalize (lg_sl ([.ref (b 0), .int v]) ++ List.replicate (2 - (lg_sl ([.ref (b 0), .int v])).length) Slot.unset).toArray = ls at hl ⊢
  have hl : lv_has ls 2 [(0, .ref (b 0)), (1, .int v)] := hl
  refine lv_iload_n hx hb dX1_isPart_0 rfl (lv_at hl 1 rfl) ?_
  refine lv_iconst (v := 0) hx hb dX1_isPart_1 (by decide) ?_
  refine lv_aload_n hx hb dX1_isPart_2 rfl (lv_at hl 0 rfl) ?_
  refine va_get (D := G) (ci := 1) (v := .int (J 13)) (C := RX1) (T := TX1) (N := 33) hx hb hts in_X1 hown hK hP 0 rfl rfl 13 (Nat.le_of_ble_eq_true rfl) (hts _ q899) (fun _ h9 => h9) rfl dX1_isPart_3 ?_
  refine y_top (y := nI n) hn ?_
  refine lv_iconst (v := 1) hx hb dX1_isPart_6 (by decide) ?_
  refine lv_isub hx hb dX1_isPart_7 ?_
  refine y_rS (As := [.int v, .int 0, .int ((nI n) - 1)]) (rest := []) ⟨hx, hb, hml, hown, hts⟩ hK (ws := []) (fun _ _ h => by cases h) (metX1_in l G d v 0 ((nI n) - 1)) (va_cwS 3 hts (lw_S q994 q995 q39 q996) rfl rfl rfl (by decide +kernel) ⟨Nat.le_of_ble_eq_true rfl, Nat.le_of_ble_eq_true rfl⟩) rfl hl.1 rfl (lv_room (Nat.le_of_ble_eq_true rfl)) dX1_isPart_8 ⟨Nat.le_of_ble_eq_true rfl, Nat.le_of_ble_eq_true rfl⟩ (fun r_1 hr_2 => ?_)
  exact W.zret (v := r_1) hx hb hr (nar_01 (by rw [hr_2]; exact bI_01 _)) (fun t ht hW => ⟨r_1, rfl, hr_2, ht⟩) (fun q h => by cases h) dX1_isPart_11
set_option maxHeartbeats 400000 in
set_option maxRecDepth 100000 in
theorem metX1_tells (l : Launch) (G : va_G) (d : Nat → Nat) (b : Nat → Nat) (J : Nat → Int32) (E : Nat → Nat → Int32) (q w : Nat) (hq : q < 16) (hw7 : w < 7) : Met l yX1_tells (ws_ yX1_tells cX1_tells 3 (some FieldType.int)) ({ frames := 0, cells := 0, slots := 0, locals := 0 } : Room) (va_Pc [.ref (b 0), .int (nI q), .int (nI w)] (pR G d (MW b J E d))) (vp_Si (fun x => x = toldV (pM E) q w)) 0 0 (fun _ => False) := by
  refine Met.ofW (cc := cX1_tells) (maxL := 3) (ret := (some FieldType.int)) (by decide) rfl ?_
  intro p e s m args below meth c s₁ B hml hv
  obtain ⟨rfl, hP, hK⟩ := hv
  have hx := B.exec
  have hb := B.bytes
  have hr := B.returns
  have hts := atoms_spec (ws := (ws_ yX1_tells cX1_tells 3 (some FieldType.int))) B.pre
  have hts : ∀ w ∈ lw_all, w.before _ s = true := fun w h => hts w (List.mem_cons_of_mem _ h)
  have hown : s.vm.findClass RX1 = some m.cls := findClass_of_methodNamed B.named
  have hlocks := B.notSynchronized
  have hl := lv_entry ([.ref (b 0), .int (nI q), .int (nI w)]) (n := 3) (Nat.le_of_ble_eq_true rfl)
  rw [lg_entry_eq]
  generalize (lg_sl ([.ref (b 0), .int (nI q), .int (nI w)]) ++ List.replicate (3 - (lg_sl ([.ref (b 0), .int (nI q), .int (nI w)])).length) Slot.unset).toArray = ls at hl ⊢
  have hl : lv_has ls 3 [(0, .ref (b 0)), (1, .int (nI q)), (2, .int (nI w))] := hl
  refine lv_iload_n hx hb dX1_tells_0 rfl (lv_at hl 2 rfl) ?_
  have hcs : w = 0 ∨ w = 1 ∨ w = 2 ∨ w = 3 ∨ w = 4 ∨ w = 5 ∨ w = 6 := by omega
  rcases hcs with rfl | rfl | rfl | rfl | rfl | rfl | rfl
  · refine lv_tableIn (off := 39) (tgt := 40) hx hb dX1_tells_1 (by decide +kernel) (by decide +kernel) (by decide +kernel) (by decide) ?_
    refine lv_aload_n hx hb dX1_tells_40 rfl (lv_at hl 0 rfl) ?_
    refine va_get (D := G) (ci := 1) (v := .ref (b 14)) (C := RX1) (T := TX1) (N := 33) hx hb hts in_X1 hown hK hP 0 rfl rfl 14 (Nat.le_of_ble_eq_true rfl) (hts _ q900) (fun _ h9 => h9) rfl dX1_tells_41 ?_
    refine lv_iload_n hx hb dX1_tells_44 rfl (lv_at hl 1 rfl) ?_
    refine y_iald (N := q) (f := E 14) hx hb hK hP 10 0 rfl rfl rfl (by omega) (by decide) dX1_tells_45 ?_
    exact W.iret (v := (E 14) q) hx hb hr (fun t ht hW => ⟨(E 14) q, rfl, rfl, ht⟩) (fun q h => by cases h) dX1_tells_46
  · refine lv_tableIn (off := 46) (tgt := 47) hx hb dX1_tells_1 (by decide +kernel) (by decide +kernel) (by decide +kernel) (by decide) ?_
    refine lv_aload_n hx hb dX1_tells_47 rfl (lv_at hl 0 rfl) ?_
    refine va_get (D := G) (ci := 1) (v := .ref (b 15)) (C := RX1) (T := TX1) (N := 33) hx hb hts in_X1 hown hK hP 0 rfl rfl 15 (Nat.le_of_ble_eq_true rfl) (hts _ q901) (fun _ h9 => h9) rfl dX1_tells_48 ?_
    refine lv_iload_n hx hb dX1_tells_51 rfl (lv_at hl 1 rfl) ?_
    refine y_iald (N := q) (f := E 15) hx hb hK hP 11 0 rfl rfl rfl (by omega) (by decide) dX1_tells_52 ?_
    exact W.iret (v := (E 15) q) hx hb hr (fun t ht hW => ⟨(E 15) q, rfl, rfl, ht⟩) (fun q h => by cases h) dX1_tells_53
  · refine lv_tableIn (off := 53) (tgt := 54) hx hb dX1_tells_1 (by decide +kernel) (by decide +kernel) (by decide +kernel) (by decide) ?_
    refine lv_aload_n hx hb dX1_tells_54 rfl (lv_at hl 0 rfl) ?_
    refine va_get (D := G) (ci := 1) (v := .ref (b 16)) (C := RX1) (T := TX1) (N := 33) hx hb hts in_X1 hown hK hP 0 rfl rfl 16 (Nat.le_of_ble_eq_true rfl) (hts _ q902) (fun _ h9 => h9) rfl dX1_tells_55 ?_
    refine lv_iload_n hx hb dX1_tells_58 rfl (lv_at hl 1 rfl) ?_
    refine y_iald (N := q) (f := E 16) hx hb hK hP 12 0 rfl rfl rfl (by omega) (by decide) dX1_tells_59 ?_
    exact W.iret (v := (E 16) q) hx hb hr (fun t ht hW => ⟨(E 16) q, rfl, rfl, ht⟩) (fun q h => by cases h) dX1_tells_60
  · refine lv_tableIn (off := 60) (tgt := 61) hx hb dX1_tells_1 (by decide +kernel) (by decide +kernel) (by decide +kernel) (by decide) ?_
    refine lv_aload_n hx hb dX1_tells_61 rfl (lv_at hl 0 rfl) ?_
    refine va_get (D := G) (ci := 1) (v := .ref (b 17)) (C := RX1) (T := TX1) (N := 33) hx hb hts in_X1 hown hK hP 0 rfl rfl 17 (Nat.le_of_ble_eq_true rfl) (hts _ q903) (fun _ h9 => h9) rfl dX1_tells_62 ?_
    refine lv_iload_n hx hb dX1_tells_65 rfl (lv_at hl 1 rfl) ?_
    refine y_iald (N := q) (f := E 17) hx hb hK hP 13 0 rfl rfl rfl (by omega) (by decide) dX1_tells_66 ?_
    exact W.iret (v := (E 17) q) hx hb hr (fun t ht hW => ⟨(E 17) q, rfl, rfl, ht⟩) (fun q h => by cases h) dX1_tells_67
  · refine lv_tableIn (off := 67) (tgt := 68) hx hb dX1_tells_1 (by decide +kernel) (by decide +kernel) (by decide +kernel) (by decide) ?_
    refine lv_aload_n hx hb dX1_tells_68 rfl (lv_at hl 0 rfl) ?_
    refine va_get (D := G) (ci := 1) (v := .ref (b 18)) (C := RX1) (T := TX1) (N := 33) hx hb hts in_X1 hown hK hP 0 rfl rfl 18 (Nat.le_of_ble_eq_true rfl) (hts _ q904) (fun _ h9 => h9) rfl dX1_tells_69 ?_
    refine lv_iload_n hx hb dX1_tells_72 rfl (lv_at hl 1 rfl) ?_
    refine y_iald (N := q) (f := E 18) hx hb hK hP 14 0 rfl rfl rfl (by omega) (by decide) dX1_tells_73 ?_
    exact W.iret (v := (E 18) q) hx hb hr (fun t ht hW => ⟨(E 18) q, rfl, rfl, ht⟩) (fun q h => by cases h) dX1_tells_74
  · refine lv_tableIn (off := 74) (tgt := 75) hx hb dX1_tells_1 (by decide +kernel) (by decide +kernel) (by decide +kernel) (by decide) ?_
    refine lv_aload_n hx hb dX1_tells_75 rfl (lv_at hl 0 rfl) ?_
    refine va_get (D := G) (ci := 1) (v := .ref (b 19)) (C := RX1) (T := TX1) (N := 33) hx hb hts in_X1 hown hK hP 0 rfl rfl 19 (Nat.le_of_ble_eq_true rfl) (hts _ q905) (fun _ h9 => h9) rfl dX1_tells_76 ?_
    refine lv_iload_n hx hb dX1_tells_79 rfl (lv_at hl 1 rfl) ?_
    refine y_iald (N := q) (f := E 19) hx hb hK hP 15 0 rfl rfl rfl (by omega) (by decide) dX1_tells_80 ?_
    exact W.iret (v := (E 19) q) hx hb hr (fun t ht hW => ⟨(E 19) q, rfl, rfl, ht⟩) (fun q h => by cases h) dX1_tells_81
  · refine lv_tableOut (tgt := 82) hx hb dX1_tells_1 (by decide +kernel) (by decide) ?_
    refine lv_aload_n hx hb dX1_tells_82 rfl (lv_at hl 0 rfl) ?_
    refine va_get (D := G) (ci := 1) (v := .ref (b 21)) (C := RX1) (T := TX1) (N := 33) hx hb hts in_X1 hown hK hP 0 rfl rfl 21 (Nat.le_of_ble_eq_true rfl) (hts _ q907) (fun _ h9 => h9) rfl dX1_tells_83 ?_
    refine lv_iload_n hx hb dX1_tells_86 rfl (lv_at hl 1 rfl) ?_
    refine y_zald (N := q) (f := E 21) hx hb hK hP 17 1 rfl rfl rfl (by omega) (by decide) dX1_tells_87 ?_
    refine lv_if_eq (tgt := 95) hx hb dX1_tells_88 (by decide) (fun c_1 => ?_) (fun c_1 => ?_)
    · refine lv_iconst (v := 0) hx hb dX1_tells_95 (by decide) ?_
      exact W.iret (v := 0) hx hb hr (fun t ht hW => ⟨0, rfl, (bI_f (not_not_intro c_1)).symm, ht⟩) (fun q h => by cases h) dX1_tells_96
    · refine lv_iconst (v := 1) hx hb dX1_tells_91 (by decide) ?_
      refine lv_goto (tgt := 96) hx hb dX1_tells_92 (by decide) ?_
      exact W.iret (v := 1) hx hb hr (fun t ht hW => ⟨1, rfl, (bI_t c_1).symm, ht⟩) (fun q h => by cases h) dX1_tells_96
set_option maxHeartbeats 400000 in
set_option maxRecDepth 100000 in
theorem metX1_told (l : Launch) (G : va_G) (d : Nat → Nat) (b : Nat → Nat) (J : Nat → Int32) (E : Nat → Nat → Int32) (n : Nat) (v w : Int32) (hn16 : n ≤ 16) (hn : J 13 = nI n) : Met l yX1_told (ws_ yX1_told cX1_told 3 (some FieldType.int)) ({ frames := 2, cells := 0, slots := 0, locals := 43 } : Room) (va_Pc [.ref (b 0), .int v, .int w] (pR G d (MW b J E d))) (vp_Si (fun x => x = toldOp (pM E) n v w)) 0 0 (fun _ => False) := by
  refine Met.ofW (cc := cX1_told) (maxL := 3) (ret := (some FieldType.int)) (by decide) rfl ?_
  intro p e s m args below meth c s₁ B hml hv
  obtain ⟨rfl, hP, hK⟩ := hv
  have hx := B.exec
  have hb := B.bytes
  have hr := B.returns
  have hts := atoms_spec (ws := (ws_ yX1_told cX1_told 3 (some FieldType.int))) B.pre
  have hts : ∀ w ∈ lw_all, w.before _ s = true := fun w h => hts w (List.mem_cons_of_mem _ h)
  have hown : s.vm.findClass RX1 = some m.cls := findClass_of_methodNamed B.named
  have hlocks := B.notSynchronized
  have hl := lv_entry ([.ref (b 0), .int v, .int w]) (n := 3) (Nat.le_of_ble_eq_true rfl)
  rw [lg_entry_eq]
  generalize (lg_sl ([.ref (b 0), .int v, .int w]) ++ List.replicate (3 - (lg_sl ([.ref (b 0), .int v, .int w])).length) Slot.unset).toArray = ls at hl ⊢
  have hl : lv_has ls 3 [(0, .ref (b 0)), (1, .int v), (2, .int w)] := hl
  refine lv_aload_n hx hb dX1_told_0 rfl (lv_at hl 0 rfl) ?_
  refine lv_iload_n hx hb dX1_told_1 rfl (lv_at hl 1 rfl) ?_
  refine y_rV (As := [.int v]) (rest := []) (ci := 1) (q0 := 0) ⟨hx, hb, hml, hown, hts⟩ hK hP (metX1_isPart l G d b J E n v hn16 hn) (cwV 1 hts (lw_V q1081 q1083 qs25 q39 q1084) rfl rfl rfl (by decide +kernel) ⟨Nat.le_of_ble_eq_true rfl, Nat.le_of_ble_eq_true rfl⟩) rfl rfl rfl hl.1 rfl (lv_room (Nat.le_of_ble_eq_true rfl)) dX1_told_2 ⟨Nat.le_of_ble_eq_true rfl, Nat.le_of_ble_eq_true rfl⟩ (fun r_1 hw_2 => ?_)
  refine lv_if_eq (tgt := 27) hx hb dX1_told_5 (by decide) (fun c_3 => ?_) (fun c_3 => ?_)
  · have c_3 := bI_eq hw_2 c_3
    refine lv_iconst (v := (-1)) hx hb dX1_told_27 (by decide) ?_
    exact W.iret (v := (-1)) hx hb hr (fun t ht hW => ⟨(-1), rfl, (if_neg (fun h => c_3 (h.1))).symm, ht⟩) (fun q h => by cases h) dX1_told_28
  · have c_3 := bI_ne hw_2 c_3
    refine lv_iload_n hx hb dX1_told_8 rfl (lv_at hl 2 rfl) ?_
    refine lv_iconst (v := 0) hx hb dX1_told_9 (by decide) ?_
    refine lv_bipush (v := 6) hx hb dX1_told_10 (by decide +kernel) ?_
    refine y_rS (As := [.int w, .int 0, .int 6]) (rest := []) ⟨hx, hb, hml, hown, hts⟩ hK (ws := []) (fun _ _ h => by cases h) (metX1_in l G d w 0 6) (va_cwS 3 hts (lw_S q994 q995 q39 q996) rfl rfl rfl (by decide +kernel) ⟨Nat.le_of_ble_eq_true rfl, Nat.le_of_ble_eq_true rfl⟩) rfl hl.1 rfl (lv_room (Nat.le_of_ble_eq_true rfl)) dX1_told_12 ⟨Nat.le_of_ble_eq_true rfl, Nat.le_of_ble_eq_true rfl⟩ (fun r_4 hr_5 => ?_)
    refine lv_if_eq (tgt := 27) hx hb dX1_told_15 (by decide) (fun c_6 => ?_) (fun c_6 => ?_)
    · have c_6 := bI_eq hr_5 c_6
      refine lv_iconst (v := (-1)) hx hb dX1_told_27 (by decide) ?_
      exact W.iret (v := (-1)) hx hb hr (fun t ht hW => ⟨(-1), rfl, (if_neg (fun h => c_6 (h.2))).symm, ht⟩) (fun q h => by cases h) dX1_told_28
    · have c_6 := bI_ne hr_5 c_6
      obtain ⟨q, hq, rfl⟩ := inR_p (n := n) (by omega) c_3
      obtain ⟨z, hz, rfl⟩ := inR_n (n := 6) (by decide) c_6
      refine lv_aload_n hx hb dX1_told_18 rfl (lv_at hl 0 rfl) ?_
      refine lv_iload_n hx hb dX1_told_19 rfl (lv_at hl 1 rfl) ?_
      refine lv_iload_n hx hb dX1_told_20 rfl (lv_at hl 2 rfl) ?_
      refine y_rV (As := [.int (nI q), .int (nI z)]) (rest := []) (ci := 1) (q0 := 0) ⟨hx, hb, hml, hown, hts⟩ hK hP (metX1_tells l G d b J E q z (by omega) (by omega)) (cwV 2 hts (lw_V q1085 q1087 qs26 q39 q1088) rfl rfl rfl (by decide +kernel) ⟨Nat.le_of_ble_eq_true rfl, Nat.le_of_ble_eq_true rfl⟩) rfl rfl rfl hl.1 rfl (lv_room (Nat.le_of_ble_eq_true rfl)) dX1_told_21 ⟨Nat.le_of_ble_eq_true rfl, Nat.le_of_ble_eq_true rfl⟩ (fun r_7 hw_8 => ?_)
      rw [hw_8]
      refine lv_goto (tgt := 28) hx hb dX1_told_24 (by decide) ?_
      exact W.iret (v := toldV (pM E) q z) hx hb hr (fun t ht hW => ⟨toldV (pM E) q z, rfl, by unfold toldOp; rw [if_pos ⟨c_3, c_6⟩, cl_nI (show q < 2 ^ 31 by omega), cl_nI (show z < 2 ^ 31 by omega)], ht⟩) (fun q h => by cases h) dX1_told_28
set_option maxHeartbeats 400000 in
set_option maxRecDepth 100000 in
theorem metX1_mark (l : Launch) (G : va_G) (d : Nat → Nat) (sz : Nat) (b : Nat → Nat) (J : Nat → Int32) (E : Nat → Nat → Int32) (n : Nat) (v w : Int32) (hn16 : n ≤ 16) (hn : J 13 = nI n) (hh : ∀ q, q < n → ¬ E 15 q = 0) : Met l yX1_mark (ws_ yX1_mark cX1_mark 6 (some FieldType.int)) ({ frames := 2, cells := 0, slots := 0, locals := 43 } : Room) (va_Pc [.ref (b 0), .int v, .int w] (pW G d sz (MW b J E d))) (va_Qi (fun (r : Int32) (u : MS) => (r, u) = markOp (pM E) n (J, E) v w) (fun (u : MS) t => bW G d (va_A (MW b J E d) sz) (MW b u.1 u.2 d) t) (va_A (MW b J E d) sz)) 0 0 (va_A (MW b J E d) sz) := by
  refine Met.ofW (cc := cX1_mark) (maxL := 6) (ret := (some FieldType.int)) (by decide) rfl ?_
  intro p e s m args below meth c s₁ B hml hv
  obtain ⟨rfl, hsz, hP, hK, hD0⟩ := hv
  have hx := B.exec
  have hb := B.bytes
  have hr := B.returns
  have hts := atoms_spec (ws := (ws_ yX1_mark cX1_mark 6 (some FieldType.int))) B.pre
  have hts : ∀ w ∈ lw_all, w.before _ s = true := fun w h => hts w (List.mem_cons_of_mem _ h)
  have hown : s.vm.findClass RX1 = some m.cls := findClass_of_methodNamed B.named
  have hlocks := B.notSynchronized
  subst hsz
  have hD := hD0.self (sz := s.heap.size)
  generalize hAe : va_A (MW b J E d) s.heap.size = A at hD ⊢
  have hA : ∀ q : Nat, s.heap.size ≤ q → A q := fun q h => by rw [← hAe]; exact Or.inr h
  have hS : va_S A s.heap s.heap [] := va_S.rf
  have hl := lv_entry ([.ref (b 0), .int v, .int w]) (n := 6) (Nat.le_of_ble_eq_true rfl)
  rw [lg_entry_eq]
  generalize (lg_sl ([.ref (b 0), .int v, .int w]) ++ List.replicate (6 - (lg_sl ([.ref (b 0), .int v, .int w])).length) Slot.unset).toArray = ls at hl ⊢
  have hl : lv_has ls 6 [(0, .ref (b 0)), (1, .int v), (2, .int w)] := hl
  have hP : va_P G CLS (MW b J E d) s.heap := hP
  refine lv_aload_n hx hb dX1_mark_0 rfl (lv_at hl 0 rfl) ?_
  refine lv_iload_n hx hb dX1_mark_1 rfl (lv_at hl 1 rfl) ?_
  refine y_rV (As := [.int v]) (rest := []) (ci := 1) (q0 := 0) ⟨hx, hb, hml, hown, hts⟩ hK hP (metX1_isPart l G d b J E n v hn16 hn) (cwV 1 hts (lw_V q1081 q1083 qs25 q39 q1084) rfl rfl rfl (by decide +kernel) ⟨Nat.le_of_ble_eq_true rfl, Nat.le_of_ble_eq_true rfl⟩) rfl rfl rfl hl.1 rfl (lv_room (Nat.le_of_ble_eq_true rfl)) dX1_mark_2 ⟨Nat.le_of_ble_eq_true rfl, Nat.le_of_ble_eq_true rfl⟩ (fun r_1 hw_2 => ?_)
  refine lv_if_eq (tgt := 17) hx hb dX1_mark_5 (by decide) (fun c_3 => ?_) (fun c_3 => ?_)
  · have c_3 := bI_eq hw_2 c_3
    refine lv_iconst (v := (-1)) hx hb dX1_mark_17 (by decide) ?_
    exact W.iret (v := (-1)) hx hb hr (fun t ht hW => ⟨⟨(-1), (J, E), rfl, (if_pos (fun h => c_3 h.1)).symm, by rw [ht]; exact hP, va_K.moved hW.alike hK, hD⟩, hS.F ht⟩) hS.2.2 dX1_mark_18
  · have c_3 := bI_ne hw_2 c_3
    refine lv_iload_n hx hb dX1_mark_8 rfl (lv_at hl 2 rfl) ?_
    refine lv_iconst (v := 1) hx hb dX1_mark_9 (by decide) ?_
    refine lv_iconst (v := 4) hx hb dX1_mark_10 (by decide) ?_
    refine y_rS (As := [.int w, .int 1, .int 4]) (rest := []) ⟨hx, hb, hml, hown, hts⟩ hK (ws := []) (fun _ _ h => by cases h) (metX1_in l G d w 1 4) (va_cwS 3 hts (lw_S q994 q995 q39 q996) rfl rfl rfl (by decide +kernel) ⟨Nat.le_of_ble_eq_true rfl, Nat.le_of_ble_eq_true rfl⟩) rfl hl.1 rfl (lv_room (Nat.le_of_ble_eq_true rfl)) dX1_mark_11 ⟨Nat.le_of_ble_eq_true rfl, Nat.le_of_ble_eq_true rfl⟩ (fun r_4 hr_5 => ?_)
    refine lv_if_ne (tgt := 19) hx hb dX1_mark_14 (by decide) (fun c_6 => ?_) (fun c_6 => ?_)
    · have c_6 := bI_ne hr_5 c_6
      obtain ⟨q, hq, rfl⟩ := inR_p (n := n) (by omega) c_3
      refine lv_aload_n hx hb dX1_mark_19 rfl (lv_at hl 0 rfl) ?_
      refine va_get (D := G) (ci := 1) (v := .ref (b 14)) (C := RX1) (T := TX1) (N := 33) hx hb hts in_X1 hown hK hP 0 rfl rfl 14 (Nat.le_of_ble_eq_true rfl) (hts _ q900) (fun _ h9 => h9) rfl dX1_mark_20 ?_
      refine lv_iload_n hx hb dX1_mark_23 rfl (lv_at hl 1 rfl) ?_
      refine y_iald (N := q) (f := E 14) hx hb hK hP 10 0 rfl rfl rfl (by omega) (by decide) dX1_mark_24 ?_
      refine lv_iload_n hx hb dX1_mark_25 rfl (lv_at hl 2 rfl) ?_
      refine lv_icmp_eq (tgt := 35) hx hb dX1_mark_26 (by decide) (fun c_7 => ?_) (fun c_7 => ?_)
      · refine lv_iload_n hx hb dX1_mark_35 rfl (lv_at hl 2 rfl) ?_
        refine lv_iconst (v := 3) hx hb dX1_mark_36 (by decide) ?_
        refine lv_icmp_lt (tgt := 68) hx hb dX1_mark_37 (by decide) (fun c_8 => ?_) (fun c_8 => ?_)
        · refine lv_iconst (v := 0) hx hb dX1_mark_68 (by decide) ?_
          refine lv_istore_n (lv' := [(3, .int 0), (0, .ref (b 0)), (1, .int (nI q)), (2, .int w)]) hx hb dX1_mark_69 rfl hl (Nat.le_of_ble_eq_true rfl) rfl (fun ls hl => ?_)
          refine lv_iconst (v := 0) hx hb dX1_mark_70 (by decide) ?_
          refine lv_istore (lv' := [(4, .int 0), (3, .int 0), (0, .ref (b 0)), (1, .int (nI q)), (2, .int w)]) hx hb dX1_mark_71 hl (Nat.le_of_ble_eq_true rfl) rfl (fun ls hl => ?_)
          have lp_9 : ∀ (fu : Nat) (i : Nat) (sm : Int32) (hi : i ≤ n) (hm : n < i + fu) (hs : sm = sumR (fun z => if markB (pM E) q w z then 1 else 0) i) (ls : Array Slot) (hl : lv_has ls 6 [(4, .int (nI i)), (3, .int sm), (0, .ref (b 0)), (1, .int (nI q)), (2, .int w)]), W p l e (headSpec (ws_ yX1_mark cX1_mark 6 (some FieldType.int)) ({ frames := 2, cells := 0, slots := 0, locals := 43 } : Room)).room s m ([.ref (b 0), .int (nI q), .int w] : List Value).toArray below meth c s.heap [] 0 0 (MQ below (va_Qi (fun (r : Int32) (u : MS) => (r, u) = markOp (pM E) n (J, E) (nI q) w) (fun (u : MS) t => bW G d A (MW b u.1 u.2 d) t) A) ([.ref (b 0), .int (nI q), .int w] : List Value).toArray s 0 0 A) (F0 m 73 ls []) := by
            intro fu
            induction fu with
            | zero =>
              intro i sm hi hm hs ls hl
              exfalso; omega
            | succ fu ih_lp_9 =>
              intro i sm hi hm hs ls hl
              refine lv_iload hx hb dX1_mark_73 (lv_at hl 0 rfl) ?_
              refine lv_aload_n hx hb dX1_mark_75 rfl (lv_at hl 2 rfl) ?_
              refine va_get (D := G) (ci := 1) (v := .int (J 13)) (C := RX1) (T := TX1) (N := 33) hx hb hts in_X1 hown hK hP 0 rfl rfl 13 (Nat.le_of_ble_eq_true rfl) (hts _ q899) (fun _ h9 => h9) rfl dX1_mark_76 ?_
              refine y_top (y := nI n) hn ?_
              refine lv_icmp_ge (tgt := 169) hx hb dX1_mark_79 (by decide) (fun c_10 => ?_) (fun c_10 => ?_)
              · have c_10 : n ≤ i := (nI_leI (a := n) (b := i) (by omega) (by omega)).mp c_10
                refine lv_iload_n hx hb dX1_mark_169 rfl (lv_at hl 1 rfl) ?_
                exact W.iret (v := sm) hx hb hr (fun t ht hW => ⟨⟨sm, (J, E), rfl, by unfold markOp; rw [if_neg (not_not_intro ⟨c_3, c_6⟩), cl_nI (show q < 2 ^ 31 by omega), if_neg (not_not_intro c_7), markV, if_neg (fun h => by rw [h] at c_8; exact absurd c_8 (by decide)), if_neg (fun h => by rw [h] at c_8; exact absurd c_8 (by decide)), hs, show i = n by omega], by rw [ht]; exact hP, va_K.moved hW.alike hK, hD⟩, hS.F ht⟩) hS.2.2 dX1_mark_170
              · have c_10 : ¬ n ≤ i := fun h => c_10 ((nI_leI (a := n) (b := i) (by omega) (by omega)).mpr h)
                have hj_11 : ∀ (x : Int32) (hxx : x = bI (if w = 1 then E 18 i = E 19 q else E 19 i = E 18 q)), W p l e (headSpec (ws_ yX1_mark cX1_mark 6 (some FieldType.int)) ({ frames := 2, cells := 0, slots := 0, locals := 43 } : Room)).room s m ([.ref (b 0), .int (nI q), .int w] : List Value).toArray below meth c s.heap [] 0 0 (MQ below (va_Qi (fun (r : Int32) (u : MS) => (r, u) = markOp (pM E) n (J, E) (nI q) w) (fun (u : MS) t => bW G d A (MW b u.1 u.2 d) t) A) ([.ref (b 0), .int (nI q), .int w] : List Value).toArray s 0 0 A) (F0 m 132 ls [.int x]) := by
                  intro x hxx
                  refine lv_istore (lv' := [(5, .int x), (4, .int (nI i)), (3, .int sm), (0, .ref (b 0)), (1, .int (nI q)), (2, .int w)]) hx hb dX1_mark_132 hl (Nat.le_of_ble_eq_true rfl) rfl (fun ls hl => ?_)
                  refine lv_iload_n hx hb dX1_mark_134 rfl (lv_at hl 2 rfl) ?_
                  have hj_12 : ∀ (y : Int32) (hyy : y = if markB (pM E) q w i then 1 else 0), W p l e (headSpec (ws_ yX1_mark cX1_mark 6 (some FieldType.int)) ({ frames := 2, cells := 0, slots := 0, locals := 43 } : Room)).room s m ([.ref (b 0), .int (nI q), .int w] : List Value).toArray below meth c s.heap [] 0 0 (MQ below (va_Qi (fun (r : Int32) (u : MS) => (r, u) = markOp (pM E) n (J, E) (nI q) w) (fun (u : MS) t => bW G d A (MW b u.1 u.2 d) t) A) ([.ref (b 0), .int (nI q), .int w] : List Value).toArray s 0 0 A) (F0 m 161 ls [.int y, .int sm]) := by
                    intro y hyy
                    refine lv_iadd hx hb dX1_mark_161 ?_
                    refine lv_istore_n (lv' := [(3, .int (sm + y)), (5, .int x), (4, .int (nI i)), (0, .ref (b 0)), (1, .int (nI q)), (2, .int w)]) hx hb dX1_mark_162 rfl hl (Nat.le_of_ble_eq_true rfl) rfl (fun ls hl => ?_)
                    refine lv_iinc (v := nI (i + 1)) (lv' := [(4, .int (nI (i + 1))), (3, .int (sm + y)), (5, .int x), (0, .ref (b 0)), (1, .int (nI q)), (2, .int w)]) hx hb dX1_mark_163 hl (k := 2) rfl (nI_add i 1) (Nat.le_of_ble_eq_true rfl) rfl (fun ls hl => ?_)
                    refine lv_goto (tgt := 73) hx hb dX1_mark_166 (by decide) ?_
                    exact ih_lp_9 (i + 1) _ (by omega) (by omega) (by rw [hs, hyy]; rfl) ls (lv_sub hl [0, 1, 3, 4, 5] rfl)
                  refine lv_iload hx hb dX1_mark_135 (lv_at hl 1 rfl) ?_
                  refine lv_iload_n hx hb dX1_mark_137 rfl (lv_at hl 4 rfl) ?_
                  refine lv_icmp_eq (tgt := 160) hx hb dX1_mark_138 (by decide) (fun c_13 => ?_) (fun c_13 => ?_)
                  · have c_13 : i = q := (nI_eq (a := i) (b := q) (by omega) (by omega)).mp c_13
                    refine lv_iconst (v := 0) hx hb dX1_mark_160 (by decide) ?_
                    exact hj_12 0 (if_neg (fun h => h.1 c_13)).symm
                  · have c_13 : ¬ i = q := fun h => c_13 ((nI_eq (a := i) (b := q) (by omega) (by omega)).mpr h)
                    refine lv_aload_n hx hb dX1_mark_141 rfl (lv_at hl 3 rfl) ?_
                    refine va_get (D := G) (ci := 1) (v := .ref (b 21)) (C := RX1) (T := TX1) (N := 33) hx hb hts in_X1 hown hK hP 0 rfl rfl 21 (Nat.le_of_ble_eq_true rfl) (hts _ q907) (fun _ h9 => h9) rfl dX1_mark_142 ?_
                    refine lv_iload hx hb dX1_mark_145 (lv_at hl 1 rfl) ?_
                    refine y_zald (N := i) (f := E 21) hx hb hK hP 17 1 rfl rfl rfl (by omega) (by decide) dX1_mark_147 ?_
                    refine lv_if_ne (tgt := 160) hx hb dX1_mark_148 (by decide) (fun c_14 => ?_) (fun c_14 => ?_)
                    · refine lv_iconst (v := 0) hx hb dX1_mark_160 (by decide) ?_
                      exact hj_12 0 (if_neg (fun h => c_14 h.2.1)).symm
                    · refine lv_iload hx hb dX1_mark_151 (lv_at hl 0 rfl) ?_
                      refine lv_if_eq (tgt := 160) hx hb dX1_mark_153 (by decide) (fun c_15 => ?_) (fun c_15 => ?_)
                      · have c_15 := bI_eq hxx c_15
                        refine lv_iconst (v := 0) hx hb dX1_mark_160 (by decide) ?_
                        exact hj_12 0 (if_neg (fun h => c_15 h.2.2)).symm
                      · have c_15 := bI_ne hxx c_15
                        refine lv_iconst (v := 1) hx hb dX1_mark_156 (by decide) ?_
                        refine lv_goto (tgt := 161) hx hb dX1_mark_157 (by decide) ?_
                        exact hj_12 1 (if_pos ⟨c_13, c_14, c_15⟩).symm
                refine lv_iload_n hx hb dX1_mark_82 rfl (lv_at hl 4 rfl) ?_
                refine lv_iconst (v := 1) hx hb dX1_mark_83 (by decide) ?_
                refine lv_icmp_ne (tgt := 111) hx hb dX1_mark_84 (by decide) (fun c_16 => ?_) (fun c_16 => ?_)
                · refine lv_aload_n hx hb dX1_mark_111 rfl (lv_at hl 2 rfl) ?_
                  refine va_get (D := G) (ci := 1) (v := .ref (b 19)) (C := RX1) (T := TX1) (N := 33) hx hb hts in_X1 hown hK hP 0 rfl rfl 19 (Nat.le_of_ble_eq_true rfl) (hts _ q905) (fun _ h9 => h9) rfl dX1_mark_112 ?_
                  refine lv_iload hx hb dX1_mark_115 (lv_at hl 0 rfl) ?_
                  refine y_iald (N := i) (f := E 19) hx hb hK hP 15 0 rfl rfl rfl (by omega) (by decide) dX1_mark_117 ?_
                  refine lv_aload_n hx hb dX1_mark_118 rfl (lv_at hl 2 rfl) ?_
                  refine va_get (D := G) (ci := 1) (v := .ref (b 18)) (C := RX1) (T := TX1) (N := 33) hx hb hts in_X1 hown hK hP 0 rfl rfl 18 (Nat.le_of_ble_eq_true rfl) (hts _ q904) (fun _ h9 => h9) rfl dX1_mark_119 ?_
                  refine lv_iload_n hx hb dX1_mark_122 rfl (lv_at hl 3 rfl) ?_
                  refine y_iald (N := q) (f := E 18) hx hb hK hP 14 0 rfl rfl rfl (by omega) (by decide) dX1_mark_123 ?_
                  refine lv_icmp_ne (tgt := 131) hx hb dX1_mark_124 (by decide) (fun c_17 => ?_) (fun c_17 => ?_)
                  · refine lv_iconst (v := 0) hx hb dX1_mark_131 (by decide) ?_
                    exact hj_11 0 (bI_f (by rw [if_neg c_16]; exact c_17)).symm
                  · refine lv_iconst (v := 1) hx hb dX1_mark_127 (by decide) ?_
                    refine lv_goto (tgt := 132) hx hb dX1_mark_128 (by decide) ?_
                    exact hj_11 1 (bI_t (by rw [if_neg c_16]; exact c_17)).symm
                · refine lv_aload_n hx hb dX1_mark_87 rfl (lv_at hl 2 rfl) ?_
                  refine va_get (D := G) (ci := 1) (v := .ref (b 18)) (C := RX1) (T := TX1) (N := 33) hx hb hts in_X1 hown hK hP 0 rfl rfl 18 (Nat.le_of_ble_eq_true rfl) (hts _ q904) (fun _ h9 => h9) rfl dX1_mark_88 ?_
                  refine lv_iload hx hb dX1_mark_91 (lv_at hl 0 rfl) ?_
                  refine y_iald (N := i) (f := E 18) hx hb hK hP 14 0 rfl rfl rfl (by omega) (by decide) dX1_mark_93 ?_
                  refine lv_aload_n hx hb dX1_mark_94 rfl (lv_at hl 2 rfl) ?_
                  refine va_get (D := G) (ci := 1) (v := .ref (b 19)) (C := RX1) (T := TX1) (N := 33) hx hb hts in_X1 hown hK hP 0 rfl rfl 19 (Nat.le_of_ble_eq_true rfl) (hts _ q905) (fun _ h9 => h9) rfl dX1_mark_95 ?_
                  refine lv_iload_n hx hb dX1_mark_98 rfl (lv_at hl 3 rfl) ?_
                  refine y_iald (N := q) (f := E 19) hx hb hK hP 15 0 rfl rfl rfl (by omega) (by decide) dX1_mark_99 ?_
                  refine lv_icmp_ne (tgt := 107) hx hb dX1_mark_100 (by decide) (fun c_18 => ?_) (fun c_18 => ?_)
                  · refine lv_iconst (v := 0) hx hb dX1_mark_107 (by decide) ?_
                    refine lv_goto (tgt := 132) hx hb dX1_mark_108 (by decide) ?_
                    exact hj_11 0 (bI_f (by rw [if_pos c_16]; exact c_18)).symm
                  · refine lv_iconst (v := 1) hx hb dX1_mark_103 (by decide) ?_
                    refine lv_goto (tgt := 132) hx hb dX1_mark_104 (by decide) ?_
                    exact hj_11 1 (bI_t (by rw [if_pos c_16]; exact c_18)).symm
          exact lp_9 17 0 _ (by omega) (by omega) rfl ls (lv_sub hl [0, 1, 2, 3, 4] rfl)
        · refine lv_iload_n hx hb dX1_mark_40 rfl (lv_at hl 2 rfl) ?_
          refine lv_iconst (v := 3) hx hb dX1_mark_41 (by decide) ?_
          refine lv_icmp_ne (tgt := 61) hx hb dX1_mark_42 (by decide) (fun c_19 => ?_) (fun c_19 => ?_)
          · refine lv_aload_n hx hb dX1_mark_61 rfl (lv_at hl 0 rfl) ?_
            refine va_get (D := G) (ci := 1) (v := .ref (b 20)) (C := RX1) (T := TX1) (N := 33) hx hb hts in_X1 hown hK hP 0 rfl rfl 20 (Nat.le_of_ble_eq_true rfl) (hts _ q906) (fun _ h9 => h9) rfl dX1_mark_62 ?_
            refine lv_iload_n hx hb dX1_mark_65 rfl (lv_at hl 1 rfl) ?_
            refine y_iald (N := q) (f := E 20) hx hb hK hP 16 0 rfl rfl rfl (by omega) (by decide) dX1_mark_66 ?_
            have w4 : w = 4 := by
              have a1 := Int32.le_iff_toInt_le.mp (Int32.not_lt.mp c_8)
              have a2 := Int32.le_iff_toInt_le.mp c_6.2
              have a3 : ¬ w.toInt = 3 := fun h => c_19 (Int32.toInt_inj.mp h)
              have e3 : (3 : Int32).toInt = 3 := by decide
              have e4 : (4 : Int32).toInt = 4 := by decide
              exact Int32.toInt_inj.mp (by omega)
            exact W.iret (v := (E 20) q) hx hb hr (fun t ht hW => ⟨⟨(E 20) q, (J, E), rfl, by unfold markOp; rw [if_neg (not_not_intro ⟨c_3, c_6⟩), cl_nI (show q < 2 ^ 31 by omega), if_neg (not_not_intro c_7), markV, if_neg c_19, if_pos w4], by rw [ht]; exact hP, va_K.moved hW.alike hK, hD⟩, hS.F ht⟩) hS.2.2 dX1_mark_67
          · refine lv_aload_n hx hb dX1_mark_45 rfl (lv_at hl 0 rfl) ?_
            refine va_get (D := G) (ci := 1) (v := .ref (b 17)) (C := RX1) (T := TX1) (N := 33) hx hb hts in_X1 hown hK hP 0 rfl rfl 17 (Nat.le_of_ble_eq_true rfl) (hts _ q903) (fun _ h9 => h9) rfl dX1_mark_46 ?_
            refine lv_iload_n hx hb dX1_mark_49 rfl (lv_at hl 1 rfl) ?_
            refine y_iald (N := q) (f := E 17) hx hb hK hP 13 0 rfl rfl rfl (by omega) (by decide) dX1_mark_50 ?_
            refine lv_aload_n hx hb dX1_mark_51 rfl (lv_at hl 0 rfl) ?_
            refine va_get (D := G) (ci := 1) (v := .ref (b 15)) (C := RX1) (T := TX1) (N := 33) hx hb hts in_X1 hown hK hP 0 rfl rfl 15 (Nat.le_of_ble_eq_true rfl) (hts _ q901) (fun _ h9 => h9) rfl dX1_mark_52 ?_
            refine lv_iload_n hx hb dX1_mark_55 rfl (lv_at hl 1 rfl) ?_
            refine y_iald (N := q) (f := E 15) hx hb hK hP 11 0 rfl rfl rfl (by omega) (by decide) dX1_mark_56 ?_
            refine lv_idiv hx hb dX1_mark_57 (hh _ hq) ?_
            refine lv_goto (tgt := 67) hx hb dX1_mark_58 (by decide) ?_
            exact W.iret (v := ((E 17) q) / ((E 15) q)) hx hb hr (fun t ht hW => ⟨⟨((E 17) q) / ((E 15) q), (J, E), rfl, by unfold markOp; rw [if_neg (not_not_intro ⟨c_3, c_6⟩), cl_nI (show q < 2 ^ 31 by omega), if_neg (not_not_intro c_7), markV, if_pos c_19], by rw [ht]; exact hP, va_K.moved hW.alike hK, hD⟩, hS.F ht⟩) hS.2.2 dX1_mark_67
      · refine lv_aload_n hx hb dX1_mark_29 rfl (lv_at hl 0 rfl) ?_
        refine lv_iconst (v := 3) hx hb dX1_mark_30 (by decide) ?_
        refine y_cVi (As := [.int 3]) (rest := []) (ci := 1) (q0 := 0) ⟨hx, hb, hml, hown, hts⟩ hK hP hD hS hA (metX1_meets l G d s.heap.size b J E 3 (by omega)) (cwV 1 hts (lw_V q1005 q1007 qs19 q39 q1008) rfl rfl rfl (by decide +kernel) ⟨Nat.le_of_ble_eq_true rfl, Nat.le_of_ble_eq_true rfl⟩) rfl rfl rfl hl.1 rfl (lv_room (Nat.le_of_ble_eq_true rfl)) dX1_mark_31 ⟨Nat.le_of_ble_eq_true rfl, Nat.le_of_ble_eq_true rfl⟩ (fun r_20 u_22 H locs hw_21 hP hD hS => ?_)
        obtain ⟨rfl, rfl⟩ := hw_21
        exact W.iret (v := (-3)) hx hb hr (fun t ht hW => ⟨⟨(-3), (uFind (J, E) 3), rfl, by unfold markOp; rw [if_neg (not_not_intro ⟨c_3, c_6⟩), cl_nI (show q < 2 ^ 31 by omega), if_pos c_7], by rw [ht]; exact hP, va_K.moved hW.alike hK, hD⟩, hS.F ht⟩) hS.2.2 dX1_mark_34
    · have c_6 := bI_eq hr_5 c_6
      refine lv_iconst (v := (-1)) hx hb dX1_mark_17 (by decide) ?_
      exact W.iret (v := (-1)) hx hb hr (fun t ht hW => ⟨⟨(-1), (J, E), rfl, (if_pos (fun h => c_6 h.2)).symm, by rw [ht]; exact hP, va_K.moved hW.alike hK, hD⟩, hS.F ht⟩) hS.2.2 dX1_mark_18
set_option maxHeartbeats 400000 in
set_option maxRecDepth 100000 in
theorem metX1_recall (l : Launch) (G : va_G) (d : Nat → Nat) (sz : Nat) (b : Nat → Nat) (J : Nat → Int32) (E : Nat → Nat → Int32) (n : Nat) (v w : Int32) (hn16 : n ≤ 16) (hn : J 13 = nI n) (h01 : w = 0 ∨ w = 1) : Met l yX1_recall (ws_ yX1_recall cX1_recall 4 (some FieldType.int)) ({ frames := 2, cells := 0, slots := 0, locals := 43 } : Room) (va_Pc [.ref (b 0), .int v, .int w] (pW G d sz (MW b J E d))) (va_Qi (fun (r : Int32) (u : MS) => (r, u) = mRecall n (J, E) v w) (fun (u : MS) t => bW G d (va_A (MW b J E d) sz) (MW b u.1 u.2 d) t) (va_A (MW b J E d) sz)) 0 0 (va_A (MW b J E d) sz) := by
  refine Met.ofW (cc := cX1_recall) (maxL := 4) (ret := (some FieldType.int)) (by decide) rfl ?_
  intro p e s m args below meth c s₁ B hml hv
  obtain ⟨rfl, hsz, hP, hK, hD0⟩ := hv
  have hx := B.exec
  have hb := B.bytes
  have hr := B.returns
  have hts := atoms_spec (ws := (ws_ yX1_recall cX1_recall 4 (some FieldType.int))) B.pre
  have hts : ∀ w ∈ lw_all, w.before _ s = true := fun w h => hts w (List.mem_cons_of_mem _ h)
  have hown : s.vm.findClass RX1 = some m.cls := findClass_of_methodNamed B.named
  have hlocks := B.notSynchronized
  subst hsz
  have hD := hD0.self (sz := s.heap.size)
  generalize hAe : va_A (MW b J E d) s.heap.size = A at hD ⊢
  have hA : ∀ q : Nat, s.heap.size ≤ q → A q := fun q h => by rw [← hAe]; exact Or.inr h
  have hS : va_S A s.heap s.heap [] := va_S.rf
  have hl := lv_entry ([.ref (b 0), .int v, .int w]) (n := 4) (Nat.le_of_ble_eq_true rfl)
  rw [lg_entry_eq]
  generalize (lg_sl ([.ref (b 0), .int v, .int w]) ++ List.replicate (4 - (lg_sl ([.ref (b 0), .int v, .int w])).length) Slot.unset).toArray = ls at hl ⊢
  have hl : lv_has ls 4 [(0, .ref (b 0)), (1, .int v), (2, .int w)] := hl
  have hP : va_P G CLS (MW b J E d) s.heap := hP
  refine lv_aload_n hx hb dX1_recall_0 rfl (lv_at hl 0 rfl) ?_
  refine lv_iload_n hx hb dX1_recall_1 rfl (lv_at hl 1 rfl) ?_
  refine y_rV (As := [.int v]) (rest := []) (ci := 1) (q0 := 0) ⟨hx, hb, hml, hown, hts⟩ hK hP (metX1_isPart l G d b J E n v hn16 hn) (cwV 1 hts (lw_V q1081 q1083 qs25 q39 q1084) rfl rfl rfl (by decide +kernel) ⟨Nat.le_of_ble_eq_true rfl, Nat.le_of_ble_eq_true rfl⟩) rfl rfl rfl hl.1 rfl (lv_room (Nat.le_of_ble_eq_true rfl)) dX1_recall_2 ⟨Nat.le_of_ble_eq_true rfl, Nat.le_of_ble_eq_true rfl⟩ (fun r_1 hw_2 => ?_)
  refine lv_if_ne (tgt := 10) hx hb dX1_recall_5 (by decide) (fun c_3 => ?_) (fun c_3 => ?_)
  · have c_3 := bI_ne hw_2 c_3
    obtain ⟨q, hq, rfl⟩ := inR_p (n := n) (by omega) c_3
    have hj_4 : ∀ (x : Int32) (hxx : x = bI (¬ E 21 q = 0)), W p l e (headSpec (ws_ yX1_recall cX1_recall 4 (some FieldType.int)) ({ frames := 2, cells := 0, slots := 0, locals := 43 } : Room)).room s m ([.ref (b 0), .int (nI q), .int w] : List Value).toArray below meth c s.heap [] 0 0 (MQ below (va_Qi (fun (r : Int32) (u : MS) => (r, u) = mRecall n (J, E) (nI q) w) (fun (u : MS) t => bW G d A (MW b u.1 u.2 d) t) A) ([.ref (b 0), .int (nI q), .int w] : List Value).toArray s 0 0 A) (F0 m 24 ls [.int x]) := by
      intro x hxx
      refine lv_istore_n (lv' := [(3, .int x), (0, .ref (b 0)), (1, .int (nI q)), (2, .int w)]) hx hb dX1_recall_24 rfl hl (Nat.le_of_ble_eq_true rfl) rfl (fun ls hl => ?_)
      refine lv_aload_n hx hb dX1_recall_25 rfl (lv_at hl 1 rfl) ?_
      refine va_get (D := G) (ci := 1) (v := .ref (b 21)) (C := RX1) (T := TX1) (N := 33) hx hb hts in_X1 hown hK hP 0 rfl rfl 21 (Nat.le_of_ble_eq_true rfl) (hts _ q907) (fun _ h9 => h9) rfl dX1_recall_26 ?_
      refine lv_iload_n hx hb dX1_recall_29 rfl (lv_at hl 2 rfl) ?_
      refine lv_iload_n hx hb dX1_recall_30 rfl (lv_at hl 3 rfl) ?_
      refine y_zast (N := q) (f := E 21) hx hb hK hP hD hS 17 1 rfl rfl rfl (by omega) (by decide) h01 dX1_recall_31 (fun H locs hP hD hS => ?_)
      have hP : va_P G CLS (MW b J (va_up E 21 (upd (E 21) q w)) d) H := hP
      have hD : va_D A (MW b J (va_up E 21 (upd (E 21) q w)) d) := hD
      refine lv_iload_n hx hb dX1_recall_32 rfl (lv_at hl 0 rfl) ?_
      exact W.iret (v := x) hx hb hr (fun t ht hW => ⟨⟨x, (J, va_up E 21 (upd (E 21) q w)), rfl, by unfold mRecall; rw [if_pos c_3, cl_nI (show q < 2 ^ 31 by omega), hxx], by rw [ht]; exact hP, va_K.moved hW.alike hK, hD⟩, hS.F ht⟩) hS.2.2 dX1_recall_33
    refine lv_aload_n hx hb dX1_recall_10 rfl (lv_at hl 0 rfl) ?_
    refine va_get (D := G) (ci := 1) (v := .ref (b 21)) (C := RX1) (T := TX1) (N := 33) hx hb hts in_X1 hown hK hP 0 rfl rfl 21 (Nat.le_of_ble_eq_true rfl) (hts _ q907) (fun _ h9 => h9) rfl dX1_recall_11 ?_
    refine lv_iload_n hx hb dX1_recall_14 rfl (lv_at hl 1 rfl) ?_
    refine y_zald (N := q) (f := E 21) hx hb hK hP 17 1 rfl rfl rfl (by omega) (by decide) dX1_recall_15 ?_
    refine lv_if_eq (tgt := 23) hx hb dX1_recall_16 (by decide) (fun c_5 => ?_) (fun c_5 => ?_)
    · refine lv_iconst (v := 0) hx hb dX1_recall_23 (by decide) ?_
      exact hj_4 0 (bI_f (not_not_intro c_5)).symm
    · refine lv_iconst (v := 1) hx hb dX1_recall_19 (by decide) ?_
      refine lv_goto (tgt := 24) hx hb dX1_recall_20 (by decide) ?_
      exact hj_4 1 (bI_t c_5).symm
  · have c_3 := bI_eq hw_2 c_3
    refine lv_iconst (v := (-1)) hx hb dX1_recall_8 (by decide) ?_
    exact W.iret (v := (-1)) hx hb hr (fun t ht hW => ⟨⟨(-1), (J, E), rfl, (if_neg c_3).symm, by rw [ht]; exact hP, va_K.moved hW.alike hK, hD⟩, hS.F ht⟩) hS.2.2 dX1_recall_9
set_option maxHeartbeats 400000 in
set_option maxRecDepth 100000 in
theorem metX1_barsBelow (l : Launch) (G : va_G) (d : Nat → Nat) (b : Nat → Nat) (J : Nat → Int32) (E : Nat → Nat → Int32) (a w : Nat) (ha : a < 16) (hw : w < 16) : Met l yX1_barsBelow (ws_ yX1_barsBelow cX1_barsBelow 3 (some FieldType.int)) ({ frames := 0, cells := 0, slots := 0, locals := 0 } : Room) (va_Pc [.ref (b 0), .int (nI a), .int (nI w)] (pR G d (MW b J E d))) (vp_Si (fun x => x = barsV (pM E) a w)) 0 0 (fun _ => False) := by
  refine Met.ofW (cc := cX1_barsBelow) (maxL := 3) (ret := (some FieldType.int)) (by decide) rfl ?_
  intro p e s m args below meth c s₁ B hml hv
  obtain ⟨rfl, hP, hK⟩ := hv
  have hx := B.exec
  have hb := B.bytes
  have hr := B.returns
  have hts := atoms_spec (ws := (ws_ yX1_barsBelow cX1_barsBelow 3 (some FieldType.int))) B.pre
  have hts : ∀ w ∈ lw_all, w.before _ s = true := fun w h => hts w (List.mem_cons_of_mem _ h)
  have hown : s.vm.findClass RX1 = some m.cls := findClass_of_methodNamed B.named
  have hlocks := B.notSynchronized
  have hl := lv_entry ([.ref (b 0), .int (nI a), .int (nI w)]) (n := 3) (Nat.le_of_ble_eq_true rfl)
  rw [lg_entry_eq]
  generalize (lg_sl ([.ref (b 0), .int (nI a), .int (nI w)]) ++ List.replicate (3 - (lg_sl ([.ref (b 0), .int (nI a), .int (nI w)])).length) Slot.unset).toArray = ls at hl ⊢
  have hl : lv_has ls 3 [(0, .ref (b 0)), (1, .int (nI a)), (2, .int (nI w))] := hl
  have hj_1 : ∀ (x0 : Int32) (y0 : x0 = if E 19 a = E 18 w then 0 else 1), W p l e (headSpec (ws_ yX1_barsBelow cX1_barsBelow 3 (some FieldType.int)) ({ frames := 0, cells := 0, slots := 0, locals := 0 } : Room)).room s m ([.ref (b 0), .int (nI a), .int (nI w)] : List Value).toArray below meth c s.heap [] 0 0 (MQ below (vp_Si (fun x => x = barsV (pM E) a w)) ([.ref (b 0), .int (nI a), .int (nI w)] : List Value).toArray s 0 0 (fun _ => False)) (F0 m 20 ls [.int x0]) := by
    intro x0 y0
    refine lv_aload_n hx hb dX1_barsBelow_20 rfl (lv_at hl 0 rfl) ?_
    have hj_2 : ∀ (x1 : Int32) (y1 : x1 = if ¬ E 21 a = 0 ∨ ¬ E 21 w = 0 then 2 else 0), W p l e (headSpec (ws_ yX1_barsBelow cX1_barsBelow 3 (some FieldType.int)) ({ frames := 0, cells := 0, slots := 0, locals := 0 } : Room)).room s m ([.ref (b 0), .int (nI a), .int (nI w)] : List Value).toArray below meth c s.heap [] 0 0 (MQ below (vp_Si (fun x => x = barsV (pM E) a w)) ([.ref (b 0), .int (nI a), .int (nI w)] : List Value).toArray s 0 0 (fun _ => False)) (F0 m 43 ls [.int x1, .int x0]) := by
      intro x1 y1
      refine lv_iadd hx hb dX1_barsBelow_43 ?_
      refine lv_aload_n hx hb dX1_barsBelow_44 rfl (lv_at hl 0 rfl) ?_
      have hj_3 : ∀ (x2 : Int32) (y2 : x2 = if E 14 a = 3 ∨ E 14 w = 1 then 4 else 0), W p l e (headSpec (ws_ yX1_barsBelow cX1_barsBelow 3 (some FieldType.int)) ({ frames := 0, cells := 0, slots := 0, locals := 0 } : Room)).room s m ([.ref (b 0), .int (nI a), .int (nI w)] : List Value).toArray below meth c s.heap [] 0 0 (MQ below (vp_Si (fun x => x = barsV (pM E) a w)) ([.ref (b 0), .int (nI a), .int (nI w)] : List Value).toArray s 0 0 (fun _ => False)) (F0 m 69 ls [.int x2, .int (x0 + x1)]) := by
        intro x2 y2
        refine lv_iadd hx hb dX1_barsBelow_69 ?_
        refine lv_aload_n hx hb dX1_barsBelow_70 rfl (lv_at hl 0 rfl) ?_
        have hj_4 : ∀ (x3 : Int32) (y3 : x3 = if E 14 a = 2 ∧ E 14 w = 2 then 8 else 0), W p l e (headSpec (ws_ yX1_barsBelow cX1_barsBelow 3 (some FieldType.int)) ({ frames := 0, cells := 0, slots := 0, locals := 0 } : Room)).room s m ([.ref (b 0), .int (nI a), .int (nI w)] : List Value).toArray below meth c s.heap [] 0 0 (MQ below (vp_Si (fun x => x = barsV (pM E) a w)) ([.ref (b 0), .int (nI a), .int (nI w)] : List Value).toArray s 0 0 (fun _ => False)) (F0 m 96 ls [.int x3, .int ((x0 + x1) + x2)]) := by
          intro x3 y3
          refine lv_iadd hx hb dX1_barsBelow_96 ?_
          exact W.iret (v := ((x0 + x1) + x2) + x3) hx hb hr (fun t ht hW => ⟨((x0 + x1) + x2) + x3, rfl, by rw [y0, y1, y2, y3]; rfl, ht⟩) (fun q h => by cases h) dX1_barsBelow_97
        refine va_get (D := G) (ci := 1) (v := .ref (b 14)) (C := RX1) (T := TX1) (N := 33) hx hb hts in_X1 hown hK hP 0 rfl rfl 14 (Nat.le_of_ble_eq_true rfl) (hts _ q900) (fun _ h9 => h9) rfl dX1_barsBelow_71 ?_
        refine lv_iload_n hx hb dX1_barsBelow_74 rfl (lv_at hl 1 rfl) ?_
        refine y_iald (N := a) (f := E 14) hx hb hK hP 10 0 rfl rfl rfl (by omega) (by decide) dX1_barsBelow_75 ?_
        refine lv_iconst (v := 2) hx hb dX1_barsBelow_76 (by decide) ?_
        refine lv_icmp_ne (tgt := 95) hx hb dX1_barsBelow_77 (by decide) (fun c_5 => ?_) (fun c_5 => ?_)
        · refine lv_iconst (v := 0) hx hb dX1_barsBelow_95 (by decide) ?_
          exact hj_4 _ (if_neg (fun h => c_5 h.1)).symm
        · refine lv_aload_n hx hb dX1_barsBelow_80 rfl (lv_at hl 0 rfl) ?_
          refine va_get (D := G) (ci := 1) (v := .ref (b 14)) (C := RX1) (T := TX1) (N := 33) hx hb hts in_X1 hown hK hP 0 rfl rfl 14 (Nat.le_of_ble_eq_true rfl) (hts _ q900) (fun _ h9 => h9) rfl dX1_barsBelow_81 ?_
          refine lv_iload_n hx hb dX1_barsBelow_84 rfl (lv_at hl 2 rfl) ?_
          refine y_iald (N := w) (f := E 14) hx hb hK hP 10 0 rfl rfl rfl (by omega) (by decide) dX1_barsBelow_85 ?_
          refine lv_iconst (v := 2) hx hb dX1_barsBelow_86 (by decide) ?_
          refine lv_icmp_ne (tgt := 95) hx hb dX1_barsBelow_87 (by decide) (fun c_6 => ?_) (fun c_6 => ?_)
          · refine lv_iconst (v := 0) hx hb dX1_barsBelow_95 (by decide) ?_
            exact hj_4 _ (if_neg (fun h => c_6 h.2)).symm
          · refine lv_bipush (v := 8) hx hb dX1_barsBelow_90 (by decide +kernel) ?_
            refine lv_goto (tgt := 96) hx hb dX1_barsBelow_92 (by decide) ?_
            exact hj_4 _ (if_pos ⟨c_5, c_6⟩).symm
      refine va_get (D := G) (ci := 1) (v := .ref (b 14)) (C := RX1) (T := TX1) (N := 33) hx hb hts in_X1 hown hK hP 0 rfl rfl 14 (Nat.le_of_ble_eq_true rfl) (hts _ q900) (fun _ h9 => h9) rfl dX1_barsBelow_45 ?_
      refine lv_iload_n hx hb dX1_barsBelow_48 rfl (lv_at hl 1 rfl) ?_
      refine y_iald (N := a) (f := E 14) hx hb hK hP 10 0 rfl rfl rfl (by omega) (by decide) dX1_barsBelow_49 ?_
      refine lv_iconst (v := 3) hx hb dX1_barsBelow_50 (by decide) ?_
      refine lv_icmp_eq (tgt := 64) hx hb dX1_barsBelow_51 (by decide) (fun c_7 => ?_) (fun c_7 => ?_)
      · refine lv_iconst (v := 4) hx hb dX1_barsBelow_64 (by decide) ?_
        refine lv_goto (tgt := 69) hx hb dX1_barsBelow_65 (by decide) ?_
        exact hj_3 _ (if_pos (Or.inl c_7)).symm
      · refine lv_aload_n hx hb dX1_barsBelow_54 rfl (lv_at hl 0 rfl) ?_
        refine va_get (D := G) (ci := 1) (v := .ref (b 14)) (C := RX1) (T := TX1) (N := 33) hx hb hts in_X1 hown hK hP 0 rfl rfl 14 (Nat.le_of_ble_eq_true rfl) (hts _ q900) (fun _ h9 => h9) rfl dX1_barsBelow_55 ?_
        refine lv_iload_n hx hb dX1_barsBelow_58 rfl (lv_at hl 2 rfl) ?_
        refine y_iald (N := w) (f := E 14) hx hb hK hP 10 0 rfl rfl rfl (by omega) (by decide) dX1_barsBelow_59 ?_
        refine lv_iconst (v := 1) hx hb dX1_barsBelow_60 (by decide) ?_
        refine lv_icmp_ne (tgt := 68) hx hb dX1_barsBelow_61 (by decide) (fun c_8 => ?_) (fun c_8 => ?_)
        · refine lv_iconst (v := 0) hx hb dX1_barsBelow_68 (by decide) ?_
          exact hj_3 _ (if_neg (fun h => h.elim c_7 c_8)).symm
        · refine lv_iconst (v := 4) hx hb dX1_barsBelow_64 (by decide) ?_
          refine lv_goto (tgt := 69) hx hb dX1_barsBelow_65 (by decide) ?_
          exact hj_3 _ (if_pos (Or.inr c_8)).symm
    refine va_get (D := G) (ci := 1) (v := .ref (b 21)) (C := RX1) (T := TX1) (N := 33) hx hb hts in_X1 hown hK hP 0 rfl rfl 21 (Nat.le_of_ble_eq_true rfl) (hts _ q907) (fun _ h9 => h9) rfl dX1_barsBelow_21 ?_
    refine lv_iload_n hx hb dX1_barsBelow_24 rfl (lv_at hl 1 rfl) ?_
    refine y_zald (N := a) (f := E 21) hx hb hK hP 17 1 rfl rfl rfl (by omega) (by decide) dX1_barsBelow_25 ?_
    refine lv_if_ne (tgt := 38) hx hb dX1_barsBelow_26 (by decide) (fun c_9 => ?_) (fun c_9 => ?_)
    · refine lv_iconst (v := 2) hx hb dX1_barsBelow_38 (by decide) ?_
      refine lv_goto (tgt := 43) hx hb dX1_barsBelow_39 (by decide) ?_
      exact hj_2 _ (if_pos (Or.inl c_9)).symm
    · refine lv_aload_n hx hb dX1_barsBelow_29 rfl (lv_at hl 0 rfl) ?_
      refine va_get (D := G) (ci := 1) (v := .ref (b 21)) (C := RX1) (T := TX1) (N := 33) hx hb hts in_X1 hown hK hP 0 rfl rfl 21 (Nat.le_of_ble_eq_true rfl) (hts _ q907) (fun _ h9 => h9) rfl dX1_barsBelow_30 ?_
      refine lv_iload_n hx hb dX1_barsBelow_33 rfl (lv_at hl 2 rfl) ?_
      refine y_zald (N := w) (f := E 21) hx hb hK hP 17 1 rfl rfl rfl (by omega) (by decide) dX1_barsBelow_34 ?_
      refine lv_if_eq (tgt := 42) hx hb dX1_barsBelow_35 (by decide) (fun c_10 => ?_) (fun c_10 => ?_)
      · refine lv_iconst (v := 0) hx hb dX1_barsBelow_42 (by decide) ?_
        exact hj_2 _ (if_neg (fun h => h.elim (fun q => q c_9) (fun q => q c_10))).symm
      · refine lv_iconst (v := 2) hx hb dX1_barsBelow_38 (by decide) ?_
        refine lv_goto (tgt := 43) hx hb dX1_barsBelow_39 (by decide) ?_
        exact hj_2 _ (if_pos (Or.inr c_10)).symm
  refine lv_aload_n hx hb dX1_barsBelow_0 rfl (lv_at hl 0 rfl) ?_
  refine va_get (D := G) (ci := 1) (v := .ref (b 19)) (C := RX1) (T := TX1) (N := 33) hx hb hts in_X1 hown hK hP 0 rfl rfl 19 (Nat.le_of_ble_eq_true rfl) (hts _ q905) (fun _ h9 => h9) rfl dX1_barsBelow_1 ?_
  refine lv_iload_n hx hb dX1_barsBelow_4 rfl (lv_at hl 1 rfl) ?_
  refine y_iald (N := a) (f := E 19) hx hb hK hP 15 0 rfl rfl rfl (by omega) (by decide) dX1_barsBelow_5 ?_
  refine lv_aload_n hx hb dX1_barsBelow_6 rfl (lv_at hl 0 rfl) ?_
  refine va_get (D := G) (ci := 1) (v := .ref (b 18)) (C := RX1) (T := TX1) (N := 33) hx hb hts in_X1 hown hK hP 0 rfl rfl 18 (Nat.le_of_ble_eq_true rfl) (hts _ q904) (fun _ h9 => h9) rfl dX1_barsBelow_7 ?_
  refine lv_iload_n hx hb dX1_barsBelow_10 rfl (lv_at hl 2 rfl) ?_
  refine y_iald (N := w) (f := E 18) hx hb hK hP 14 0 rfl rfl rfl (by omega) (by decide) dX1_barsBelow_11 ?_
  refine lv_icmp_ne (tgt := 19) hx hb dX1_barsBelow_12 (by decide) (fun c_11 => ?_) (fun c_11 => ?_)
  · refine lv_iconst (v := 1) hx hb dX1_barsBelow_19 (by decide) ?_
    exact hj_1 _ (if_neg c_11).symm
  · refine lv_iconst (v := 0) hx hb dX1_barsBelow_15 (by decide) ?_
    refine lv_goto (tgt := 20) hx hb dX1_barsBelow_16 (by decide) ?_
    exact hj_1 _ (if_pos c_11).symm
set_option maxHeartbeats 400000 in
set_option maxRecDepth 100000 in
theorem metX1_unfit (l : Launch) (G : va_G) (d : Nat → Nat) (b : Nat → Nat) (J : Nat → Int32) (E : Nat → Nat → Int32) (n : Nat) (v w : Int32) (hn16 : n ≤ 16) (hn : J 13 = nI n) : Met l yX1_unfit (ws_ yX1_unfit cX1_unfit 3 (some FieldType.int)) ({ frames := 2, cells := 0, slots := 0, locals := 43 } : Room) (va_Pc [.ref (b 0), .int v, .int w] (pR G d (MW b J E d))) (vp_Si (fun x => x = unfitOp (pM E) n v w)) 0 0 (fun _ => False) := by
  refine Met.ofW (cc := cX1_unfit) (maxL := 3) (ret := (some FieldType.int)) (by decide) rfl ?_
  intro p e s m args below meth c s₁ B hml hv
  obtain ⟨rfl, hP, hK⟩ := hv
  have hx := B.exec
  have hb := B.bytes
  have hr := B.returns
  have hts := atoms_spec (ws := (ws_ yX1_unfit cX1_unfit 3 (some FieldType.int))) B.pre
  have hts : ∀ w ∈ lw_all, w.before _ s = true := fun w h => hts w (List.mem_cons_of_mem _ h)
  have hown : s.vm.findClass RX1 = some m.cls := findClass_of_methodNamed B.named
  have hlocks := B.notSynchronized
  have hl := lv_entry ([.ref (b 0), .int v, .int w]) (n := 3) (Nat.le_of_ble_eq_true rfl)
  rw [lg_entry_eq]
  generalize (lg_sl ([.ref (b 0), .int v, .int w]) ++ List.replicate (3 - (lg_sl ([.ref (b 0), .int v, .int w])).length) Slot.unset).toArray = ls at hl ⊢
  have hl : lv_has ls 3 [(0, .ref (b 0)), (1, .int v), (2, .int w)] := hl
  refine lv_aload_n hx hb dX1_unfit_0 rfl (lv_at hl 0 rfl) ?_
  refine lv_iload_n hx hb dX1_unfit_1 rfl (lv_at hl 1 rfl) ?_
  refine y_rV (As := [.int v]) (rest := []) (ci := 1) (q0 := 0) ⟨hx, hb, hml, hown, hts⟩ hK hP (metX1_isPart l G d b J E n v hn16 hn) (cwV 1 hts (lw_V q1081 q1083 qs25 q39 q1084) rfl rfl rfl (by decide +kernel) ⟨Nat.le_of_ble_eq_true rfl, Nat.le_of_ble_eq_true rfl⟩) rfl rfl rfl hl.1 rfl (lv_room (Nat.le_of_ble_eq_true rfl)) dX1_unfit_2 ⟨Nat.le_of_ble_eq_true rfl, Nat.le_of_ble_eq_true rfl⟩ (fun r_1 hw_2 => ?_)
  refine lv_if_eq (tgt := 21) hx hb dX1_unfit_5 (by decide) (fun c_3 => ?_) (fun c_3 => ?_)
  · have c_3 := bI_eq hw_2 c_3
    refine lv_iconst (v := (-1)) hx hb dX1_unfit_21 (by decide) ?_
    refine lv_goto (tgt := 31) hx hb dX1_unfit_22 (by decide) ?_
    exact W.iret (v := (-1)) hx hb hr (fun t ht hW => ⟨(-1), rfl, (if_neg (fun h => c_3 (h.1))).symm, ht⟩) (fun q h => by cases h) dX1_unfit_31
  · have c_3 := bI_ne hw_2 c_3
    refine lv_aload_n hx hb dX1_unfit_8 rfl (lv_at hl 0 rfl) ?_
    refine lv_iload_n hx hb dX1_unfit_9 rfl (lv_at hl 2 rfl) ?_
    refine y_rV (As := [.int w]) (rest := []) (ci := 1) (q0 := 0) ⟨hx, hb, hml, hown, hts⟩ hK hP (metX1_isPart l G d b J E n w hn16 hn) (cwV 1 hts (lw_V q1081 q1083 qs25 q39 q1084) rfl rfl rfl (by decide +kernel) ⟨Nat.le_of_ble_eq_true rfl, Nat.le_of_ble_eq_true rfl⟩) rfl rfl rfl hl.1 rfl (lv_room (Nat.le_of_ble_eq_true rfl)) dX1_unfit_10 ⟨Nat.le_of_ble_eq_true rfl, Nat.le_of_ble_eq_true rfl⟩ (fun r_4 hw_5 => ?_)
    refine lv_if_eq (tgt := 21) hx hb dX1_unfit_13 (by decide) (fun c_6 => ?_) (fun c_6 => ?_)
    · have c_6 := bI_eq hw_5 c_6
      refine lv_iconst (v := (-1)) hx hb dX1_unfit_21 (by decide) ?_
      refine lv_goto (tgt := 31) hx hb dX1_unfit_22 (by decide) ?_
      exact W.iret (v := (-1)) hx hb hr (fun t ht hW => ⟨(-1), rfl, (if_neg (fun h => c_6 (h.2.1))).symm, ht⟩) (fun q h => by cases h) dX1_unfit_31
    · have c_6 := bI_ne hw_5 c_6
      refine lv_iload_n hx hb dX1_unfit_16 rfl (lv_at hl 1 rfl) ?_
      refine lv_iload_n hx hb dX1_unfit_17 rfl (lv_at hl 2 rfl) ?_
      refine lv_icmp_ne (tgt := 25) hx hb dX1_unfit_18 (by decide) (fun c_7 => ?_) (fun c_7 => ?_)
      · obtain ⟨q, hq, rfl⟩ := inR_p (n := n) (by omega) c_3
        obtain ⟨z, hz, rfl⟩ := inR_p (n := n) (by omega) c_6
        refine lv_aload_n hx hb dX1_unfit_25 rfl (lv_at hl 0 rfl) ?_
        refine lv_iload_n hx hb dX1_unfit_26 rfl (lv_at hl 1 rfl) ?_
        refine lv_iload_n hx hb dX1_unfit_27 rfl (lv_at hl 2 rfl) ?_
        refine y_rV (As := [.int (nI q), .int (nI z)]) (rest := []) (ci := 1) (q0 := 0) ⟨hx, hb, hml, hown, hts⟩ hK hP (metX1_barsBelow l G d b J E q z (by omega) (by omega)) (cwV 2 hts (lw_V q1101 q1103 qs27 q39 q1104) rfl rfl rfl (by decide +kernel) ⟨Nat.le_of_ble_eq_true rfl, Nat.le_of_ble_eq_true rfl⟩) rfl rfl rfl hl.1 rfl (lv_room (Nat.le_of_ble_eq_true rfl)) dX1_unfit_28 ⟨Nat.le_of_ble_eq_true rfl, Nat.le_of_ble_eq_true rfl⟩ (fun r_8 hw_9 => ?_)
        rw [hw_9]
        exact W.iret (v := barsV (pM E) q z) hx hb hr (fun t ht hW => ⟨barsV (pM E) q z, rfl, by unfold unfitOp; rw [if_pos ⟨c_3, c_6, c_7⟩, cl_nI (show q < 2 ^ 31 by omega), cl_nI (show z < 2 ^ 31 by omega)], ht⟩) (fun q h => by cases h) dX1_unfit_31
      · refine lv_iconst (v := (-1)) hx hb dX1_unfit_21 (by decide) ?_
        refine lv_goto (tgt := 31) hx hb dX1_unfit_22 (by decide) ?_
        exact W.iret (v := (-1)) hx hb hr (fun t ht hW => ⟨(-1), rfl, (if_neg (fun h => h.2.2 c_7)).symm, ht⟩) (fun q h => by cases h) dX1_unfit_31
