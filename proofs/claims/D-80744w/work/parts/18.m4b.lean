set_option maxHeartbeats 400000 in
set_option maxRecDepth 100000 in
theorem metX1_rule (l : Launch) (G : va_G) (d : Nat → Nat) (sz : Nat) (b : Nat → Nat) (J : Nat → Int32) (E : Nat → Nat → Int32) (a c0 p0 v : Int32) (n : Nat) (hn12 : n ≤ 12) (hn : J 6 = nI n) : Met l yX1_rule (ws_ yX1_rule cX1_rule 5 (some FieldType.int)) ({ frames := 2, cells := 0, slots := 0, locals := 42 } : Room) (va_Pc [.ref (b 0), .int a, .int c0, .int p0, .int v] (pW G d sz (MW b J E d))) (va_Qi (fun (r : Int32) (u : MS) => (r, u) = ruleOp 6 7 8 9 10 n (J, E) a c0 p0 v) (fun (u : MS) t => bW G d (va_A (MW b J E d) sz) (MW b u.1 u.2 d) t) (va_A (MW b J E d) sz)) 0 0 (va_A (MW b J E d) sz) := by
  refine Met.ofW (cc := cX1_rule) (maxL := 5) (ret := (some FieldType.int)) (by decide) rfl ?_
  intro p e s m args below meth c s₁ B hml hv
  obtain ⟨rfl, hsz, hP, hK, hD0⟩ := hv
  have hx := B.exec
  have hb := B.bytes
  have hr := B.returns
  have hts := atoms_spec (ws := (ws_ yX1_rule cX1_rule 5 (some FieldType.int))) B.pre
  have hts : ∀ w ∈ lw_all, w.before _ s = true := fun w h => hts w (List.mem_cons_of_mem _ h)
  have hown : s.vm.findClass RX1 = some m.cls := findClass_of_methodNamed B.named
  have hlocks := B.notSynchronized
  subst hsz
  have hD := hD0.self (sz := s.heap.size)
  generalize hAe : va_A (MW b J E d) s.heap.size = A at hD ⊢
  have hA : ∀ q : Nat, s.heap.size ≤ q → A q := fun q h => by rw [← hAe]; exact Or.inr h
  have hS : va_S A s.heap s.heap [] := va_S.rf
  have hl := lv_entry ([.ref (b 0), .int a, .int c0, .int p0, .int v]) (n := 5) (Nat.le_of_ble_eq_true rfl)
  rw [lg_entry_eq]
  generalize (lg_sl ([.ref (b 0), .int a, .int c0, .int p0, .int v]) ++ List.replicate (5 - (lg_sl ([.ref (b 0), .int a, .int c0, .int p0, .int v])).length) Slot.unset).toArray = ls at hl ⊢
  have hl : lv_has ls 5 [(0, .ref (b 0)), (1, .int a), (2, .int c0), (3, .int p0), (4, .int v)] := hl
  have hP : va_P G CLS (MW b J E d) s.heap := hP
  refine lv_iload_n hx hb dX1_rule_0 rfl (lv_at hl 1 rfl) ?_
  refine y_rS (As := [.int a]) (rest := []) ⟨hx, hb, hml, hown, hts⟩ hK (ws := []) (fun _ _ h => by cases h) (metX1_isRing l G d a) (va_cwS 1 hts (lw_S q1012 q1013 q39 q1014) rfl rfl rfl (by decide +kernel) ⟨Nat.le_of_ble_eq_true rfl, Nat.le_of_ble_eq_true rfl⟩) rfl hl.1 rfl (lv_room (Nat.le_of_ble_eq_true rfl)) dX1_rule_1 ⟨Nat.le_of_ble_eq_true rfl, Nat.le_of_ble_eq_true rfl⟩ (fun r_1 hr_2 => ?_)
  refine lv_if_eq (tgt := 40) hx hb dX1_rule_4 (by decide) (fun c_3 => ?_) (fun c_3 => ?_)
  · have c_3 := bI_eq hr_2 c_3
    refine lv_iconst (v := (-1)) hx hb dX1_rule_40 (by decide) ?_
    exact W.iret (v := (-1)) hx hb hr (fun t ht hW => ⟨⟨(-1), (J, E), rfl, (if_neg (fun h => c_3 (h.1))).symm, by rw [ht]; exact hP, va_K.moved hW.alike hK, hD⟩, hS.F ht⟩) hS.2.2 dX1_rule_41
  · have c_3 := bI_ne hr_2 c_3
    refine lv_iload_n hx hb dX1_rule_7 rfl (lv_at hl 2 rfl) ?_
    refine lv_iload_n hx hb dX1_rule_8 rfl (lv_at hl 1 rfl) ?_
    refine lv_bipush (v := 11) hx hb dX1_rule_9 (by decide +kernel) ?_
    refine y_rS (As := [.int c0, .int a, .int 11]) (rest := []) ⟨hx, hb, hml, hown, hts⟩ hK (ws := []) (fun _ _ h => by cases h) (metX1_in l G d c0 a 11) (va_cwS 3 hts (lw_S q994 q995 q39 q996) rfl rfl rfl (by decide +kernel) ⟨Nat.le_of_ble_eq_true rfl, Nat.le_of_ble_eq_true rfl⟩) rfl hl.1 rfl (lv_room (Nat.le_of_ble_eq_true rfl)) dX1_rule_11 ⟨Nat.le_of_ble_eq_true rfl, Nat.le_of_ble_eq_true rfl⟩ (fun r_4 hr_5 => ?_)
    refine lv_if_eq (tgt := 40) hx hb dX1_rule_14 (by decide) (fun c_6 => ?_) (fun c_6 => ?_)
    · have c_6 := bI_eq hr_5 c_6
      refine lv_iconst (v := (-1)) hx hb dX1_rule_40 (by decide) ?_
      exact W.iret (v := (-1)) hx hb hr (fun t ht hW => ⟨⟨(-1), (J, E), rfl, (if_neg (fun h => c_6 (h.2.1))).symm, by rw [ht]; exact hP, va_K.moved hW.alike hK, hD⟩, hS.F ht⟩) hS.2.2 dX1_rule_41
    · have c_6 := bI_ne hr_5 c_6
      refine lv_iload_n hx hb dX1_rule_17 rfl (lv_at hl 3 rfl) ?_
      refine lv_iconst (v := 1) hx hb dX1_rule_18 (by decide) ?_
      refine lv_sipush (v := 255) hx hb dX1_rule_19 (by decide +kernel) ?_
      refine y_rS (As := [.int p0, .int 1, .int 255]) (rest := []) ⟨hx, hb, hml, hown, hts⟩ hK (ws := []) (fun _ _ h => by cases h) (metX1_in l G d p0 1 255) (va_cwS 3 hts (lw_S q994 q995 q39 q996) rfl rfl rfl (by decide +kernel) ⟨Nat.le_of_ble_eq_true rfl, Nat.le_of_ble_eq_true rfl⟩) rfl hl.1 rfl (lv_room (Nat.le_of_ble_eq_true rfl)) dX1_rule_22 ⟨Nat.le_of_ble_eq_true rfl, Nat.le_of_ble_eq_true rfl⟩ (fun r_7 hr_8 => ?_)
      refine lv_if_eq (tgt := 40) hx hb dX1_rule_25 (by decide) (fun c_9 => ?_) (fun c_9 => ?_)
      · have c_9 := bI_eq hr_8 c_9
        refine lv_iconst (v := (-1)) hx hb dX1_rule_40 (by decide) ?_
        exact W.iret (v := (-1)) hx hb hr (fun t ht hW => ⟨⟨(-1), (J, E), rfl, (if_neg (fun h => c_9 (h.2.2.1))).symm, by rw [ht]; exact hP, va_K.moved hW.alike hK, hD⟩, hS.F ht⟩) hS.2.2 dX1_rule_41
      · have c_9 := bI_ne hr_8 c_9
        refine lv_iload hx hb dX1_rule_28 (lv_at hl 4 rfl) ?_
        refine lv_bipush (v := (-50)) hx hb dX1_rule_30 (by decide +kernel) ?_
        refine lv_bipush (v := 50) hx hb dX1_rule_32 (by decide +kernel) ?_
        refine y_rS (As := [.int v, .int (-50), .int 50]) (rest := []) ⟨hx, hb, hml, hown, hts⟩ hK (ws := []) (fun _ _ h => by cases h) (metX1_in l G d v (-50) 50) (va_cwS 3 hts (lw_S q994 q995 q39 q996) rfl rfl rfl (by decide +kernel) ⟨Nat.le_of_ble_eq_true rfl, Nat.le_of_ble_eq_true rfl⟩) rfl hl.1 rfl (lv_room (Nat.le_of_ble_eq_true rfl)) dX1_rule_34 ⟨Nat.le_of_ble_eq_true rfl, Nat.le_of_ble_eq_true rfl⟩ (fun r_10 hr_11 => ?_)
        refine lv_if_ne (tgt := 42) hx hb dX1_rule_37 (by decide) (fun c_12 => ?_) (fun c_12 => ?_)
        · have c_12 := bI_ne hr_11 c_12
          refine lv_aload_n hx hb dX1_rule_42 rfl (lv_at hl 0 rfl) ?_
          refine va_get (D := G) (ci := 1) (v := .int (J 6)) (C := RX1) (T := TX1) (N := 33) hx hb hts in_X1 hown hK hP 0 rfl rfl 6 (Nat.le_of_ble_eq_true rfl) (hts _ q892) (fun _ h9 => h9) rfl dX1_rule_43 ?_
          refine y_top (y := nI n) hn ?_
          refine lv_bipush (v := 12) hx hb dX1_rule_46 (by decide +kernel) ?_
          refine lv_icmp_ne (tgt := 54) hx hb dX1_rule_48 (by decide) (fun c_13 => ?_) (fun c_13 => ?_)
          · have c_13 : ¬ n = 12 := fun h => c_13 ((nI_eq (a := n) (b := 12) (by omega) (by omega)).mpr h)
            refine lv_aload_n hx hb dX1_rule_54 rfl (lv_at hl 0 rfl) ?_
            refine va_get (D := G) (ci := 1) (v := .ref (b 7)) (C := RX1) (T := TX1) (N := 33) hx hb hts in_X1 hown hK hP 0 rfl rfl 7 (Nat.le_of_ble_eq_true rfl) (hts _ q893) (fun _ h9 => h9) rfl dX1_rule_55 ?_
            refine lv_aload_n hx hb dX1_rule_58 rfl (lv_at hl 0 rfl) ?_
            refine va_get (D := G) (ci := 1) (v := .int (J 6)) (C := RX1) (T := TX1) (N := 33) hx hb hts in_X1 hown hK hP 0 rfl rfl 6 (Nat.le_of_ble_eq_true rfl) (hts _ q892) (fun _ h9 => h9) rfl dX1_rule_59 ?_
            refine y_top (y := nI n) hn ?_
            refine lv_iload_n hx hb dX1_rule_62 rfl (lv_at hl 1 rfl) ?_
            refine y_iast (N := n) (f := E 7) hx hb hK hP hD hS 5 0 rfl rfl rfl (by omega) (by decide) dX1_rule_63 (fun H locs hP hD hS => ?_)
            have hP : va_P G CLS (MW b J (va_up E 7 (upd (E 7) n a)) d) H := hP
            have hD : va_D A (MW b J (va_up E 7 (upd (E 7) n a)) d) := hD
            refine lv_aload_n hx hb dX1_rule_64 rfl (lv_at hl 0 rfl) ?_
            refine va_get (D := G) (ci := 1) (v := .ref (b 8)) (C := RX1) (T := TX1) (N := 33) hx hb hts in_X1 hown hK hP 0 rfl rfl 8 (Nat.le_of_ble_eq_true rfl) (hts _ q894) (fun _ h9 => h9) rfl dX1_rule_65 ?_
            refine lv_aload_n hx hb dX1_rule_68 rfl (lv_at hl 0 rfl) ?_
            refine va_get (D := G) (ci := 1) (v := .int (J 6)) (C := RX1) (T := TX1) (N := 33) hx hb hts in_X1 hown hK hP 0 rfl rfl 6 (Nat.le_of_ble_eq_true rfl) (hts _ q892) (fun _ h9 => h9) rfl dX1_rule_69 ?_
            refine y_top (y := nI n) hn ?_
            refine lv_iload_n hx hb dX1_rule_72 rfl (lv_at hl 2 rfl) ?_
            refine y_iast (N := n) (f := E 8) hx hb hK hP hD hS 6 0 rfl rfl rfl (by omega) (by decide) dX1_rule_73 (fun H locs hP hD hS => ?_)
            have hP : va_P G CLS (MW b J (va_up (va_up E 7 (upd (E 7) n a)) 8 (upd (E 8) n c0)) d) H := hP
            have hD : va_D A (MW b J (va_up (va_up E 7 (upd (E 7) n a)) 8 (upd (E 8) n c0)) d) := hD
            refine lv_aload_n hx hb dX1_rule_74 rfl (lv_at hl 0 rfl) ?_
            refine va_get (D := G) (ci := 1) (v := .ref (b 9)) (C := RX1) (T := TX1) (N := 33) hx hb hts in_X1 hown hK hP 0 rfl rfl 9 (Nat.le_of_ble_eq_true rfl) (hts _ q895) (fun _ h9 => h9) rfl dX1_rule_75 ?_
            refine lv_aload_n hx hb dX1_rule_78 rfl (lv_at hl 0 rfl) ?_
            refine va_get (D := G) (ci := 1) (v := .int (J 6)) (C := RX1) (T := TX1) (N := 33) hx hb hts in_X1 hown hK hP 0 rfl rfl 6 (Nat.le_of_ble_eq_true rfl) (hts _ q892) (fun _ h9 => h9) rfl dX1_rule_79 ?_
            refine y_top (y := nI n) hn ?_
            refine lv_iload_n hx hb dX1_rule_82 rfl (lv_at hl 3 rfl) ?_
            refine y_iast (N := n) (f := E 9) hx hb hK hP hD hS 7 0 rfl rfl rfl (by omega) (by decide) dX1_rule_83 (fun H locs hP hD hS => ?_)
            have hP : va_P G CLS (MW b J (va_up (va_up (va_up E 7 (upd (E 7) n a)) 8 (upd (E 8) n c0)) 9 (upd (E 9) n p0)) d) H := hP
            have hD : va_D A (MW b J (va_up (va_up (va_up E 7 (upd (E 7) n a)) 8 (upd (E 8) n c0)) 9 (upd (E 9) n p0)) d) := hD
            refine lv_aload_n hx hb dX1_rule_84 rfl (lv_at hl 0 rfl) ?_
            refine va_get (D := G) (ci := 1) (v := .ref (b 10)) (C := RX1) (T := TX1) (N := 33) hx hb hts in_X1 hown hK hP 0 rfl rfl 10 (Nat.le_of_ble_eq_true rfl) (hts _ q896) (fun _ h9 => h9) rfl dX1_rule_85 ?_
            refine lv_aload_n hx hb dX1_rule_88 rfl (lv_at hl 0 rfl) ?_
            refine va_get (D := G) (ci := 1) (v := .int (J 6)) (C := RX1) (T := TX1) (N := 33) hx hb hts in_X1 hown hK hP 0 rfl rfl 6 (Nat.le_of_ble_eq_true rfl) (hts _ q892) (fun _ h9 => h9) rfl dX1_rule_89 ?_
            refine y_top (y := nI n) hn ?_
            refine lv_iload hx hb dX1_rule_92 (lv_at hl 4 rfl) ?_
            refine y_iast (N := n) (f := E 10) hx hb hK hP hD hS 8 0 rfl rfl rfl (by omega) (by decide) dX1_rule_94 (fun H locs hP hD hS => ?_)
            have hP : va_P G CLS (MW b J (va_up (va_up (va_up (va_up E 7 (upd (E 7) n a)) 8 (upd (E 8) n c0)) 9 (upd (E 9) n p0)) 10 (upd (E 10) n v)) d) H := hP
            have hD : va_D A (MW b J (va_up (va_up (va_up (va_up E 7 (upd (E 7) n a)) 8 (upd (E 8) n c0)) 9 (upd (E 9) n p0)) 10 (upd (E 10) n v)) d) := hD
            refine lv_aload_n hx hb dX1_rule_95 rfl (lv_at hl 0 rfl) ?_
            refine lv_dup hx hb dX1_rule_96 rfl ?_
            refine va_get (D := G) (ci := 1) (v := .int (J 6)) (C := RX1) (T := TX1) (N := 33) hx hb hts in_X1 hown hK hP 0 rfl rfl 6 (Nat.le_of_ble_eq_true rfl) (hts _ q892) (fun _ h9 => h9) rfl dX1_rule_97 ?_
            refine y_top (y := nI n) hn ?_
            refine lv_iconst (v := 1) hx hb dX1_rule_100 (by decide) ?_
            refine lv_iadd hx hb dX1_rule_101 ?_
            refine y_top (y := nI (n + 1)) (nI_add n 1) ?_
            refine va_put (D := G) (ci := 1) (v := .int (nI (n + 1))) (ty := .int) (C := RX1) (T := TX1) (N := 33) hx hb hts in_X1 tyX1 tyX1_ok nmX1 hown hK hP hD hS 0 rfl rfl 6 (Nat.le_of_ble_eq_true rfl) (hts _ q892) (fun _ h9 => h9) rfl (by decide +kernel) rfl rfl (Nat.le_of_ble_eq_true rfl) dX1_rule_102 (fun H locs hP hD hS => ?_)
            have hP : va_P G CLS (MW b (upd J 6 (nI (n + 1))) (va_up (va_up (va_up (va_up E 7 (upd (E 7) n a)) 8 (upd (E 8) n c0)) 9 (upd (E 9) n p0)) 10 (upd (E 10) n v)) d) H := hP
            have hD : va_D A (MW b (upd J 6 (nI (n + 1))) (va_up (va_up (va_up (va_up E 7 (upd (E 7) n a)) 8 (upd (E 8) n c0)) 9 (upd (E 9) n p0)) 10 (upd (E 10) n v)) d) := hD
            refine lv_aload_n hx hb dX1_rule_105 rfl (lv_at hl 0 rfl) ?_
            refine va_get (D := G) (ci := 1) (v := .int (nI (n + 1))) (C := RX1) (T := TX1) (N := 33) hx hb hts in_X1 hown hK hP 0 rfl rfl 6 (Nat.le_of_ble_eq_true rfl) (hts _ q892) (fun _ h9 => h9) rfl dX1_rule_106 ?_
            refine lv_iconst (v := 1) hx hb dX1_rule_109 (by decide) ?_
            refine lv_isub hx hb dX1_rule_110 ?_
            refine y_top (y := nI ((n + 1) - 1)) (pk_sub (a := n + 1) (b := 1) (by omega)) ?_
            exact W.iret (v := nI ((n + 1) - 1)) hx hb hr (fun t ht hW => ⟨⟨nI ((n + 1) - 1), (upd J 6 (nI (n + 1)), va_up (va_up (va_up (va_up E 7 (upd (E 7) n a)) 8 (upd (E 8) n c0)) 9 (upd (E 9) n p0)) 10 (upd (E 10) n v)), rfl, by unfold ruleOp; rw [if_pos ⟨c_3, c_6, c_9, c_12⟩, if_neg c_13, Nat.add_sub_cancel], by rw [ht]; exact hP, va_K.moved hW.alike hK, hD⟩, hS.F ht⟩) hS.2.2 dX1_rule_111
          · have c_13 : n = 12 := (nI_eq (a := n) (b := 12) (by omega) (by omega)).mp c_13
            refine lv_bipush (v := (-2)) hx hb dX1_rule_51 (by decide +kernel) ?_
            exact W.iret (v := (-2)) hx hb hr (fun t ht hW => ⟨⟨(-2), (J, E), rfl, by unfold ruleOp; rw [if_pos ⟨c_3, c_6, c_9, c_12⟩, if_pos c_13], by rw [ht]; exact hP, va_K.moved hW.alike hK, hD⟩, hS.F ht⟩) hS.2.2 dX1_rule_53
        · have c_12 := bI_eq hr_11 c_12
          refine lv_iconst (v := (-1)) hx hb dX1_rule_40 (by decide) ?_
          exact W.iret (v := (-1)) hx hb hr (fun t ht hW => ⟨⟨(-1), (J, E), rfl, (if_neg (fun h => c_12 (h.2.2.2))).symm, by rw [ht]; exact hP, va_K.moved hW.alike hK, hD⟩, hS.F ht⟩) hS.2.2 dX1_rule_41
set_option maxHeartbeats 400000 in
set_option maxRecDepth 100000 in
theorem metX1_ply (l : Launch) (G : va_G) (d : Nat → Nat) (sz : Nat) (b : Nat → Nat) (J : Nat → Int32) (E : Nat → Nat → Int32) (x : Int32) (n : Nat) (hn8 : n ≤ 8) (hn : J 11 = nI n) : Met l yX1_ply (ws_ yX1_ply cX1_ply 2 (some FieldType.int)) ({ frames := 1, cells := 0, slots := 0, locals := 22 } : Room) (va_Pc [.ref (b 0), .int x] (pW G d sz (MW b J E d))) (va_Qi (fun (r : Int32) (u : MS) => (r, u) = plyOp 11 12 n (J, E) x) (fun (u : MS) t => bW G d (va_A (MW b J E d) sz) (MW b u.1 u.2 d) t) (va_A (MW b J E d) sz)) 0 0 (va_A (MW b J E d) sz) := by
  refine Met.ofW (cc := cX1_ply) (maxL := 2) (ret := (some FieldType.int)) (by decide) rfl ?_
  intro p e s m args below meth c s₁ B hml hv
  obtain ⟨rfl, hsz, hP, hK, hD0⟩ := hv
  have hx := B.exec
  have hb := B.bytes
  have hr := B.returns
  have hts := atoms_spec (ws := (ws_ yX1_ply cX1_ply 2 (some FieldType.int))) B.pre
  have hts : ∀ w ∈ lw_all, w.before _ s = true := fun w h => hts w (List.mem_cons_of_mem _ h)
  have hown : s.vm.findClass RX1 = some m.cls := findClass_of_methodNamed B.named
  have hlocks := B.notSynchronized
  subst hsz
  have hD := hD0.self (sz := s.heap.size)
  generalize hAe : va_A (MW b J E d) s.heap.size = A at hD ⊢
  have hA : ∀ q : Nat, s.heap.size ≤ q → A q := fun q h => by rw [← hAe]; exact Or.inr h
  have hS : va_S A s.heap s.heap [] := va_S.rf
  have hl := lv_entry ([.ref (b 0), .int x]) (n := 2) (Nat.le_of_ble_eq_true rfl)
  rw [lg_entry_eq]
  generalize (lg_sl ([.ref (b 0), .int x]) ++ List.replicate (2 - (lg_sl ([.ref (b 0), .int x])).length) Slot.unset).toArray = ls at hl ⊢
  have hl : lv_has ls 2 [(0, .ref (b 0)), (1, .int x)] := hl
  have hP : va_P G CLS (MW b J E d) s.heap := hP
  refine lv_iload_n hx hb dX1_ply_0 rfl (lv_at hl 1 rfl) ?_
  refine lv_iconst (v := 1) hx hb dX1_ply_1 (by decide) ?_
  refine lv_sipush (v := 1000) hx hb dX1_ply_2 (by decide +kernel) ?_
  refine y_rS (As := [.int x, .int 1, .int 1000]) (rest := []) ⟨hx, hb, hml, hown, hts⟩ hK (ws := []) (fun _ _ h => by cases h) (metX1_in l G d x 1 1000) (va_cwS 3 hts (lw_S q994 q995 q39 q996) rfl rfl rfl (by decide +kernel) ⟨Nat.le_of_ble_eq_true rfl, Nat.le_of_ble_eq_true rfl⟩) rfl hl.1 rfl (lv_room (Nat.le_of_ble_eq_true rfl)) dX1_ply_5 ⟨Nat.le_of_ble_eq_true rfl, Nat.le_of_ble_eq_true rfl⟩ (fun r_1 hr_2 => ?_)
  refine lv_if_eq (tgt := 33) hx hb dX1_ply_8 (by decide) (fun c_3 => ?_) (fun c_3 => ?_)
  · have c_3 := bI_eq hr_2 c_3
    refine lv_iconst (v := (-1)) hx hb dX1_ply_33 (by decide) ?_
    exact W.iret (v := (-1)) hx hb hr (fun t ht hW => ⟨⟨(-1), (J, E), rfl, (if_neg (fun h => c_3 h.1)).symm, by rw [ht]; exact hP, va_K.moved hW.alike hK, hD⟩, hS.F ht⟩) hS.2.2 dX1_ply_34
  · have c_3 := bI_ne hr_2 c_3
    have hj_4 : ∀ (ho : n = 0 ∨ E 12 (n - 1) < x), W p l e (headSpec (ws_ yX1_ply cX1_ply 2 (some FieldType.int)) ({ frames := 1, cells := 0, slots := 0, locals := 22 } : Room)).room s m ([.ref (b 0), .int x] : List Value).toArray below meth c s.heap [] 0 0 (MQ below (va_Qi (fun (r : Int32) (u : MS) => (r, u) = plyOp 11 12 n (J, E) x) (fun (u : MS) t => bW G d A (MW b u.1 u.2 d) t) A) ([.ref (b 0), .int x] : List Value).toArray s 0 0 A) (F0 m 35 ls []) := by
      intro ho
      refine lv_aload_n hx hb dX1_ply_35 rfl (lv_at hl 0 rfl) ?_
      refine va_get (D := G) (ci := 1) (v := .int (J 11)) (C := RX1) (T := TX1) (N := 33) hx hb hts in_X1 hown hK hP 0 rfl rfl 11 (Nat.le_of_ble_eq_true rfl) (hts _ q897) (fun _ h9 => h9) rfl dX1_ply_36 ?_
      refine y_top (y := nI n) hn ?_
      refine lv_bipush (v := 8) hx hb dX1_ply_39 (by decide +kernel) ?_
      refine lv_icmp_ne (tgt := 47) hx hb dX1_ply_41 (by decide) (fun c_5 => ?_) (fun c_5 => ?_)
      · have c_5 : ¬ n = 8 := fun h => c_5 ((nI_eq (a := n) (b := 8) (by omega) (by omega)).mpr h)
        refine lv_aload_n hx hb dX1_ply_47 rfl (lv_at hl 0 rfl) ?_
        refine va_get (D := G) (ci := 1) (v := .ref (b 12)) (C := RX1) (T := TX1) (N := 33) hx hb hts in_X1 hown hK hP 0 rfl rfl 12 (Nat.le_of_ble_eq_true rfl) (hts _ q898) (fun _ h9 => h9) rfl dX1_ply_48 ?_
        refine lv_aload_n hx hb dX1_ply_51 rfl (lv_at hl 0 rfl) ?_
        refine va_get (D := G) (ci := 1) (v := .int (J 11)) (C := RX1) (T := TX1) (N := 33) hx hb hts in_X1 hown hK hP 0 rfl rfl 11 (Nat.le_of_ble_eq_true rfl) (hts _ q897) (fun _ h9 => h9) rfl dX1_ply_52 ?_
        refine y_top (y := nI n) hn ?_
        refine lv_iload_n hx hb dX1_ply_55 rfl (lv_at hl 1 rfl) ?_
        refine y_iast (N := n) (f := E 12) hx hb hK hP hD hS 9 0 rfl rfl rfl (by omega) (by decide) dX1_ply_56 (fun H locs hP hD hS => ?_)
        have hP : va_P G CLS (MW b J (va_up E 12 (upd (E 12) n x)) d) H := hP
        have hD : va_D A (MW b J (va_up E 12 (upd (E 12) n x)) d) := hD
        refine lv_aload_n hx hb dX1_ply_57 rfl (lv_at hl 0 rfl) ?_
        refine lv_dup hx hb dX1_ply_58 rfl ?_
        refine va_get (D := G) (ci := 1) (v := .int (J 11)) (C := RX1) (T := TX1) (N := 33) hx hb hts in_X1 hown hK hP 0 rfl rfl 11 (Nat.le_of_ble_eq_true rfl) (hts _ q897) (fun _ h9 => h9) rfl dX1_ply_59 ?_
        refine y_top (y := nI n) hn ?_
        refine lv_iconst (v := 1) hx hb dX1_ply_62 (by decide) ?_
        refine lv_iadd hx hb dX1_ply_63 ?_
        refine y_top (y := nI (n + 1)) (nI_add n 1) ?_
        refine va_put (D := G) (ci := 1) (v := .int (nI (n + 1))) (ty := .int) (C := RX1) (T := TX1) (N := 33) hx hb hts in_X1 tyX1 tyX1_ok nmX1 hown hK hP hD hS 0 rfl rfl 11 (Nat.le_of_ble_eq_true rfl) (hts _ q897) (fun _ h9 => h9) rfl (by decide +kernel) rfl rfl (Nat.le_of_ble_eq_true rfl) dX1_ply_64 (fun H locs hP hD hS => ?_)
        have hP : va_P G CLS (MW b (upd J 11 (nI (n + 1))) (va_up E 12 (upd (E 12) n x)) d) H := hP
        have hD : va_D A (MW b (upd J 11 (nI (n + 1))) (va_up E 12 (upd (E 12) n x)) d) := hD
        refine lv_aload_n hx hb dX1_ply_67 rfl (lv_at hl 0 rfl) ?_
        refine va_get (D := G) (ci := 1) (v := .int (nI (n + 1))) (C := RX1) (T := TX1) (N := 33) hx hb hts in_X1 hown hK hP 0 rfl rfl 11 (Nat.le_of_ble_eq_true rfl) (hts _ q897) (fun _ h9 => h9) rfl dX1_ply_68 ?_
        exact W.iret (v := nI (n + 1)) hx hb hr (fun t ht hW => ⟨⟨nI (n + 1), (upd J 11 (nI (n + 1)), va_up E 12 (upd (E 12) n x)), rfl, by unfold plyOp; rw [if_pos ⟨c_3, ho⟩, if_neg c_5], by rw [ht]; exact hP, va_K.moved hW.alike hK, hD⟩, hS.F ht⟩) hS.2.2 dX1_ply_71
      · have c_5 : n = 8 := (nI_eq (a := n) (b := 8) (by omega) (by omega)).mp c_5
        refine lv_bipush (v := (-2)) hx hb dX1_ply_44 (by decide +kernel) ?_
        exact W.iret (v := (-2)) hx hb hr (fun t ht hW => ⟨⟨(-2), (J, E), rfl, by unfold plyOp; rw [if_pos ⟨c_3, ho⟩, if_pos c_5], by rw [ht]; exact hP, va_K.moved hW.alike hK, hD⟩, hS.F ht⟩) hS.2.2 dX1_ply_46
    refine lv_aload_n hx hb dX1_ply_11 rfl (lv_at hl 0 rfl) ?_
    refine va_get (D := G) (ci := 1) (v := .int (J 11)) (C := RX1) (T := TX1) (N := 33) hx hb hts in_X1 hown hK hP 0 rfl rfl 11 (Nat.le_of_ble_eq_true rfl) (hts _ q897) (fun _ h9 => h9) rfl dX1_ply_12 ?_
    refine y_top (y := nI n) hn ?_
    refine lv_if_le (tgt := 35) hx hb dX1_ply_15 (by decide) (fun c_6 => ?_) (fun c_6 => ?_)
    · have c_6 : n ≤ 0 := (nI_leI (a := n) (b := 0) (by omega) (by omega)).mp c_6
      exact hj_4 (Or.inl (by omega))
    · have c_6 : ¬ n ≤ 0 := fun h => c_6 ((nI_leI (a := n) (b := 0) (by omega) (by omega)).mpr h)
      refine lv_iload_n hx hb dX1_ply_18 rfl (lv_at hl 1 rfl) ?_
      refine lv_aload_n hx hb dX1_ply_19 rfl (lv_at hl 0 rfl) ?_
      refine va_get (D := G) (ci := 1) (v := .ref (b 12)) (C := RX1) (T := TX1) (N := 33) hx hb hts in_X1 hown hK hP 0 rfl rfl 12 (Nat.le_of_ble_eq_true rfl) (hts _ q898) (fun _ h9 => h9) rfl dX1_ply_20 ?_
      refine lv_aload_n hx hb dX1_ply_23 rfl (lv_at hl 0 rfl) ?_
      refine va_get (D := G) (ci := 1) (v := .int (J 11)) (C := RX1) (T := TX1) (N := 33) hx hb hts in_X1 hown hK hP 0 rfl rfl 11 (Nat.le_of_ble_eq_true rfl) (hts _ q897) (fun _ h9 => h9) rfl dX1_ply_24 ?_
      refine y_top (y := nI n) hn ?_
      refine lv_iconst (v := 1) hx hb dX1_ply_27 (by decide) ?_
      refine lv_isub hx hb dX1_ply_28 ?_
      refine y_top (y := nI (n - 1)) (pk_sub (a := n) (b := 1) (by omega)) ?_
      refine y_iald (N := n - 1) (f := E 12) hx hb hK hP 9 0 rfl rfl rfl (by omega) (by decide) dX1_ply_29 ?_
      refine lv_icmp_gt (tgt := 35) hx hb dX1_ply_30 (by decide) (fun c_7 => ?_) (fun c_7 => ?_)
      · exact hj_4 (Or.inr c_7)
      · refine lv_iconst (v := (-1)) hx hb dX1_ply_33 (by decide) ?_
        exact W.iret (v := (-1)) hx hb hr (fun t ht hW => ⟨⟨(-1), (J, E), rfl, (if_neg (fun h => by
            rcases h.2 with z | z
            · omega
            · exact c_7 z)).symm, by rw [ht]; exact hP, va_K.moved hW.alike hK, hD⟩, hS.F ht⟩) hS.2.2 dX1_ply_34
set_option maxHeartbeats 400000 in
set_option maxRecDepth 100000 in
theorem metX1_plies (l : Launch) (G : va_G) (d : Nat → Nat) (sz : Nat) (b : Nat → Nat) (J : Nat → Int32) (E : Nat → Nat → Int32) (v w : Int32) (n : Nat) (hn8 : n ≤ 8) (hn : J 11 = nI n) (hrow : ∀ k r, k < 4 → r < 12 → ¬ E 3 k = 0 → rOK (gM E k r)) : Met l yX1_plies (ws_ yX1_plies cX1_plies 8 (some FieldType.int)) ({ frames := 4, cells := 0, slots := 0, locals := 102 } : Room) (va_Pc [.ref (b 0), .int v, .int w] (pW G d sz (MW b J E d))) (va_Qi (fun (r : Int32) (u : MS) => (r, u) = mPlies n (J, E) v w) (fun (u : MS) t => bW G d (va_A (MW b J E d) sz) (MW b u.1 u.2 d) t) (va_A (MW b J E d) sz)) 0 0 (va_A (MW b J E d) sz) := by
  refine Met.ofW (cc := cX1_plies) (maxL := 8) (ret := (some FieldType.int)) (by decide) rfl ?_
  intro p e s m args below meth c s₁ B hml hv
  obtain ⟨rfl, hsz, hP, hK, hD0⟩ := hv
  have hx := B.exec
  have hb := B.bytes
  have hr := B.returns
  have hts := atoms_spec (ws := (ws_ yX1_plies cX1_plies 8 (some FieldType.int))) B.pre
  have hts : ∀ w ∈ lw_all, w.before _ s = true := fun w h => hts w (List.mem_cons_of_mem _ h)
  have hown : s.vm.findClass RX1 = some m.cls := findClass_of_methodNamed B.named
  have hlocks := B.notSynchronized
  subst hsz
  have hD := hD0.self (sz := s.heap.size)
  generalize hAe : va_A (MW b J E d) s.heap.size = A at hD ⊢
  have hA : ∀ q : Nat, s.heap.size ≤ q → A q := fun q h => by rw [← hAe]; exact Or.inr h
  have hS : va_S A s.heap s.heap [] := va_S.rf
  have hl := lv_entry ([.ref (b 0), .int v, .int w]) (n := 8) (Nat.le_of_ble_eq_true rfl)
  rw [lg_entry_eq]
  generalize (lg_sl ([.ref (b 0), .int v, .int w]) ++ List.replicate (8 - (lg_sl ([.ref (b 0), .int v, .int w])).length) Slot.unset).toArray = ls at hl ⊢
  have hl : lv_has ls 8 [(0, .ref (b 0)), (1, .int v), (2, .int w)] := hl
  have hP : va_P G CLS (MW b J E d) s.heap := hP
  refine lv_iload_n hx hb dX1_plies_0 rfl (lv_at hl 1 rfl) ?_
  refine y_rS (As := [.int v]) (rest := []) ⟨hx, hb, hml, hown, hts⟩ hK (ws := []) (fun _ _ h => by cases h) (metX1_isNumber l G d v) (va_cwS 1 hts (lw_S q991 q992 q39 q993) rfl rfl rfl (by decide +kernel) ⟨Nat.le_of_ble_eq_true rfl, Nat.le_of_ble_eq_true rfl⟩) rfl hl.1 rfl (lv_room (Nat.le_of_ble_eq_true rfl)) dX1_plies_1 ⟨Nat.le_of_ble_eq_true rfl, Nat.le_of_ble_eq_true rfl⟩ (fun r_1 hr_2 => ?_)
  refine lv_if_eq (tgt := 14) hx hb dX1_plies_4 (by decide) (fun c_3 => ?_) (fun c_3 => ?_)
  · have c_3 := bI_eq hr_2 c_3
    refine lv_iconst (v := (-1)) hx hb dX1_plies_14 (by decide) ?_
    exact W.iret (v := (-1)) hx hb hr (fun t ht hW => ⟨⟨(-1), (J, E), rfl, (if_pos (fun h => c_3 h.1)).symm, by rw [ht]; exact hP, va_K.moved hW.alike hK, hD⟩, hS.F ht⟩) hS.2.2 dX1_plies_15
  · have c_3 := bI_ne hr_2 c_3
    refine lv_iload_n hx hb dX1_plies_7 rfl (lv_at hl 2 rfl) ?_
    refine y_rS (As := [.int w]) (rest := []) ⟨hx, hb, hml, hown, hts⟩ hK (ws := []) (fun _ _ h => by cases h) (metX1_isNumber l G d w) (va_cwS 1 hts (lw_S q991 q992 q39 q993) rfl rfl rfl (by decide +kernel) ⟨Nat.le_of_ble_eq_true rfl, Nat.le_of_ble_eq_true rfl⟩) rfl hl.1 rfl (lv_room (Nat.le_of_ble_eq_true rfl)) dX1_plies_8 ⟨Nat.le_of_ble_eq_true rfl, Nat.le_of_ble_eq_true rfl⟩ (fun r_4 hr_5 => ?_)
    refine lv_if_ne (tgt := 16) hx hb dX1_plies_11 (by decide) (fun c_6 => ?_) (fun c_6 => ?_)
    · have c_6 := bI_ne hr_5 c_6
      obtain ⟨k, hk, rfl⟩ := inR_n (n := 3) (by decide) c_3
      obtain ⟨k2, hk2, rfl⟩ := inR_n (n := 3) (by decide) c_6
      refine lv_aload_n hx hb dX1_plies_16 rfl (lv_at hl 0 rfl) ?_
      refine va_get (D := G) (ci := 1) (v := .ref (b 3)) (C := RX1) (T := TX1) (N := 33) hx hb hts in_X1 hown hK hP 0 rfl rfl 3 (Nat.le_of_ble_eq_true rfl) (hts _ q889) (fun _ h9 => h9) rfl dX1_plies_17 ?_
      refine lv_iload_n hx hb dX1_plies_20 rfl (lv_at hl 1 rfl) ?_
      refine y_zald (N := k) (f := E 3) hx hb hK hP 2 1 rfl rfl rfl (by omega) (by decide) dX1_plies_21 ?_
      refine lv_if_eq (tgt := 34) hx hb dX1_plies_22 (by decide) (fun c_7 => ?_) (fun c_7 => ?_)
      · refine lv_aload_n hx hb dX1_plies_34 rfl (lv_at hl 0 rfl) ?_
        refine lv_iconst (v := 1) hx hb dX1_plies_35 (by decide) ?_
        refine y_cVi (As := [.int 1]) (rest := []) (ci := 1) (q0 := 0) ⟨hx, hb, hml, hown, hts⟩ hK hP hD hS hA (metX1_meets l G d s.heap.size b J E 1 (by omega)) (cwV 1 hts (lw_V q1005 q1007 qs19 q39 q1008) rfl rfl rfl (by decide +kernel) ⟨Nat.le_of_ble_eq_true rfl, Nat.le_of_ble_eq_true rfl⟩) rfl rfl rfl hl.1 rfl (lv_room (Nat.le_of_ble_eq_true rfl)) dX1_plies_36 ⟨Nat.le_of_ble_eq_true rfl, Nat.le_of_ble_eq_true rfl⟩ (fun r_8 u_10 H locs hw_9 hP hD hS => ?_)
        obtain ⟨rfl, rfl⟩ := hw_9
        exact W.iret (v := (-3)) hx hb hr (fun t ht hW => ⟨⟨(-3), (uFind (J, E) 1), rfl, by unfold mPlies; rw [if_neg (not_not_intro ⟨(show inR (nI k) 0 3 from nI_inR (n := 3) (by omega) (by decide)), (show inR (nI k2) 0 3 from nI_inR (n := 3) (by omega) (by decide))⟩), cl_nI (show k < 2 ^ 31 by omega), cl_nI (show k2 < 2 ^ 31 by omega), if_pos (fun h => h.1 c_7)], by rw [ht]; exact hP, va_K.moved hW.alike hK, hD⟩, hS.F ht⟩) hS.2.2 dX1_plies_39
      · refine lv_aload_n hx hb dX1_plies_25 rfl (lv_at hl 0 rfl) ?_
        refine va_get (D := G) (ci := 1) (v := .ref (b 3)) (C := RX1) (T := TX1) (N := 33) hx hb hts in_X1 hown hK hP 0 rfl rfl 3 (Nat.le_of_ble_eq_true rfl) (hts _ q889) (fun _ h9 => h9) rfl dX1_plies_26 ?_
        refine lv_iload_n hx hb dX1_plies_29 rfl (lv_at hl 2 rfl) ?_
        refine y_zald (N := k2) (f := E 3) hx hb hK hP 2 1 rfl rfl rfl (by omega) (by decide) dX1_plies_30 ?_
        refine lv_if_ne (tgt := 40) hx hb dX1_plies_31 (by decide) (fun c_11 => ?_) (fun c_11 => ?_)
        · refine lv_aload_n hx hb dX1_plies_40 rfl (lv_at hl 0 rfl) ?_
          refine lv_iload_n hx hb dX1_plies_41 rfl (lv_at hl 1 rfl) ?_
          refine lv_iconst (v := 0) hx hb dX1_plies_42 (by decide) ?_
          refine y_rV (As := [.int (nI k), .int 0]) (rest := []) (ci := 1) (q0 := 0) ⟨hx, hb, hml, hown, hts⟩ hK hP (metX1_allRoom l G d b J E k 0 (by omega) (fun r hr9 => hrow _ _ (by omega) hr9 c_7)) (cwV 2 hts (lw_V q1052 q1054 qs24 q39 q1055) rfl rfl rfl (by decide +kernel) ⟨Nat.le_of_ble_eq_true rfl, Nat.le_of_ble_eq_true rfl⟩) rfl rfl rfl hl.1 rfl (lv_room (Nat.le_of_ble_eq_true rfl)) dX1_plies_43 ⟨Nat.le_of_ble_eq_true rfl, Nat.le_of_ble_eq_true rfl⟩ (fun r_12 hw_13 => ?_)
          rw [hw_13]
          refine lv_istore_n (lv' := [(3, .int (allV (fun r => roomV (gM E k r)) 0)), (0, .ref (b 0)), (1, .int (nI k)), (2, .int (nI k2))]) hx hb dX1_plies_46 rfl hl (Nat.le_of_ble_eq_true rfl) rfl (fun ls hl => ?_)
          refine lv_iload_n hx hb dX1_plies_47 rfl (lv_at hl 0 rfl) ?_
          refine lv_if_ne (tgt := 57) hx hb dX1_plies_48 (by decide) (fun c_14 => ?_) (fun c_14 => ?_)
          · refine lv_ldc2 (v := 1000) hx hb hown (hts _ q1072) dX1_plies_57 ?_
            refine lv_iload_n hx hb dX1_plies_60 rfl (lv_at hl 0 rfl) ?_
            refine lv_aload_n hx hb dX1_plies_61 rfl (lv_at hl 1 rfl) ?_
            refine lv_iload_n hx hb dX1_plies_62 rfl (lv_at hl 3 rfl) ?_
            refine lv_iconst (v := 0) hx hb dX1_plies_63 (by decide) ?_
            refine y_rV (As := [.int (nI k2), .int 0]) (rest := [.int (allV (fun r => roomV (gM E k r)) 0), .long 1000]) (ci := 1) (q0 := 0) ⟨hx, hb, hml, hown, hts⟩ hK hP (metX1_allRoom l G d b J E k2 0 (by omega) (fun r hr9 => hrow _ _ (by omega) hr9 c_11)) (cwV 2 hts (lw_V q1052 q1054 qs24 q39 q1055) rfl rfl rfl (by decide +kernel) ⟨Nat.le_of_ble_eq_true rfl, Nat.le_of_ble_eq_true rfl⟩) rfl rfl rfl hl.1 rfl (lv_room (Nat.le_of_ble_eq_true rfl)) dX1_plies_64 ⟨Nat.le_of_ble_eq_true rfl, Nat.le_of_ble_eq_true rfl⟩ (fun r_15 hw_16 => ?_)
            rw [hw_16]
            refine lv_isub hx hb dX1_plies_67 ?_
            refine lv_i2l (v := ((allV (fun r => roomV (gM E k r)) 0) - (allV (fun r => roomV (gM E k2 r)) 0)).toInt64) hx hb dX1_plies_68 rfl ?_
            refine lv_lmul hx hb dX1_plies_69 ?_
            refine lv_iload_n hx hb dX1_plies_70 rfl (lv_at hl 0 rfl) ?_
            refine lv_i2l (v := (allV (fun r => roomV (gM E k r)) 0).toInt64) hx hb dX1_plies_71 rfl ?_
            refine lv_ldiv hx hb dX1_plies_72 (i64_ne0 c_14) ?_
            refine lv_lstore (lv' := [(4, .long ((1000 * (((allV (fun r => roomV (gM E k r)) 0) - (allV (fun r => roomV (gM E k2 r)) 0)).toInt64)) / ((allV (fun r => roomV (gM E k r)) 0).toInt64))), (3, .int (allV (fun r => roomV (gM E k r)) 0)), (0, .ref (b 0)), (1, .int (nI k)), (2, .int (nI k2))]) hx hb dX1_plies_73 hl (Nat.le_of_ble_eq_true rfl) rfl (fun ls hl => ?_)
            refine lv_iconst (v := 0) hx hb dX1_plies_75 (by decide) ?_
            refine lv_istore (lv' := [(6, .int 0), (4, .long ((1000 * (((allV (fun r => roomV (gM E k r)) 0) - (allV (fun r => roomV (gM E k2 r)) 0)).toInt64)) / ((allV (fun r => roomV (gM E k r)) 0).toInt64))), (3, .int (allV (fun r => roomV (gM E k r)) 0)), (0, .ref (b 0)), (1, .int (nI k)), (2, .int (nI k2))]) hx hb dX1_plies_76 hl (Nat.le_of_ble_eq_true rfl) rfl (fun ls hl => ?_)
            refine lv_iconst (v := 0) hx hb dX1_plies_78 (by decide) ?_
            refine lv_istore (lv' := [(7, .int 0), (6, .int 0), (4, .long ((1000 * (((allV (fun r => roomV (gM E k r)) 0) - (allV (fun r => roomV (gM E k2 r)) 0)).toInt64)) / ((allV (fun r => roomV (gM E k r)) 0).toInt64))), (3, .int (allV (fun r => roomV (gM E k r)) 0)), (0, .ref (b 0)), (1, .int (nI k)), (2, .int (nI k2))]) hx hb dX1_plies_79 hl (Nat.le_of_ble_eq_true rfl) rfl (fun ls hl => ?_)
            have lp_17 : ∀ (fu : Nat) (i : Nat) (sm : Int32) (hi : i ≤ n) (hm : n < i + fu) (hs : sm = sumR (fun q => if (E 12 q).toInt64 ≤ (1000 * ((allV (fun r => roomV (gM E k r)) 0) - (allV (fun r => roomV (gM E k2 r)) 0)).toInt64) / (allV (fun r => roomV (gM E k r)) 0).toInt64 then 1 else 0) i) (ls : Array Slot) (hl : lv_has ls 8 [(7, .int (nI i)), (6, .int sm), (4, .long ((1000 * (((allV (fun r => roomV (gM E k r)) 0) - (allV (fun r => roomV (gM E k2 r)) 0)).toInt64)) / ((allV (fun r => roomV (gM E k r)) 0).toInt64))), (0, .ref (b 0))]), W p l e (headSpec (ws_ yX1_plies cX1_plies 8 (some FieldType.int)) ({ frames := 4, cells := 0, slots := 0, locals := 102 } : Room)).room s m ([.ref (b 0), .int (nI k), .int (nI k2)] : List Value).toArray below meth c s.heap [] 0 0 (MQ below (va_Qi (fun (r : Int32) (u : MS) => (r, u) = mPlies n (J, E) (nI k) (nI k2)) (fun (u : MS) t => bW G d A (MW b u.1 u.2 d) t) A) ([.ref (b 0), .int (nI k), .int (nI k2)] : List Value).toArray s 0 0 A) (F0 m 81 ls []) := by
              intro fu
              induction fu with
              | zero =>
                intro i sm hi hm hs ls hl
                exfalso; omega
              | succ fu ih_lp_17 =>
                intro i sm hi hm hs ls hl
                refine lv_iload hx hb dX1_plies_81 (lv_at hl 0 rfl) ?_
                refine lv_aload_n hx hb dX1_plies_83 rfl (lv_at hl 3 rfl) ?_
                refine va_get (D := G) (ci := 1) (v := .int (J 11)) (C := RX1) (T := TX1) (N := 33) hx hb hts in_X1 hown hK hP 0 rfl rfl 11 (Nat.le_of_ble_eq_true rfl) (hts _ q897) (fun _ h9 => h9) rfl dX1_plies_84 ?_
                refine y_top (y := nI n) hn ?_
                refine lv_icmp_ge (tgt := 120) hx hb dX1_plies_87 (by decide) (fun c_18 => ?_) (fun c_18 => ?_)
                · have c_18 : n ≤ i := (nI_leI (a := n) (b := i) (by omega) (by omega)).mp c_18
                  refine lv_iload hx hb dX1_plies_120 (lv_at hl 1 rfl) ?_
                  exact W.iret (v := sm) hx hb hr (fun t ht hW => ⟨⟨sm, (J, E), rfl, by unfold mPlies; rw [if_neg (not_not_intro ⟨(show inR (nI k) 0 3 from nI_inR (n := 3) (by omega) (by decide)), (show inR (nI k2) 0 3 from nI_inR (n := 3) (by omega) (by decide))⟩), cl_nI (show k < 2 ^ 31 by omega), cl_nI (show k2 < 2 ^ 31 by omega), if_neg (not_not_intro ⟨c_7, c_11⟩), if_neg c_14, hs, show i = n by omega, pliesV], by rw [ht]; exact hP, va_K.moved hW.alike hK, hD⟩, hS.F ht⟩) hS.2.2 dX1_plies_122
                · have c_18 : ¬ n ≤ i := fun h => c_18 ((nI_leI (a := n) (b := i) (by omega) (by omega)).mpr h)
                  refine lv_iload hx hb dX1_plies_90 (lv_at hl 1 rfl) ?_
                  refine lv_aload_n hx hb dX1_plies_92 rfl (lv_at hl 3 rfl) ?_
                  refine va_get (D := G) (ci := 1) (v := .ref (b 12)) (C := RX1) (T := TX1) (N := 33) hx hb hts in_X1 hown hK hP 0 rfl rfl 12 (Nat.le_of_ble_eq_true rfl) (hts _ q898) (fun _ h9 => h9) rfl dX1_plies_93 ?_
                  refine lv_iload hx hb dX1_plies_96 (lv_at hl 0 rfl) ?_
                  refine y_iald (N := i) (f := E 12) hx hb hK hP 9 0 rfl rfl rfl (by omega) (by decide) dX1_plies_98 ?_
                  refine lv_i2l (v := ((E 12) i).toInt64) hx hb dX1_plies_99 rfl ?_
                  refine lv_lload hx hb dX1_plies_100 (lv_at hl 2 rfl) ?_
                  refine W.lcmp hx hb dX1_plies_102 ?_
                  refine lv_if_gt (tgt := 110) hx hb dX1_plies_103 (by decide) (fun c_19 => ?_) (fun c_19 => ?_)
                  · refine lv_iconst (v := 0) hx hb dX1_plies_110 (by decide) ?_
                    refine lv_iadd hx hb dX1_plies_111 ?_
                    refine lv_istore (lv' := [(6, .int (sm + 0)), (7, .int (nI i)), (4, .long ((1000 * (((allV (fun r => roomV (gM E k r)) 0) - (allV (fun r => roomV (gM E k2 r)) 0)).toInt64)) / ((allV (fun r => roomV (gM E k r)) 0).toInt64))), (0, .ref (b 0))]) hx hb dX1_plies_112 hl (Nat.le_of_ble_eq_true rfl) rfl (fun ls hl => ?_)
                    refine lv_iinc (v := nI (i + 1)) (lv' := [(7, .int (nI (i + 1))), (6, .int (sm + 0)), (4, .long ((1000 * (((allV (fun r => roomV (gM E k r)) 0) - (allV (fun r => roomV (gM E k2 r)) 0)).toInt64)) / ((allV (fun r => roomV (gM E k r)) 0).toInt64))), (0, .ref (b 0))]) hx hb dX1_plies_114 hl (k := 1) rfl (nI_add i 1) (Nat.le_of_ble_eq_true rfl) rfl (fun ls hl => ?_)
                    refine lv_goto (tgt := 81) hx hb dX1_plies_117 (by decide) ?_
                    have hle := Int64.not_le.mpr (lg_gt.mp c_19)
                    exact ih_lp_17 (i + 1) _ (by omega) (by omega) (by rw [hs]; show _ = sumR (fun q => if (E 12 q).toInt64 ≤ (1000 * ((allV (fun r => roomV (gM E k r)) 0) - (allV (fun r => roomV (gM E k2 r)) 0)).toInt64) / (allV (fun r => roomV (gM E k r)) 0).toInt64 then 1 else 0) i + (if (E 12 i).toInt64 ≤ (1000 * ((allV (fun r => roomV (gM E k r)) 0) - (allV (fun r => roomV (gM E k2 r)) 0)).toInt64) / (allV (fun r => roomV (gM E k r)) 0).toInt64 then 1 else 0); rw [if_neg hle]) ls (lv_sub hl [0, 1, 2, 3] rfl)
                  · refine lv_iconst (v := 1) hx hb dX1_plies_106 (by decide) ?_
                    refine lv_goto (tgt := 111) hx hb dX1_plies_107 (by decide) ?_
                    refine lv_iadd hx hb dX1_plies_111 ?_
                    refine lv_istore (lv' := [(6, .int (sm + 1)), (7, .int (nI i)), (4, .long ((1000 * (((allV (fun r => roomV (gM E k r)) 0) - (allV (fun r => roomV (gM E k2 r)) 0)).toInt64)) / ((allV (fun r => roomV (gM E k r)) 0).toInt64))), (0, .ref (b 0))]) hx hb dX1_plies_112 hl (Nat.le_of_ble_eq_true rfl) rfl (fun ls hl => ?_)
                    refine lv_iinc (v := nI (i + 1)) (lv' := [(7, .int (nI (i + 1))), (6, .int (sm + 1)), (4, .long ((1000 * (((allV (fun r => roomV (gM E k r)) 0) - (allV (fun r => roomV (gM E k2 r)) 0)).toInt64)) / ((allV (fun r => roomV (gM E k r)) 0).toInt64))), (0, .ref (b 0))]) hx hb dX1_plies_114 hl (k := 1) rfl (nI_add i 1) (Nat.le_of_ble_eq_true rfl) rfl (fun ls hl => ?_)
                    refine lv_goto (tgt := 81) hx hb dX1_plies_117 (by decide) ?_
                    have hle := Int64.not_lt.mp (fun h => c_19 (lg_gt.mpr h))
                    exact ih_lp_17 (i + 1) _ (by omega) (by omega) (by rw [hs]; show _ = sumR (fun q => if (E 12 q).toInt64 ≤ (1000 * ((allV (fun r => roomV (gM E k r)) 0) - (allV (fun r => roomV (gM E k2 r)) 0)).toInt64) / (allV (fun r => roomV (gM E k r)) 0).toInt64 then 1 else 0) i + (if (E 12 i).toInt64 ≤ (1000 * ((allV (fun r => roomV (gM E k r)) 0) - (allV (fun r => roomV (gM E k2 r)) 0)).toInt64) / (allV (fun r => roomV (gM E k r)) 0).toInt64 then 1 else 0); rw [if_pos hle]) ls (lv_sub hl [0, 1, 2, 3] rfl)
            exact lp_17 9 0 _ (by omega) (by omega) rfl ls (lv_sub hl [0, 1, 2, 4] rfl)
          · refine lv_aload_n hx hb dX1_plies_51 rfl (lv_at hl 1 rfl) ?_
            refine lv_iconst (v := 4) hx hb dX1_plies_52 (by decide) ?_
            refine y_cVi (As := [.int 4]) (rest := []) (ci := 1) (q0 := 0) ⟨hx, hb, hml, hown, hts⟩ hK hP hD hS hA (metX1_meets l G d s.heap.size b J E 4 (by omega)) (cwV 1 hts (lw_V q1005 q1007 qs19 q39 q1008) rfl rfl rfl (by decide +kernel) ⟨Nat.le_of_ble_eq_true rfl, Nat.le_of_ble_eq_true rfl⟩) rfl rfl rfl hl.1 rfl (lv_room (Nat.le_of_ble_eq_true rfl)) dX1_plies_53 ⟨Nat.le_of_ble_eq_true rfl, Nat.le_of_ble_eq_true rfl⟩ (fun r_20 u_22 H locs hw_21 hP hD hS => ?_)
            obtain ⟨rfl, rfl⟩ := hw_21
            exact W.iret (v := (-3)) hx hb hr (fun t ht hW => ⟨⟨(-3), (uFind (J, E) 4), rfl, by unfold mPlies; rw [if_neg (not_not_intro ⟨(show inR (nI k) 0 3 from nI_inR (n := 3) (by omega) (by decide)), (show inR (nI k2) 0 3 from nI_inR (n := 3) (by omega) (by decide))⟩), cl_nI (show k < 2 ^ 31 by omega), cl_nI (show k2 < 2 ^ 31 by omega), if_neg (not_not_intro ⟨c_7, c_11⟩), if_pos c_14], by rw [ht]; exact hP, va_K.moved hW.alike hK, hD⟩, hS.F ht⟩) hS.2.2 dX1_plies_56
        · refine lv_aload_n hx hb dX1_plies_34 rfl (lv_at hl 0 rfl) ?_
          refine lv_iconst (v := 1) hx hb dX1_plies_35 (by decide) ?_
          refine y_cVi (As := [.int 1]) (rest := []) (ci := 1) (q0 := 0) ⟨hx, hb, hml, hown, hts⟩ hK hP hD hS hA (metX1_meets l G d s.heap.size b J E 1 (by omega)) (cwV 1 hts (lw_V q1005 q1007 qs19 q39 q1008) rfl rfl rfl (by decide +kernel) ⟨Nat.le_of_ble_eq_true rfl, Nat.le_of_ble_eq_true rfl⟩) rfl rfl rfl hl.1 rfl (lv_room (Nat.le_of_ble_eq_true rfl)) dX1_plies_36 ⟨Nat.le_of_ble_eq_true rfl, Nat.le_of_ble_eq_true rfl⟩ (fun r_23 u_25 H locs hw_24 hP hD hS => ?_)
          obtain ⟨rfl, rfl⟩ := hw_24
          exact W.iret (v := (-3)) hx hb hr (fun t ht hW => ⟨⟨(-3), (uFind (J, E) 1), rfl, by unfold mPlies; rw [if_neg (not_not_intro ⟨(show inR (nI k) 0 3 from nI_inR (n := 3) (by omega) (by decide)), (show inR (nI k2) 0 3 from nI_inR (n := 3) (by omega) (by decide))⟩), cl_nI (show k < 2 ^ 31 by omega), cl_nI (show k2 < 2 ^ 31 by omega), if_pos (fun h => h.2 c_11)], by rw [ht]; exact hP, va_K.moved hW.alike hK, hD⟩, hS.F ht⟩) hS.2.2 dX1_plies_39
    · have c_6 := bI_eq hr_5 c_6
      refine lv_iconst (v := (-1)) hx hb dX1_plies_14 (by decide) ?_
      exact W.iret (v := (-1)) hx hb hr (fun t ht hW => ⟨⟨(-1), (J, E), rfl, (if_pos (fun h => c_6 h.2)).symm, by rw [ht]; exact hP, va_K.moved hW.alike hK, hD⟩, hS.F ht⟩) hS.2.2 dX1_plies_15
set_option maxHeartbeats 400000 in
set_option maxRecDepth 100000 in
theorem metX1_part (l : Launch) (G : va_G) (d : Nat → Nat) (sz : Nat) (b : Nat → Nat) (J : Nat → Int32) (E : Nat → Nat → Int32) (k h0 be pr up lo cu : Int32) (n : Nat) (hn16 : n ≤ 16) (hn : J 13 = nI n) : Met l yX1_part (ws_ yX1_part cX1_part 8 (some FieldType.int)) ({ frames := 1, cells := 0, slots := 0, locals := 22 } : Room) (va_Pc [.ref (b 0), .int k, .int h0, .int be, .int pr, .int up, .int lo, .int cu] (pW G d sz (MW b J E d))) (va_Qi (fun (r : Int32) (u : MS) => (r, u) = mPart n (J, E) k h0 be pr up lo cu) (fun (u : MS) t => bW G d (va_A (MW b J E d) sz) (MW b u.1 u.2 d) t) (va_A (MW b J E d) sz)) 0 0 (va_A (MW b J E d) sz) := by
  refine Met.ofW (cc := cX1_part) (maxL := 8) (ret := (some FieldType.int)) (by decide) rfl ?_
  intro p e s m args below meth c s₁ B hml hv
  obtain ⟨rfl, hsz, hP, hK, hD0⟩ := hv
  have hx := B.exec
  have hb := B.bytes
  have hr := B.returns
  have hts := atoms_spec (ws := (ws_ yX1_part cX1_part 8 (some FieldType.int))) B.pre
  have hts : ∀ w ∈ lw_all, w.before _ s = true := fun w h => hts w (List.mem_cons_of_mem _ h)
  have hown : s.vm.findClass RX1 = some m.cls := findClass_of_methodNamed B.named
  have hlocks := B.notSynchronized
  subst hsz
  have hD := hD0.self (sz := s.heap.size)
  generalize hAe : va_A (MW b J E d) s.heap.size = A at hD ⊢
  have hA : ∀ q : Nat, s.heap.size ≤ q → A q := fun q h => by rw [← hAe]; exact Or.inr h
  have hS : va_S A s.heap s.heap [] := va_S.rf
  have hl := lv_entry ([.ref (b 0), .int k, .int h0, .int be, .int pr, .int up, .int lo, .int cu]) (n := 8) (Nat.le_of_ble_eq_true rfl)
  rw [lg_entry_eq]
  generalize (lg_sl ([.ref (b 0), .int k, .int h0, .int be, .int pr, .int up, .int lo, .int cu]) ++ List.replicate (8 - (lg_sl ([.ref (b 0), .int k, .int h0, .int be, .int pr, .int up, .int lo, .int cu])).length) Slot.unset).toArray = ls at hl ⊢
  have hl : lv_has ls 8 [(0, .ref (b 0)), (1, .int k), (2, .int h0), (3, .int be), (4, .int pr), (5, .int up), (6, .int lo), (7, .int cu)] := hl
  have hP : va_P G CLS (MW b J E d) s.heap := hP
  refine lv_iload_n hx hb dX1_part_0 rfl (lv_at hl 1 rfl) ?_
  refine lv_iconst (v := 0) hx hb dX1_part_1 (by decide) ?_
  refine lv_iconst (v := 4) hx hb dX1_part_2 (by decide) ?_
  refine y_rS (As := [.int k, .int 0, .int 4]) (rest := []) ⟨hx, hb, hml, hown, hts⟩ hK (ws := []) (fun _ _ h => by cases h) (metX1_in l G d k 0 4) (va_cwS 3 hts (lw_S q994 q995 q39 q996) rfl rfl rfl (by decide +kernel) ⟨Nat.le_of_ble_eq_true rfl, Nat.le_of_ble_eq_true rfl⟩) rfl hl.1 rfl (lv_room (Nat.le_of_ble_eq_true rfl)) dX1_part_3 ⟨Nat.le_of_ble_eq_true rfl, Nat.le_of_ble_eq_true rfl⟩ (fun r_1 hr_2 => ?_)
  refine lv_if_eq (tgt := 88) hx hb dX1_part_6 (by decide) (fun c_3 => ?_) (fun c_3 => ?_)
  · have c_3 := bI_eq hr_2 c_3
    refine lv_iconst (v := (-1)) hx hb dX1_part_88 (by decide) ?_
    exact W.iret (v := (-1)) hx hb hr (fun t ht hW => ⟨⟨(-1), (J, E), rfl, (if_neg (fun h => c_3 (h.1))).symm, by rw [ht]; exact hP, va_K.moved hW.alike hK, hD⟩, hS.F ht⟩) hS.2.2 dX1_part_89
  · have c_3 := bI_ne hr_2 c_3
    refine lv_iload_n hx hb dX1_part_9 rfl (lv_at hl 2 rfl) ?_
    refine lv_iconst (v := 1) hx hb dX1_part_10 (by decide) ?_
    refine lv_sipush (v := 500) hx hb dX1_part_11 (by decide +kernel) ?_
    refine y_rS (As := [.int h0, .int 1, .int 500]) (rest := []) ⟨hx, hb, hml, hown, hts⟩ hK (ws := []) (fun _ _ h => by cases h) (metX1_in l G d h0 1 500) (va_cwS 3 hts (lw_S q994 q995 q39 q996) rfl rfl rfl (by decide +kernel) ⟨Nat.le_of_ble_eq_true rfl, Nat.le_of_ble_eq_true rfl⟩) rfl hl.1 rfl (lv_room (Nat.le_of_ble_eq_true rfl)) dX1_part_14 ⟨Nat.le_of_ble_eq_true rfl, Nat.le_of_ble_eq_true rfl⟩ (fun r_4 hr_5 => ?_)
    refine lv_if_eq (tgt := 88) hx hb dX1_part_17 (by decide) (fun c_6 => ?_) (fun c_6 => ?_)
    · have c_6 := bI_eq hr_5 c_6
      refine lv_iconst (v := (-1)) hx hb dX1_part_88 (by decide) ?_
      exact W.iret (v := (-1)) hx hb hr (fun t ht hW => ⟨⟨(-1), (J, E), rfl, (if_neg (fun h => c_6 (h.2.1))).symm, by rw [ht]; exact hP, va_K.moved hW.alike hK, hD⟩, hS.F ht⟩) hS.2.2 dX1_part_89
    · have c_6 := bI_ne hr_5 c_6
      refine lv_iload_n hx hb dX1_part_20 rfl (lv_at hl 3 rfl) ?_
      refine lv_iconst (v := 1) hx hb dX1_part_21 (by decide) ?_
      refine lv_sipush (v := 300) hx hb dX1_part_22 (by decide +kernel) ?_
      refine y_rS (As := [.int be, .int 1, .int 300]) (rest := []) ⟨hx, hb, hml, hown, hts⟩ hK (ws := []) (fun _ _ h => by cases h) (metX1_in l G d be 1 300) (va_cwS 3 hts (lw_S q994 q995 q39 q996) rfl rfl rfl (by decide +kernel) ⟨Nat.le_of_ble_eq_true rfl, Nat.le_of_ble_eq_true rfl⟩) rfl hl.1 rfl (lv_room (Nat.le_of_ble_eq_true rfl)) dX1_part_25 ⟨Nat.le_of_ble_eq_true rfl, Nat.le_of_ble_eq_true rfl⟩ (fun r_7 hr_8 => ?_)
      refine lv_if_eq (tgt := 88) hx hb dX1_part_28 (by decide) (fun c_9 => ?_) (fun c_9 => ?_)
      · have c_9 := bI_eq hr_8 c_9
        refine lv_iconst (v := (-1)) hx hb dX1_part_88 (by decide) ?_
        exact W.iret (v := (-1)) hx hb hr (fun t ht hW => ⟨⟨(-1), (J, E), rfl, (if_neg (fun h => c_9 (h.2.2.1))).symm, by rw [ht]; exact hP, va_K.moved hW.alike hK, hD⟩, hS.F ht⟩) hS.2.2 dX1_part_89
      · have c_9 := bI_ne hr_8 c_9
        refine lv_iload hx hb dX1_part_31 (lv_at hl 4 rfl) ?_
        refine lv_iconst (v := 0) hx hb dX1_part_33 (by decide) ?_
        refine lv_sipush (v := 10000) hx hb dX1_part_34 (by decide +kernel) ?_
        refine y_rS (As := [.int pr, .int 0, .int 10000]) (rest := []) ⟨hx, hb, hml, hown, hts⟩ hK (ws := []) (fun _ _ h => by cases h) (metX1_in l G d pr 0 10000) (va_cwS 3 hts (lw_S q994 q995 q39 q996) rfl rfl rfl (by decide +kernel) ⟨Nat.le_of_ble_eq_true rfl, Nat.le_of_ble_eq_true rfl⟩) rfl hl.1 rfl (lv_room (Nat.le_of_ble_eq_true rfl)) dX1_part_37 ⟨Nat.le_of_ble_eq_true rfl, Nat.le_of_ble_eq_true rfl⟩ (fun r_10 hr_11 => ?_)
        refine lv_if_eq (tgt := 88) hx hb dX1_part_40 (by decide) (fun c_12 => ?_) (fun c_12 => ?_)
        · have c_12 := bI_eq hr_11 c_12
          refine lv_iconst (v := (-1)) hx hb dX1_part_88 (by decide) ?_
          exact W.iret (v := (-1)) hx hb hr (fun t ht hW => ⟨⟨(-1), (J, E), rfl, (if_neg (fun h => c_12 (h.2.2.2.1))).symm, by rw [ht]; exact hP, va_K.moved hW.alike hK, hD⟩, hS.F ht⟩) hS.2.2 dX1_part_89
        · have c_12 := bI_ne hr_11 c_12
          refine lv_iload hx hb dX1_part_43 (lv_at hl 5 rfl) ?_
          refine lv_iconst (v := 0) hx hb dX1_part_45 (by decide) ?_
          refine lv_bipush (v := 7) hx hb dX1_part_46 (by decide +kernel) ?_
          refine y_rS (As := [.int up, .int 0, .int 7]) (rest := []) ⟨hx, hb, hml, hown, hts⟩ hK (ws := []) (fun _ _ h => by cases h) (metX1_in l G d up 0 7) (va_cwS 3 hts (lw_S q994 q995 q39 q996) rfl rfl rfl (by decide +kernel) ⟨Nat.le_of_ble_eq_true rfl, Nat.le_of_ble_eq_true rfl⟩) rfl hl.1 rfl (lv_room (Nat.le_of_ble_eq_true rfl)) dX1_part_48 ⟨Nat.le_of_ble_eq_true rfl, Nat.le_of_ble_eq_true rfl⟩ (fun r_13 hr_14 => ?_)
          refine lv_if_eq (tgt := 88) hx hb dX1_part_51 (by decide) (fun c_15 => ?_) (fun c_15 => ?_)
          · have c_15 := bI_eq hr_14 c_15
            refine lv_iconst (v := (-1)) hx hb dX1_part_88 (by decide) ?_
            exact W.iret (v := (-1)) hx hb hr (fun t ht hW => ⟨⟨(-1), (J, E), rfl, (if_neg (fun h => c_15 (h.2.2.2.2.1))).symm, by rw [ht]; exact hP, va_K.moved hW.alike hK, hD⟩, hS.F ht⟩) hS.2.2 dX1_part_89
          · have c_15 := bI_ne hr_14 c_15
            refine lv_iload hx hb dX1_part_54 (lv_at hl 6 rfl) ?_
            refine lv_iconst (v := 0) hx hb dX1_part_56 (by decide) ?_
            refine lv_bipush (v := 7) hx hb dX1_part_57 (by decide +kernel) ?_
            refine y_rS (As := [.int lo, .int 0, .int 7]) (rest := []) ⟨hx, hb, hml, hown, hts⟩ hK (ws := []) (fun _ _ h => by cases h) (metX1_in l G d lo 0 7) (va_cwS 3 hts (lw_S q994 q995 q39 q996) rfl rfl rfl (by decide +kernel) ⟨Nat.le_of_ble_eq_true rfl, Nat.le_of_ble_eq_true rfl⟩) rfl hl.1 rfl (lv_room (Nat.le_of_ble_eq_true rfl)) dX1_part_59 ⟨Nat.le_of_ble_eq_true rfl, Nat.le_of_ble_eq_true rfl⟩ (fun r_16 hr_17 => ?_)
            refine lv_if_eq (tgt := 88) hx hb dX1_part_62 (by decide) (fun c_18 => ?_) (fun c_18 => ?_)
            · have c_18 := bI_eq hr_17 c_18
              refine lv_iconst (v := (-1)) hx hb dX1_part_88 (by decide) ?_
              exact W.iret (v := (-1)) hx hb hr (fun t ht hW => ⟨⟨(-1), (J, E), rfl, (if_neg (fun h => c_18 (h.2.2.2.2.2.1))).symm, by rw [ht]; exact hP, va_K.moved hW.alike hK, hD⟩, hS.F ht⟩) hS.2.2 dX1_part_89
            · have c_18 := bI_ne hr_17 c_18
              have hj_19 : ∀ (hk4 : k = 4 → inR cu 0 300 ∧ cu < h0), W p l e (headSpec (ws_ yX1_part cX1_part 8 (some FieldType.int)) ({ frames := 1, cells := 0, slots := 0, locals := 22 } : Room)).room s m ([.ref (b 0), .int k, .int h0, .int be, .int pr, .int up, .int lo, .int cu] : List Value).toArray below meth c s.heap [] 0 0 (MQ below (va_Qi (fun (r : Int32) (u : MS) => (r, u) = mPart n (J, E) k h0 be pr up lo cu) (fun (u : MS) t => bW G d A (MW b u.1 u.2 d) t) A) ([.ref (b 0), .int k, .int h0, .int be, .int pr, .int up, .int lo, .int cu] : List Value).toArray s 0 0 A) (F0 m 90 ls []) := by
                intro hk4
                refine lv_aload_n hx hb dX1_part_90 rfl (lv_at hl 0 rfl) ?_
                refine va_get (D := G) (ci := 1) (v := .int (J 13)) (C := RX1) (T := TX1) (N := 33) hx hb hts in_X1 hown hK hP 0 rfl rfl 13 (Nat.le_of_ble_eq_true rfl) (hts _ q899) (fun _ h9 => h9) rfl dX1_part_91 ?_
                refine y_top (y := nI n) hn ?_
                refine lv_bipush (v := 16) hx hb dX1_part_94 (by decide +kernel) ?_
                refine lv_icmp_ne (tgt := 102) hx hb dX1_part_96 (by decide) (fun c_20 => ?_) (fun c_20 => ?_)
                · have c_20 : ¬ n = 16 := fun h => c_20 ((nI_eq (a := n) (b := 16) (by omega) (by omega)).mpr h)
                  refine lv_aload_n hx hb dX1_part_102 rfl (lv_at hl 0 rfl) ?_
                  refine va_get (D := G) (ci := 1) (v := .ref (b 14)) (C := RX1) (T := TX1) (N := 33) hx hb hts in_X1 hown hK hP 0 rfl rfl 14 (Nat.le_of_ble_eq_true rfl) (hts _ q900) (fun _ h9 => h9) rfl dX1_part_103 ?_
                  refine lv_aload_n hx hb dX1_part_106 rfl (lv_at hl 0 rfl) ?_
                  refine va_get (D := G) (ci := 1) (v := .int (J 13)) (C := RX1) (T := TX1) (N := 33) hx hb hts in_X1 hown hK hP 0 rfl rfl 13 (Nat.le_of_ble_eq_true rfl) (hts _ q899) (fun _ h9 => h9) rfl dX1_part_107 ?_
                  refine y_top (y := nI n) hn ?_
                  refine lv_iload_n hx hb dX1_part_110 rfl (lv_at hl 1 rfl) ?_
                  refine y_iast (N := n) (f := E 14) hx hb hK hP hD hS 10 0 rfl rfl rfl (by omega) (by decide) dX1_part_111 (fun H locs hP hD hS => ?_)
                  have hP : va_P G CLS (MW b J (va_up E 14 (upd (E 14) n k)) d) H := hP
                  have hD : va_D A (MW b J (va_up E 14 (upd (E 14) n k)) d) := hD
                  refine lv_aload_n hx hb dX1_part_112 rfl (lv_at hl 0 rfl) ?_
                  refine va_get (D := G) (ci := 1) (v := .ref (b 15)) (C := RX1) (T := TX1) (N := 33) hx hb hts in_X1 hown hK hP 0 rfl rfl 15 (Nat.le_of_ble_eq_true rfl) (hts _ q901) (fun _ h9 => h9) rfl dX1_part_113 ?_
                  refine lv_aload_n hx hb dX1_part_116 rfl (lv_at hl 0 rfl) ?_
                  refine va_get (D := G) (ci := 1) (v := .int (J 13)) (C := RX1) (T := TX1) (N := 33) hx hb hts in_X1 hown hK hP 0 rfl rfl 13 (Nat.le_of_ble_eq_true rfl) (hts _ q899) (fun _ h9 => h9) rfl dX1_part_117 ?_
                  refine y_top (y := nI n) hn ?_
                  refine lv_iload_n hx hb dX1_part_120 rfl (lv_at hl 2 rfl) ?_
                  refine y_iast (N := n) (f := E 15) hx hb hK hP hD hS 11 0 rfl rfl rfl (by omega) (by decide) dX1_part_121 (fun H locs hP hD hS => ?_)
                  have hP : va_P G CLS (MW b J (va_up (va_up E 14 (upd (E 14) n k)) 15 (upd (E 15) n h0)) d) H := hP
                  have hD : va_D A (MW b J (va_up (va_up E 14 (upd (E 14) n k)) 15 (upd (E 15) n h0)) d) := hD
                  refine lv_aload_n hx hb dX1_part_122 rfl (lv_at hl 0 rfl) ?_
                  refine va_get (D := G) (ci := 1) (v := .ref (b 16)) (C := RX1) (T := TX1) (N := 33) hx hb hts in_X1 hown hK hP 0 rfl rfl 16 (Nat.le_of_ble_eq_true rfl) (hts _ q902) (fun _ h9 => h9) rfl dX1_part_123 ?_
                  refine lv_aload_n hx hb dX1_part_126 rfl (lv_at hl 0 rfl) ?_
                  refine va_get (D := G) (ci := 1) (v := .int (J 13)) (C := RX1) (T := TX1) (N := 33) hx hb hts in_X1 hown hK hP 0 rfl rfl 13 (Nat.le_of_ble_eq_true rfl) (hts _ q899) (fun _ h9 => h9) rfl dX1_part_127 ?_
                  refine y_top (y := nI n) hn ?_
                  refine lv_iload_n hx hb dX1_part_130 rfl (lv_at hl 3 rfl) ?_
                  refine y_iast (N := n) (f := E 16) hx hb hK hP hD hS 12 0 rfl rfl rfl (by omega) (by decide) dX1_part_131 (fun H locs hP hD hS => ?_)
                  have hP : va_P G CLS (MW b J (va_up (va_up (va_up E 14 (upd (E 14) n k)) 15 (upd (E 15) n h0)) 16 (upd (E 16) n be)) d) H := hP
                  have hD : va_D A (MW b J (va_up (va_up (va_up E 14 (upd (E 14) n k)) 15 (upd (E 15) n h0)) 16 (upd (E 16) n be)) d) := hD
                  refine lv_aload_n hx hb dX1_part_132 rfl (lv_at hl 0 rfl) ?_
                  refine va_get (D := G) (ci := 1) (v := .ref (b 17)) (C := RX1) (T := TX1) (N := 33) hx hb hts in_X1 hown hK hP 0 rfl rfl 17 (Nat.le_of_ble_eq_true rfl) (hts _ q903) (fun _ h9 => h9) rfl dX1_part_133 ?_
                  refine lv_aload_n hx hb dX1_part_136 rfl (lv_at hl 0 rfl) ?_
                  refine va_get (D := G) (ci := 1) (v := .int (J 13)) (C := RX1) (T := TX1) (N := 33) hx hb hts in_X1 hown hK hP 0 rfl rfl 13 (Nat.le_of_ble_eq_true rfl) (hts _ q899) (fun _ h9 => h9) rfl dX1_part_137 ?_
                  refine y_top (y := nI n) hn ?_
                  refine lv_iload hx hb dX1_part_140 (lv_at hl 4 rfl) ?_
                  refine y_iast (N := n) (f := E 17) hx hb hK hP hD hS 13 0 rfl rfl rfl (by omega) (by decide) dX1_part_142 (fun H locs hP hD hS => ?_)
                  have hP : va_P G CLS (MW b J (va_up (va_up (va_up (va_up E 14 (upd (E 14) n k)) 15 (upd (E 15) n h0)) 16 (upd (E 16) n be)) 17 (upd (E 17) n pr)) d) H := hP
                  have hD : va_D A (MW b J (va_up (va_up (va_up (va_up E 14 (upd (E 14) n k)) 15 (upd (E 15) n h0)) 16 (upd (E 16) n be)) 17 (upd (E 17) n pr)) d) := hD
                  refine lv_aload_n hx hb dX1_part_143 rfl (lv_at hl 0 rfl) ?_
                  refine va_get (D := G) (ci := 1) (v := .ref (b 18)) (C := RX1) (T := TX1) (N := 33) hx hb hts in_X1 hown hK hP 0 rfl rfl 18 (Nat.le_of_ble_eq_true rfl) (hts _ q904) (fun _ h9 => h9) rfl dX1_part_144 ?_
                  refine lv_aload_n hx hb dX1_part_147 rfl (lv_at hl 0 rfl) ?_
                  refine va_get (D := G) (ci := 1) (v := .int (J 13)) (C := RX1) (T := TX1) (N := 33) hx hb hts in_X1 hown hK hP 0 rfl rfl 13 (Nat.le_of_ble_eq_true rfl) (hts _ q899) (fun _ h9 => h9) rfl dX1_part_148 ?_
                  refine y_top (y := nI n) hn ?_
                  refine lv_iload hx hb dX1_part_151 (lv_at hl 5 rfl) ?_
                  refine y_iast (N := n) (f := E 18) hx hb hK hP hD hS 14 0 rfl rfl rfl (by omega) (by decide) dX1_part_153 (fun H locs hP hD hS => ?_)
                  have hP : va_P G CLS (MW b J (va_up (va_up (va_up (va_up (va_up E 14 (upd (E 14) n k)) 15 (upd (E 15) n h0)) 16 (upd (E 16) n be)) 17 (upd (E 17) n pr)) 18 (upd (E 18) n up)) d) H := hP
                  have hD : va_D A (MW b J (va_up (va_up (va_up (va_up (va_up E 14 (upd (E 14) n k)) 15 (upd (E 15) n h0)) 16 (upd (E 16) n be)) 17 (upd (E 17) n pr)) 18 (upd (E 18) n up)) d) := hD
                  refine lv_aload_n hx hb dX1_part_154 rfl (lv_at hl 0 rfl) ?_
                  refine va_get (D := G) (ci := 1) (v := .ref (b 19)) (C := RX1) (T := TX1) (N := 33) hx hb hts in_X1 hown hK hP 0 rfl rfl 19 (Nat.le_of_ble_eq_true rfl) (hts _ q905) (fun _ h9 => h9) rfl dX1_part_155 ?_
                  refine lv_aload_n hx hb dX1_part_158 rfl (lv_at hl 0 rfl) ?_
                  refine va_get (D := G) (ci := 1) (v := .int (J 13)) (C := RX1) (T := TX1) (N := 33) hx hb hts in_X1 hown hK hP 0 rfl rfl 13 (Nat.le_of_ble_eq_true rfl) (hts _ q899) (fun _ h9 => h9) rfl dX1_part_159 ?_
                  refine y_top (y := nI n) hn ?_
                  refine lv_iload hx hb dX1_part_162 (lv_at hl 6 rfl) ?_
                  refine y_iast (N := n) (f := E 19) hx hb hK hP hD hS 15 0 rfl rfl rfl (by omega) (by decide) dX1_part_164 (fun H locs hP hD hS => ?_)
                  have hP : va_P G CLS (MW b J (va_up (va_up (va_up (va_up (va_up (va_up E 14 (upd (E 14) n k)) 15 (upd (E 15) n h0)) 16 (upd (E 16) n be)) 17 (upd (E 17) n pr)) 18 (upd (E 18) n up)) 19 (upd (E 19) n lo)) d) H := hP
                  have hD : va_D A (MW b J (va_up (va_up (va_up (va_up (va_up (va_up E 14 (upd (E 14) n k)) 15 (upd (E 15) n h0)) 16 (upd (E 16) n be)) 17 (upd (E 17) n pr)) 18 (upd (E 18) n up)) 19 (upd (E 19) n lo)) d) := hD
                  refine lv_aload_n hx hb dX1_part_165 rfl (lv_at hl 0 rfl) ?_
                  refine va_get (D := G) (ci := 1) (v := .ref (b 20)) (C := RX1) (T := TX1) (N := 33) hx hb hts in_X1 hown hK hP 0 rfl rfl 20 (Nat.le_of_ble_eq_true rfl) (hts _ q906) (fun _ h9 => h9) rfl dX1_part_166 ?_
                  refine lv_aload_n hx hb dX1_part_169 rfl (lv_at hl 0 rfl) ?_
                  refine va_get (D := G) (ci := 1) (v := .int (J 13)) (C := RX1) (T := TX1) (N := 33) hx hb hts in_X1 hown hK hP 0 rfl rfl 13 (Nat.le_of_ble_eq_true rfl) (hts _ q899) (fun _ h9 => h9) rfl dX1_part_170 ?_
                  refine y_top (y := nI n) hn ?_
                  have hj_21 : ∀ (x : Int32) (hxx : x = if k = 4 then cu else 0), W p l e (headSpec (ws_ yX1_part cX1_part 8 (some FieldType.int)) ({ frames := 1, cells := 0, slots := 0, locals := 22 } : Room)).room s m ([.ref (b 0), .int k, .int h0, .int be, .int pr, .int up, .int lo, .int cu] : List Value).toArray below meth c H locs 0 0 (MQ below (va_Qi (fun (r : Int32) (u : MS) => (r, u) = mPart n (J, E) k h0 be pr up lo cu) (fun (u : MS) t => bW G d A (MW b u.1 u.2 d) t) A) ([.ref (b 0), .int k, .int h0, .int be, .int pr, .int up, .int lo, .int cu] : List Value).toArray s 0 0 A) (F0 m 184 ls [.int x, .int (nI n), .ref (b 20)]) := by
                    intro x hxx
                    refine y_iast (N := n) (f := E 20) hx hb hK hP hD hS 16 0 rfl rfl rfl (by omega) (by decide) dX1_part_184 (fun H locs hP hD hS => ?_)
                    have hP : va_P G CLS (MW b J (va_up (va_up (va_up (va_up (va_up (va_up (va_up E 14 (upd (E 14) n k)) 15 (upd (E 15) n h0)) 16 (upd (E 16) n be)) 17 (upd (E 17) n pr)) 18 (upd (E 18) n up)) 19 (upd (E 19) n lo)) 20 (upd (E 20) n x)) d) H := hP
                    have hD : va_D A (MW b J (va_up (va_up (va_up (va_up (va_up (va_up (va_up E 14 (upd (E 14) n k)) 15 (upd (E 15) n h0)) 16 (upd (E 16) n be)) 17 (upd (E 17) n pr)) 18 (upd (E 18) n up)) 19 (upd (E 19) n lo)) 20 (upd (E 20) n x)) d) := hD
                    refine lv_aload_n hx hb dX1_part_185 rfl (lv_at hl 0 rfl) ?_
                    refine lv_dup hx hb dX1_part_186 rfl ?_
                    refine va_get (D := G) (ci := 1) (v := .int (J 13)) (C := RX1) (T := TX1) (N := 33) hx hb hts in_X1 hown hK hP 0 rfl rfl 13 (Nat.le_of_ble_eq_true rfl) (hts _ q899) (fun _ h9 => h9) rfl dX1_part_187 ?_
                    refine y_top (y := nI n) hn ?_
                    refine lv_iconst (v := 1) hx hb dX1_part_190 (by decide) ?_
                    refine lv_iadd hx hb dX1_part_191 ?_
                    refine y_top (y := nI (n + 1)) (nI_add n 1) ?_
                    refine va_put (D := G) (ci := 1) (v := .int (nI (n + 1))) (ty := .int) (C := RX1) (T := TX1) (N := 33) hx hb hts in_X1 tyX1 tyX1_ok nmX1 hown hK hP hD hS 0 rfl rfl 13 (Nat.le_of_ble_eq_true rfl) (hts _ q899) (fun _ h9 => h9) rfl (by decide +kernel) rfl rfl (Nat.le_of_ble_eq_true rfl) dX1_part_192 (fun H locs hP hD hS => ?_)
                    have hP : va_P G CLS (MW b (upd J 13 (nI (n + 1))) (va_up (va_up (va_up (va_up (va_up (va_up (va_up E 14 (upd (E 14) n k)) 15 (upd (E 15) n h0)) 16 (upd (E 16) n be)) 17 (upd (E 17) n pr)) 18 (upd (E 18) n up)) 19 (upd (E 19) n lo)) 20 (upd (E 20) n x)) d) H := hP
                    have hD : va_D A (MW b (upd J 13 (nI (n + 1))) (va_up (va_up (va_up (va_up (va_up (va_up (va_up E 14 (upd (E 14) n k)) 15 (upd (E 15) n h0)) 16 (upd (E 16) n be)) 17 (upd (E 17) n pr)) 18 (upd (E 18) n up)) 19 (upd (E 19) n lo)) 20 (upd (E 20) n x)) d) := hD
                    refine lv_aload_n hx hb dX1_part_195 rfl (lv_at hl 0 rfl) ?_
                    refine va_get (D := G) (ci := 1) (v := .int (nI (n + 1))) (C := RX1) (T := TX1) (N := 33) hx hb hts in_X1 hown hK hP 0 rfl rfl 13 (Nat.le_of_ble_eq_true rfl) (hts _ q899) (fun _ h9 => h9) rfl dX1_part_196 ?_
                    refine lv_iconst (v := 1) hx hb dX1_part_199 (by decide) ?_
                    refine lv_isub hx hb dX1_part_200 ?_
                    refine y_top (y := nI ((n + 1) - 1)) (pk_sub (a := n + 1) (b := 1) (by omega)) ?_
                    exact W.iret (v := nI ((n + 1) - 1)) hx hb hr (fun t ht hW => ⟨⟨nI ((n + 1) - 1), (upd J 13 (nI (n + 1)), va_up (va_up (va_up (va_up (va_up (va_up (va_up E 14 (upd (E 14) n k)) 15 (upd (E 15) n h0)) 16 (upd (E 16) n be)) 17 (upd (E 17) n pr)) 18 (upd (E 18) n up)) 19 (upd (E 19) n lo)) 20 (upd (E 20) n x)), rfl, by unfold mPart; rw [if_pos ⟨c_3, c_6, c_9, c_12, c_15, c_18, hk4⟩, if_neg c_20, Nat.add_sub_cancel, hxx], by rw [ht]; exact hP, va_K.moved hW.alike hK, hD⟩, hS.F ht⟩) hS.2.2 dX1_part_201
                  refine lv_iload_n hx hb dX1_part_173 rfl (lv_at hl 1 rfl) ?_
                  refine lv_iconst (v := 4) hx hb dX1_part_174 (by decide) ?_
                  refine lv_icmp_ne (tgt := 183) hx hb dX1_part_175 (by decide) (fun c_22 => ?_) (fun c_22 => ?_)
                  · refine lv_iconst (v := 0) hx hb dX1_part_183 (by decide) ?_
                    exact hj_21 _ (if_neg c_22).symm
                  · refine lv_iload hx hb dX1_part_178 (lv_at hl 7 rfl) ?_
                    refine lv_goto (tgt := 184) hx hb dX1_part_180 (by decide) ?_
                    exact hj_21 _ (if_pos c_22).symm
                · have c_20 : n = 16 := (nI_eq (a := n) (b := 16) (by omega) (by omega)).mp c_20
                  refine lv_bipush (v := (-2)) hx hb dX1_part_99 (by decide +kernel) ?_
                  exact W.iret (v := (-2)) hx hb hr (fun t ht hW => ⟨⟨(-2), (J, E), rfl, by unfold mPart; rw [if_pos ⟨c_3, c_6, c_9, c_12, c_15, c_18, hk4⟩, if_pos c_20], by rw [ht]; exact hP, va_K.moved hW.alike hK, hD⟩, hS.F ht⟩) hS.2.2 dX1_part_101
              refine lv_iload_n hx hb dX1_part_65 rfl (lv_at hl 1 rfl) ?_
              refine lv_iconst (v := 4) hx hb dX1_part_66 (by decide) ?_
              refine lv_icmp_ne (tgt := 90) hx hb dX1_part_67 (by decide) (fun c_23 => ?_) (fun c_23 => ?_)
              · exact hj_19 (fun h => absurd h c_23)
              · refine lv_iload hx hb dX1_part_70 (lv_at hl 7 rfl) ?_
                refine lv_iconst (v := 0) hx hb dX1_part_72 (by decide) ?_
                refine lv_sipush (v := 300) hx hb dX1_part_73 (by decide +kernel) ?_
                refine y_rS (As := [.int cu, .int 0, .int 300]) (rest := []) ⟨hx, hb, hml, hown, hts⟩ hK (ws := []) (fun _ _ h => by cases h) (metX1_in l G d cu 0 300) (va_cwS 3 hts (lw_S q994 q995 q39 q996) rfl rfl rfl (by decide +kernel) ⟨Nat.le_of_ble_eq_true rfl, Nat.le_of_ble_eq_true rfl⟩) rfl hl.1 rfl (lv_room (Nat.le_of_ble_eq_true rfl)) dX1_part_76 ⟨Nat.le_of_ble_eq_true rfl, Nat.le_of_ble_eq_true rfl⟩ (fun r_24 hr_25 => ?_)
                refine lv_if_eq (tgt := 88) hx hb dX1_part_79 (by decide) (fun c_26 => ?_) (fun c_26 => ?_)
                · have c_26 := bI_eq hr_25 c_26
                  refine lv_iconst (v := (-1)) hx hb dX1_part_88 (by decide) ?_
                  exact W.iret (v := (-1)) hx hb hr (fun t ht hW => ⟨⟨(-1), (J, E), rfl, (if_neg (fun h => c_26 (h.2.2.2.2.2.2 c_23).1)).symm, by rw [ht]; exact hP, va_K.moved hW.alike hK, hD⟩, hS.F ht⟩) hS.2.2 dX1_part_89
                · have c_26 := bI_ne hr_25 c_26
                  refine lv_iload hx hb dX1_part_82 (lv_at hl 7 rfl) ?_
                  refine lv_iload_n hx hb dX1_part_84 rfl (lv_at hl 2 rfl) ?_
                  refine lv_icmp_lt (tgt := 90) hx hb dX1_part_85 (by decide) (fun c_27 => ?_) (fun c_27 => ?_)
                  · exact hj_19 (fun _ => ⟨c_26, c_27⟩)
                  · refine lv_iconst (v := (-1)) hx hb dX1_part_88 (by decide) ?_
                    exact W.iret (v := (-1)) hx hb hr (fun t ht hW => ⟨⟨(-1), (J, E), rfl, (if_neg (fun h => c_27 (h.2.2.2.2.2.2 c_23).2)).symm, by rw [ht]; exact hP, va_K.moved hW.alike hK, hD⟩, hS.F ht⟩) hS.2.2 dX1_part_89
