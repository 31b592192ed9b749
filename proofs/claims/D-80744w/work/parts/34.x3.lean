set_option maxHeartbeats 400000 in
set_option maxRecDepth 100000 in
theorem metX0_rule (l : Launch) (G : va_G) (d : Nat → Nat) (sz : Nat) (a : Nat → Nat) (I : Nat → Int32) (F : Nat → Nat → Int32) (S : Nat → Nat → Option Nat) (lm : Int32 × Nat × Int32) (LP : List Nat) (fp : Nat → va_E) (v c0 p0 w : Int32) (n : Nat) (hn12 : n ≤ 12) (hn : I 4 = nI n) : Met l yX0_rule (ws_ yX0_rule cX0_rule 5 (some FieldType.int)) ({ frames := 1, cells := 0, slots := 0, locals := 22 } : Room) (va_Pc [.ref (a 0), .int v, .int c0, .int p0, .int w] (pW G d sz (XW a I F S lm LP fp d))) (va_Qi (fun (r : Int32) (u : MS) => (r, u) = ruleOp 4 5 6 7 8 n (I, F) v c0 p0 w) (fun (u : MS) t => bW G d (va_A (XW a I F S lm LP fp d) sz) (XW a u.1 u.2 S lm LP fp d) t) (va_A (XW a I F S lm LP fp d) sz)) 0 0 (va_A (XW a I F S lm LP fp d) sz) := by
  refine Met.ofW (cc := cX0_rule) (maxL := 5) (ret := (some FieldType.int)) (by decide) rfl ?_
  intro p e s m args below meth c s₁ B hml hv
  obtain ⟨rfl, hsz, hP, hK, hD0⟩ := hv
  have hx := B.exec
  have hb := B.bytes
  have hr := B.returns
  have hts := atoms_spec (ws := (ws_ yX0_rule cX0_rule 5 (some FieldType.int))) B.pre
  have hts : ∀ w ∈ lw_all, w.before _ s = true := fun w h => hts w (List.mem_cons_of_mem _ h)
  have hown : s.vm.findClass RX0 = some m.cls := findClass_of_methodNamed B.named
  have hlocks := B.notSynchronized
  subst hsz
  have hD := hD0.self (sz := s.heap.size)
  generalize hAe : va_A (XW a I F S lm LP fp d) s.heap.size = A at hD ⊢
  have hA : ∀ q : Nat, s.heap.size ≤ q → A q := fun q h => by rw [← hAe]; exact Or.inr h
  have hS : va_S A s.heap s.heap [] := va_S.rf
  have hl := lv_entry ([.ref (a 0), .int v, .int c0, .int p0, .int w]) (n := 5) (Nat.le_of_ble_eq_true rfl)
  rw [lg_entry_eq]
  generalize (lg_sl ([.ref (a 0), .int v, .int c0, .int p0, .int w]) ++ List.replicate (5 - (lg_sl ([.ref (a 0), .int v, .int c0, .int p0, .int w])).length) Slot.unset).toArray = ls at hl ⊢
  have hl : lv_has ls 5 [(0, .ref (a 0)), (1, .int v), (2, .int c0), (3, .int p0), (4, .int w)] := hl
  have hP : va_P G CLS (XW a I F S lm LP fp d) s.heap := hP
  refine lv_iload_n hx hb dX0_rule_0 rfl (lv_at hl 1 rfl) ?_
  refine lv_iconst (v := 0) hx hb dX0_rule_1 (by decide) ?_
  refine lv_bipush (v := 11) hx hb dX0_rule_2 (by decide +kernel) ?_
  refine y_rS (As := [.int v, .int 0, .int 11]) (rest := []) ⟨hx, hb, hml, hown, hts⟩ hK (ws := []) (fun _ _ h => by cases h) (metX0_in l G d v 0 11) (va_cwS 3 hts (lw_S q204 q205 q35 q206) rfl rfl rfl (by decide +kernel) ⟨Nat.le_of_ble_eq_true rfl, Nat.le_of_ble_eq_true rfl⟩) rfl hl.1 rfl (lv_room (Nat.le_of_ble_eq_true rfl)) dX0_rule_4 ⟨Nat.le_of_ble_eq_true rfl, Nat.le_of_ble_eq_true rfl⟩ (fun r_1 hr_2 => ?_)
  refine lv_if_eq (tgt := 43) hx hb dX0_rule_7 (by decide) (fun c_3 => ?_) (fun c_3 => ?_)
  · have c_3 := bI_eq hr_2 c_3
    refine lv_iconst (v := (-1)) hx hb dX0_rule_43 (by decide) ?_
    exact W.iret (v := (-1)) hx hb hr (fun t ht hW => ⟨⟨(-1), (I, F), rfl, (if_neg (fun h => c_3 (h.1))).symm, by rw [ht]; exact hP, va_K.moved hW.alike hK, hD⟩, hS.F ht⟩) hS.2.2 dX0_rule_44
  · have c_3 := bI_ne hr_2 c_3
    refine lv_iload_n hx hb dX0_rule_10 rfl (lv_at hl 2 rfl) ?_
    refine lv_iload_n hx hb dX0_rule_11 rfl (lv_at hl 1 rfl) ?_
    refine lv_bipush (v := 11) hx hb dX0_rule_12 (by decide +kernel) ?_
    refine y_rS (As := [.int c0, .int v, .int 11]) (rest := []) ⟨hx, hb, hml, hown, hts⟩ hK (ws := []) (fun _ _ h => by cases h) (metX0_in l G d c0 v 11) (va_cwS 3 hts (lw_S q204 q205 q35 q206) rfl rfl rfl (by decide +kernel) ⟨Nat.le_of_ble_eq_true rfl, Nat.le_of_ble_eq_true rfl⟩) rfl hl.1 rfl (lv_room (Nat.le_of_ble_eq_true rfl)) dX0_rule_14 ⟨Nat.le_of_ble_eq_true rfl, Nat.le_of_ble_eq_true rfl⟩ (fun r_4 hr_5 => ?_)
    refine lv_if_eq (tgt := 43) hx hb dX0_rule_17 (by decide) (fun c_6 => ?_) (fun c_6 => ?_)
    · have c_6 := bI_eq hr_5 c_6
      refine lv_iconst (v := (-1)) hx hb dX0_rule_43 (by decide) ?_
      exact W.iret (v := (-1)) hx hb hr (fun t ht hW => ⟨⟨(-1), (I, F), rfl, (if_neg (fun h => c_6 (h.2.1))).symm, by rw [ht]; exact hP, va_K.moved hW.alike hK, hD⟩, hS.F ht⟩) hS.2.2 dX0_rule_44
    · have c_6 := bI_ne hr_5 c_6
      refine lv_iload_n hx hb dX0_rule_20 rfl (lv_at hl 3 rfl) ?_
      refine lv_iconst (v := 1) hx hb dX0_rule_21 (by decide) ?_
      refine lv_sipush (v := 255) hx hb dX0_rule_22 (by decide +kernel) ?_
      refine y_rS (As := [.int p0, .int 1, .int 255]) (rest := []) ⟨hx, hb, hml, hown, hts⟩ hK (ws := []) (fun _ _ h => by cases h) (metX0_in l G d p0 1 255) (va_cwS 3 hts (lw_S q204 q205 q35 q206) rfl rfl rfl (by decide +kernel) ⟨Nat.le_of_ble_eq_true rfl, Nat.le_of_ble_eq_true rfl⟩) rfl hl.1 rfl (lv_room (Nat.le_of_ble_eq_true rfl)) dX0_rule_25 ⟨Nat.le_of_ble_eq_true rfl, Nat.le_of_ble_eq_true rfl⟩ (fun r_7 hr_8 => ?_)
      refine lv_if_eq (tgt := 43) hx hb dX0_rule_28 (by decide) (fun c_9 => ?_) (fun c_9 => ?_)
      · have c_9 := bI_eq hr_8 c_9
        refine lv_iconst (v := (-1)) hx hb dX0_rule_43 (by decide) ?_
        exact W.iret (v := (-1)) hx hb hr (fun t ht hW => ⟨⟨(-1), (I, F), rfl, (if_neg (fun h => c_9 (h.2.2.1))).symm, by rw [ht]; exact hP, va_K.moved hW.alike hK, hD⟩, hS.F ht⟩) hS.2.2 dX0_rule_44
      · have c_9 := bI_ne hr_8 c_9
        refine lv_iload hx hb dX0_rule_31 (lv_at hl 4 rfl) ?_
        refine lv_bipush (v := (-50)) hx hb dX0_rule_33 (by decide +kernel) ?_
        refine lv_bipush (v := 50) hx hb dX0_rule_35 (by decide +kernel) ?_
        refine y_rS (As := [.int w, .int (-50), .int 50]) (rest := []) ⟨hx, hb, hml, hown, hts⟩ hK (ws := []) (fun _ _ h => by cases h) (metX0_in l G d w (-50) 50) (va_cwS 3 hts (lw_S q204 q205 q35 q206) rfl rfl rfl (by decide +kernel) ⟨Nat.le_of_ble_eq_true rfl, Nat.le_of_ble_eq_true rfl⟩) rfl hl.1 rfl (lv_room (Nat.le_of_ble_eq_true rfl)) dX0_rule_37 ⟨Nat.le_of_ble_eq_true rfl, Nat.le_of_ble_eq_true rfl⟩ (fun r_10 hr_11 => ?_)
        refine lv_if_ne (tgt := 45) hx hb dX0_rule_40 (by decide) (fun c_12 => ?_) (fun c_12 => ?_)
        · have c_12 := bI_ne hr_11 c_12
          refine lv_aload_n hx hb dX0_rule_45 rfl (lv_at hl 0 rfl) ?_
          refine va_get (D := G) (ci := 0) (v := .int (I 4)) (C := RX0) (T := TX0) (N := 29) hx hb hts in_X0 hown hK hP 0 rfl rfl 4 (Nat.le_of_ble_eq_true rfl) (hts _ q109) (fun _ h9 => h9) rfl dX0_rule_46 ?_
          refine y_top (y := nI n) hn ?_
          refine lv_bipush (v := 12) hx hb dX0_rule_49 (by decide +kernel) ?_
          refine lv_icmp_ne (tgt := 57) hx hb dX0_rule_51 (by decide) (fun c_13 => ?_) (fun c_13 => ?_)
          · have c_13 : ¬ n = 12 := fun h => c_13 ((nI_eq (a := n) (b := 12) (by omega) (by omega)).mpr h)
            refine lv_aload_n hx hb dX0_rule_57 rfl (lv_at hl 0 rfl) ?_
            refine va_get (D := G) (ci := 0) (v := .ref (a 5)) (C := RX0) (T := TX0) (N := 29) hx hb hts in_X0 hown hK hP 0 rfl rfl 5 (Nat.le_of_ble_eq_true rfl) (hts _ q110) (fun _ h9 => h9) rfl dX0_rule_58 ?_
            refine lv_aload_n hx hb dX0_rule_61 rfl (lv_at hl 0 rfl) ?_
            refine va_get (D := G) (ci := 0) (v := .int (I 4)) (C := RX0) (T := TX0) (N := 29) hx hb hts in_X0 hown hK hP 0 rfl rfl 4 (Nat.le_of_ble_eq_true rfl) (hts _ q109) (fun _ h9 => h9) rfl dX0_rule_62 ?_
            refine y_top (y := nI n) hn ?_
            refine lv_iload_n hx hb dX0_rule_65 rfl (lv_at hl 1 rfl) ?_
            refine y_iast (N := n) (f := F 5) hx hb hK hP hD hS 3 0 rfl rfl rfl (by omega) (by decide) dX0_rule_66 (fun H locs hP hD hS => ?_)
            have hP : va_P G CLS (XW a I (va_up F 5 (upd (F 5) n v)) S lm LP fp d) H := hP
            have hD : va_D A (XW a I (va_up F 5 (upd (F 5) n v)) S lm LP fp d) := hD
            refine lv_aload_n hx hb dX0_rule_67 rfl (lv_at hl 0 rfl) ?_
            refine va_get (D := G) (ci := 0) (v := .ref (a 6)) (C := RX0) (T := TX0) (N := 29) hx hb hts in_X0 hown hK hP 0 rfl rfl 6 (Nat.le_of_ble_eq_true rfl) (hts _ q111) (fun _ h9 => h9) rfl dX0_rule_68 ?_
            refine lv_aload_n hx hb dX0_rule_71 rfl (lv_at hl 0 rfl) ?_
            refine va_get (D := G) (ci := 0) (v := .int (I 4)) (C := RX0) (T := TX0) (N := 29) hx hb hts in_X0 hown hK hP 0 rfl rfl 4 (Nat.le_of_ble_eq_true rfl) (hts _ q109) (fun _ h9 => h9) rfl dX0_rule_72 ?_
            refine y_top (y := nI n) hn ?_
            refine lv_iload_n hx hb dX0_rule_75 rfl (lv_at hl 2 rfl) ?_
            refine y_iast (N := n) (f := F 6) hx hb hK hP hD hS 4 0 rfl rfl rfl (by omega) (by decide) dX0_rule_76 (fun H locs hP hD hS => ?_)
            have hP : va_P G CLS (XW a I (va_up (va_up F 5 (upd (F 5) n v)) 6 (upd (F 6) n c0)) S lm LP fp d) H := hP
            have hD : va_D A (XW a I (va_up (va_up F 5 (upd (F 5) n v)) 6 (upd (F 6) n c0)) S lm LP fp d) := hD
            refine lv_aload_n hx hb dX0_rule_77 rfl (lv_at hl 0 rfl) ?_
            refine va_get (D := G) (ci := 0) (v := .ref (a 7)) (C := RX0) (T := TX0) (N := 29) hx hb hts in_X0 hown hK hP 0 rfl rfl 7 (Nat.le_of_ble_eq_true rfl) (hts _ q112) (fun _ h9 => h9) rfl dX0_rule_78 ?_
            refine lv_aload_n hx hb dX0_rule_81 rfl (lv_at hl 0 rfl) ?_
            refine va_get (D := G) (ci := 0) (v := .int (I 4)) (C := RX0) (T := TX0) (N := 29) hx hb hts in_X0 hown hK hP 0 rfl rfl 4 (Nat.le_of_ble_eq_true rfl) (hts _ q109) (fun _ h9 => h9) rfl dX0_rule_82 ?_
            refine y_top (y := nI n) hn ?_
            refine lv_iload_n hx hb dX0_rule_85 rfl (lv_at hl 3 rfl) ?_
            refine y_iast (N := n) (f := F 7) hx hb hK hP hD hS 5 0 rfl rfl rfl (by omega) (by decide) dX0_rule_86 (fun H locs hP hD hS => ?_)
            have hP : va_P G CLS (XW a I (va_up (va_up (va_up F 5 (upd (F 5) n v)) 6 (upd (F 6) n c0)) 7 (upd (F 7) n p0)) S lm LP fp d) H := hP
            have hD : va_D A (XW a I (va_up (va_up (va_up F 5 (upd (F 5) n v)) 6 (upd (F 6) n c0)) 7 (upd (F 7) n p0)) S lm LP fp d) := hD
            refine lv_aload_n hx hb dX0_rule_87 rfl (lv_at hl 0 rfl) ?_
            refine va_get (D := G) (ci := 0) (v := .ref (a 8)) (C := RX0) (T := TX0) (N := 29) hx hb hts in_X0 hown hK hP 0 rfl rfl 8 (Nat.le_of_ble_eq_true rfl) (hts _ q113) (fun _ h9 => h9) rfl dX0_rule_88 ?_
            refine lv_aload_n hx hb dX0_rule_91 rfl (lv_at hl 0 rfl) ?_
            refine va_get (D := G) (ci := 0) (v := .int (I 4)) (C := RX0) (T := TX0) (N := 29) hx hb hts in_X0 hown hK hP 0 rfl rfl 4 (Nat.le_of_ble_eq_true rfl) (hts _ q109) (fun _ h9 => h9) rfl dX0_rule_92 ?_
            refine y_top (y := nI n) hn ?_
            refine lv_iload hx hb dX0_rule_95 (lv_at hl 4 rfl) ?_
            refine y_iast (N := n) (f := F 8) hx hb hK hP hD hS 6 0 rfl rfl rfl (by omega) (by decide) dX0_rule_97 (fun H locs hP hD hS => ?_)
            have hP : va_P G CLS (XW a I (va_up (va_up (va_up (va_up F 5 (upd (F 5) n v)) 6 (upd (F 6) n c0)) 7 (upd (F 7) n p0)) 8 (upd (F 8) n w)) S lm LP fp d) H := hP
            have hD : va_D A (XW a I (va_up (va_up (va_up (va_up F 5 (upd (F 5) n v)) 6 (upd (F 6) n c0)) 7 (upd (F 7) n p0)) 8 (upd (F 8) n w)) S lm LP fp d) := hD
            refine lv_aload_n hx hb dX0_rule_98 rfl (lv_at hl 0 rfl) ?_
            refine lv_dup hx hb dX0_rule_99 rfl ?_
            refine va_get (D := G) (ci := 0) (v := .int (I 4)) (C := RX0) (T := TX0) (N := 29) hx hb hts in_X0 hown hK hP 0 rfl rfl 4 (Nat.le_of_ble_eq_true rfl) (hts _ q109) (fun _ h9 => h9) rfl dX0_rule_100 ?_
            refine y_top (y := nI n) hn ?_
            refine lv_iconst (v := 1) hx hb dX0_rule_103 (by decide) ?_
            refine lv_iadd hx hb dX0_rule_104 ?_
            refine y_top (y := nI (n + 1)) (nI_add n 1) ?_
            refine va_put (D := G) (ci := 0) (v := .int (nI (n + 1))) (ty := .int) (C := RX0) (T := TX0) (N := 29) hx hb hts in_X0 tyX0 tyX0_ok nmX0 hown hK hP hD hS 0 rfl rfl 4 (Nat.le_of_ble_eq_true rfl) (hts _ q109) (fun _ h9 => h9) rfl (by decide +kernel) rfl rfl (Nat.le_of_ble_eq_true rfl) dX0_rule_105 (fun H locs hP hD hS => ?_)
            have hP : va_P G CLS (XW a (upd I 4 (nI (n + 1))) (va_up (va_up (va_up (va_up F 5 (upd (F 5) n v)) 6 (upd (F 6) n c0)) 7 (upd (F 7) n p0)) 8 (upd (F 8) n w)) S lm LP fp d) H := hP
            have hD : va_D A (XW a (upd I 4 (nI (n + 1))) (va_up (va_up (va_up (va_up F 5 (upd (F 5) n v)) 6 (upd (F 6) n c0)) 7 (upd (F 7) n p0)) 8 (upd (F 8) n w)) S lm LP fp d) := hD
            refine lv_aload_n hx hb dX0_rule_108 rfl (lv_at hl 0 rfl) ?_
            refine va_get (D := G) (ci := 0) (v := .int (nI (n + 1))) (C := RX0) (T := TX0) (N := 29) hx hb hts in_X0 hown hK hP 0 rfl rfl 4 (Nat.le_of_ble_eq_true rfl) (hts _ q109) (fun _ h9 => h9) rfl dX0_rule_109 ?_
            refine lv_iconst (v := 1) hx hb dX0_rule_112 (by decide) ?_
            refine lv_isub hx hb dX0_rule_113 ?_
            refine y_top (y := nI ((n + 1) - 1)) (pk_sub (a := n + 1) (b := 1) (by omega)) ?_
            exact W.iret (v := nI ((n + 1) - 1)) hx hb hr (fun t ht hW => ⟨⟨nI ((n + 1) - 1), (upd I 4 (nI (n + 1)), va_up (va_up (va_up (va_up F 5 (upd (F 5) n v)) 6 (upd (F 6) n c0)) 7 (upd (F 7) n p0)) 8 (upd (F 8) n w)), rfl, by unfold ruleOp; rw [if_pos ⟨c_3, c_6, c_9, c_12⟩, if_neg c_13, Nat.add_sub_cancel], by rw [ht]; exact hP, va_K.moved hW.alike hK, hD⟩, hS.F ht⟩) hS.2.2 dX0_rule_114
          · have c_13 : n = 12 := (nI_eq (a := n) (b := 12) (by omega) (by omega)).mp c_13
            refine lv_bipush (v := (-2)) hx hb dX0_rule_54 (by decide +kernel) ?_
            exact W.iret (v := (-2)) hx hb hr (fun t ht hW => ⟨⟨(-2), (I, F), rfl, by unfold ruleOp; rw [if_pos ⟨c_3, c_6, c_9, c_12⟩, if_pos c_13], by rw [ht]; exact hP, va_K.moved hW.alike hK, hD⟩, hS.F ht⟩) hS.2.2 dX0_rule_56
        · have c_12 := bI_eq hr_11 c_12
          refine lv_iconst (v := (-1)) hx hb dX0_rule_43 (by decide) ?_
          exact W.iret (v := (-1)) hx hb hr (fun t ht hW => ⟨⟨(-1), (I, F), rfl, (if_neg (fun h => c_12 (h.2.2.2))).symm, by rw [ht]; exact hP, va_K.moved hW.alike hK, hD⟩, hS.F ht⟩) hS.2.2 dX0_rule_44
set_option maxHeartbeats 400000 in
set_option maxRecDepth 100000 in
theorem metX0_ply (l : Launch) (G : va_G) (d : Nat → Nat) (sz : Nat) (a : Nat → Nat) (I : Nat → Int32) (F : Nat → Nat → Int32) (S : Nat → Nat → Option Nat) (lm : Int32 × Nat × Int32) (LP : List Nat) (fp : Nat → va_E) (x : Int32) (n : Nat) (hn8 : n ≤ 8) (hn : I 9 = nI n) (hb9 : ∀ k, k < n → inR (F 10 k) 1 1000) : Met l yX0_ply (ws_ yX0_ply cX0_ply 2 (some FieldType.int)) ({ frames := 1, cells := 0, slots := 0, locals := 22 } : Room) (va_Pc [.ref (a 0), .int x] (pW G d sz (XW a I F S lm LP fp d))) (va_Qi (fun (r : Int32) (u : MS) => (r, u) = plyOp 9 10 n (I, F) x) (fun (u : MS) t => bW G d (va_A (XW a I F S lm LP fp d) sz) (XW a u.1 u.2 S lm LP fp d) t) (va_A (XW a I F S lm LP fp d) sz)) 0 0 (va_A (XW a I F S lm LP fp d) sz) := by
  refine Met.ofW (cc := cX0_ply) (maxL := 2) (ret := (some FieldType.int)) (by decide) rfl ?_
  intro p e s m args below meth c s₁ B hml hv
  obtain ⟨rfl, hsz, hP, hK, hD0⟩ := hv
  have hx := B.exec
  have hb := B.bytes
  have hr := B.returns
  have hts := atoms_spec (ws := (ws_ yX0_ply cX0_ply 2 (some FieldType.int))) B.pre
  have hts : ∀ w ∈ lw_all, w.before _ s = true := fun w h => hts w (List.mem_cons_of_mem _ h)
  have hown : s.vm.findClass RX0 = some m.cls := findClass_of_methodNamed B.named
  have hlocks := B.notSynchronized
  subst hsz
  have hD := hD0.self (sz := s.heap.size)
  generalize hAe : va_A (XW a I F S lm LP fp d) s.heap.size = A at hD ⊢
  have hA : ∀ q : Nat, s.heap.size ≤ q → A q := fun q h => by rw [← hAe]; exact Or.inr h
  have hS : va_S A s.heap s.heap [] := va_S.rf
  have hl := lv_entry ([.ref (a 0), .int x]) (n := 2) (Nat.le_of_ble_eq_true rfl)
  rw [lg_entry_eq]
  generalize (lg_sl ([.ref (a 0), .int x]) ++ List.replicate (2 - (lg_sl ([.ref (a 0), .int x])).length) Slot.unset).toArray = ls at hl ⊢
  have hl : lv_has ls 2 [(0, .ref (a 0)), (1, .int x)] := hl
  have hP : va_P G CLS (XW a I F S lm LP fp d) s.heap := hP
  refine lv_iload_n hx hb dX0_ply_0 rfl (lv_at hl 1 rfl) ?_
  have hj_1 : ∀ (e9 : Int32) (he9 : e9 = if n = 0 then 1 else F 10 (n - 1) + 1), W p l e (headSpec (ws_ yX0_ply cX0_ply 2 (some FieldType.int)) ({ frames := 1, cells := 0, slots := 0, locals := 22 } : Room)).room s m ([.ref (a 0), .int x] : List Value).toArray below meth c s.heap [] 0 0 (MQ below (va_Qi (fun (r : Int32) (u : MS) => (r, u) = plyOp 9 10 n (I, F) x) (fun (u : MS) t => bW G d A (XW a u.1 u.2 S lm LP fp d) t) A) ([.ref (a 0), .int x] : List Value).toArray s 0 0 A) (F0 m 25 ls [.int e9, .int x]) := by
    intro e9 he9
    refine lv_sipush (v := 1000) hx hb dX0_ply_25 (by decide +kernel) ?_
    refine y_rS (As := [.int x, .int e9, .int 1000]) (rest := []) ⟨hx, hb, hml, hown, hts⟩ hK (ws := []) (fun _ _ h => by cases h) (metX0_in l G d x e9 1000) (va_cwS 3 hts (lw_S q204 q205 q35 q206) rfl rfl rfl (by decide +kernel) ⟨Nat.le_of_ble_eq_true rfl, Nat.le_of_ble_eq_true rfl⟩) rfl hl.1 rfl (lv_room (Nat.le_of_ble_eq_true rfl)) dX0_ply_28 ⟨Nat.le_of_ble_eq_true rfl, Nat.le_of_ble_eq_true rfl⟩ (fun r_2 hr_3 => ?_)
    refine lv_if_ne (tgt := 36) hx hb dX0_ply_31 (by decide) (fun c_4 => ?_) (fun c_4 => ?_)
    · have c_4 := bI_ne hr_3 c_4
      have hp9 := (ply_in hb9 he9).mp c_4
      refine lv_aload_n hx hb dX0_ply_36 rfl (lv_at hl 0 rfl) ?_
      refine va_get (D := G) (ci := 0) (v := .int (I 9)) (C := RX0) (T := TX0) (N := 29) hx hb hts in_X0 hown hK hP 0 rfl rfl 9 (Nat.le_of_ble_eq_true rfl) (hts _ q114) (fun _ h9 => h9) rfl dX0_ply_37 ?_
      refine y_top (y := nI n) hn ?_
      refine lv_bipush (v := 8) hx hb dX0_ply_40 (by decide +kernel) ?_
      refine lv_icmp_ne (tgt := 48) hx hb dX0_ply_42 (by decide) (fun c_5 => ?_) (fun c_5 => ?_)
      · have c_5 : ¬ n = 8 := fun h => c_5 ((nI_eq (a := n) (b := 8) (by omega) (by omega)).mpr h)
        refine lv_aload_n hx hb dX0_ply_48 rfl (lv_at hl 0 rfl) ?_
        refine va_get (D := G) (ci := 0) (v := .ref (a 10)) (C := RX0) (T := TX0) (N := 29) hx hb hts in_X0 hown hK hP 0 rfl rfl 10 (Nat.le_of_ble_eq_true rfl) (hts _ q115) (fun _ h9 => h9) rfl dX0_ply_49 ?_
        refine lv_aload_n hx hb dX0_ply_52 rfl (lv_at hl 0 rfl) ?_
        refine va_get (D := G) (ci := 0) (v := .int (I 9)) (C := RX0) (T := TX0) (N := 29) hx hb hts in_X0 hown hK hP 0 rfl rfl 9 (Nat.le_of_ble_eq_true rfl) (hts _ q114) (fun _ h9 => h9) rfl dX0_ply_53 ?_
        refine y_top (y := nI n) hn ?_
        refine lv_iload_n hx hb dX0_ply_56 rfl (lv_at hl 1 rfl) ?_
        refine y_iast (N := n) (f := F 10) hx hb hK hP hD hS 7 0 rfl rfl rfl (by omega) (by decide) dX0_ply_57 (fun H locs hP hD hS => ?_)
        have hP : va_P G CLS (XW a I (va_up F 10 (upd (F 10) n x)) S lm LP fp d) H := hP
        have hD : va_D A (XW a I (va_up F 10 (upd (F 10) n x)) S lm LP fp d) := hD
        refine lv_aload_n hx hb dX0_ply_58 rfl (lv_at hl 0 rfl) ?_
        refine lv_dup hx hb dX0_ply_59 rfl ?_
        refine va_get (D := G) (ci := 0) (v := .int (I 9)) (C := RX0) (T := TX0) (N := 29) hx hb hts in_X0 hown hK hP 0 rfl rfl 9 (Nat.le_of_ble_eq_true rfl) (hts _ q114) (fun _ h9 => h9) rfl dX0_ply_60 ?_
        refine y_top (y := nI n) hn ?_
        refine lv_iconst (v := 1) hx hb dX0_ply_63 (by decide) ?_
        refine lv_iadd hx hb dX0_ply_64 ?_
        refine y_top (y := nI (n + 1)) (nI_add n 1) ?_
        refine va_put (D := G) (ci := 0) (v := .int (nI (n + 1))) (ty := .int) (C := RX0) (T := TX0) (N := 29) hx hb hts in_X0 tyX0 tyX0_ok nmX0 hown hK hP hD hS 0 rfl rfl 9 (Nat.le_of_ble_eq_true rfl) (hts _ q114) (fun _ h9 => h9) rfl (by decide +kernel) rfl rfl (Nat.le_of_ble_eq_true rfl) dX0_ply_65 (fun H locs hP hD hS => ?_)
        have hP : va_P G CLS (XW a (upd I 9 (nI (n + 1))) (va_up F 10 (upd (F 10) n x)) S lm LP fp d) H := hP
        have hD : va_D A (XW a (upd I 9 (nI (n + 1))) (va_up F 10 (upd (F 10) n x)) S lm LP fp d) := hD
        refine lv_aload_n hx hb dX0_ply_68 rfl (lv_at hl 0 rfl) ?_
        refine va_get (D := G) (ci := 0) (v := .int (nI (n + 1))) (C := RX0) (T := TX0) (N := 29) hx hb hts in_X0 hown hK hP 0 rfl rfl 9 (Nat.le_of_ble_eq_true rfl) (hts _ q114) (fun _ h9 => h9) rfl dX0_ply_69 ?_
        exact W.iret (v := nI (n + 1)) hx hb hr (fun t ht hW => ⟨⟨nI (n + 1), (upd I 9 (nI (n + 1)), va_up F 10 (upd (F 10) n x)), rfl, by unfold plyOp; rw [if_pos hp9, if_neg c_5], by rw [ht]; exact hP, va_K.moved hW.alike hK, hD⟩, hS.F ht⟩) hS.2.2 dX0_ply_72
      · have c_5 : n = 8 := (nI_eq (a := n) (b := 8) (by omega) (by omega)).mp c_5
        refine lv_bipush (v := (-2)) hx hb dX0_ply_45 (by decide +kernel) ?_
        exact W.iret (v := (-2)) hx hb hr (fun t ht hW => ⟨⟨(-2), (I, F), rfl, by unfold plyOp; rw [if_pos hp9, if_pos c_5], by rw [ht]; exact hP, va_K.moved hW.alike hK, hD⟩, hS.F ht⟩) hS.2.2 dX0_ply_47
    · have c_4 := bI_eq hr_3 c_4
      have hp9 := fun h => c_4 ((ply_in hb9 he9).mpr h)
      refine lv_iconst (v := (-1)) hx hb dX0_ply_34 (by decide) ?_
      exact W.iret (v := (-1)) hx hb hr (fun t ht hW => ⟨⟨(-1), (I, F), rfl, (if_neg hp9).symm, by rw [ht]; exact hP, va_K.moved hW.alike hK, hD⟩, hS.F ht⟩) hS.2.2 dX0_ply_35
  refine lv_aload_n hx hb dX0_ply_1 rfl (lv_at hl 0 rfl) ?_
  refine va_get (D := G) (ci := 0) (v := .int (I 9)) (C := RX0) (T := TX0) (N := 29) hx hb hts in_X0 hown hK hP 0 rfl rfl 9 (Nat.le_of_ble_eq_true rfl) (hts _ q114) (fun _ h9 => h9) rfl dX0_ply_2 ?_
  refine y_top (y := nI n) hn ?_
  refine lv_if_ne (tgt := 12) hx hb dX0_ply_5 (by decide) (fun c_6 => ?_) (fun c_6 => ?_)
  · have c_6 : ¬ n = 0 := fun h => c_6 ((nI_eq (a := n) (b := 0) (by omega) (by omega)).mpr h)
    refine lv_aload_n hx hb dX0_ply_12 rfl (lv_at hl 0 rfl) ?_
    refine va_get (D := G) (ci := 0) (v := .ref (a 10)) (C := RX0) (T := TX0) (N := 29) hx hb hts in_X0 hown hK hP 0 rfl rfl 10 (Nat.le_of_ble_eq_true rfl) (hts _ q115) (fun _ h9 => h9) rfl dX0_ply_13 ?_
    refine lv_aload_n hx hb dX0_ply_16 rfl (lv_at hl 0 rfl) ?_
    refine va_get (D := G) (ci := 0) (v := .int (I 9)) (C := RX0) (T := TX0) (N := 29) hx hb hts in_X0 hown hK hP 0 rfl rfl 9 (Nat.le_of_ble_eq_true rfl) (hts _ q114) (fun _ h9 => h9) rfl dX0_ply_17 ?_
    refine y_top (y := nI n) hn ?_
    refine lv_iconst (v := 1) hx hb dX0_ply_20 (by decide) ?_
    refine lv_isub hx hb dX0_ply_21 ?_
    refine y_top (y := nI (n - 1)) (pk_sub (a := n) (b := 1) (by omega)) ?_
    refine y_iald (N := n - 1) (f := F 10) hx hb hK hP 7 0 rfl rfl rfl (by omega) (by decide) dX0_ply_22 ?_
    refine lv_iconst (v := 1) hx hb dX0_ply_23 (by decide) ?_
    refine lv_iadd hx hb dX0_ply_24 ?_
    exact hj_1 _ (if_neg c_6).symm
  · have c_6 : n = 0 := (nI_eq (a := n) (b := 0) (by omega) (by omega)).mp c_6
    refine lv_iconst (v := 1) hx hb dX0_ply_8 (by decide) ?_
    refine lv_goto (tgt := 25) hx hb dX0_ply_9 (by decide) ?_
    exact hj_1 _ (if_pos c_6).symm
set_option maxHeartbeats 400000 in
set_option maxRecDepth 100000 in
theorem metX0_step (l : Launch) (G : va_G) (d : Nat → Nat) (sz : Nat) (a : Nat → Nat) (I : Nat → Int32) (F : Nat → Nat → Int32) (S : Nat → Nat → Option Nat) (lm : Int32 × Nat × Int32) (LP : List Nat) (fp : Nat → va_E) (w x : Int32) (hsz : ∀ w, w < 2 → ∃ z, z ≤ 40 ∧ F 28 w = nI z) : Met l yX0_step (ws_ yX0_step cX0_step 3 (some FieldType.int)) ({ frames := 1, cells := 0, slots := 0, locals := 22 } : Room) (va_Pc [.ref (a 0), .int w, .int x] (pW G d sz (XW a I F S lm LP fp d))) (va_Qi (fun (r : Int32) (u : MS) => (r, u) = stepOp 28 27 (I, F) w x) (fun (u : MS) t => bW G d (va_A (XW a I F S lm LP fp d) sz) (XW a u.1 u.2 S lm LP fp d) t) (va_A (XW a I F S lm LP fp d) sz)) 0 0 (va_A (XW a I F S lm LP fp d) sz) := by
  refine Met.ofW (cc := cX0_step) (maxL := 3) (ret := (some FieldType.int)) (by decide) rfl ?_
  intro p e s m args below meth c s₁ B hml hv
  obtain ⟨rfl, hsz, hP, hK, hD0⟩ := hv
  have hx := B.exec
  have hb := B.bytes
  have hr := B.returns
  have hts := atoms_spec (ws := (ws_ yX0_step cX0_step 3 (some FieldType.int))) B.pre
  have hts : ∀ w ∈ lw_all, w.before _ s = true := fun w h => hts w (List.mem_cons_of_mem _ h)
  have hown : s.vm.findClass RX0 = some m.cls := findClass_of_methodNamed B.named
  have hlocks := B.notSynchronized
  subst hsz
  have hD := hD0.self (sz := s.heap.size)
  generalize hAe : va_A (XW a I F S lm LP fp d) s.heap.size = A at hD ⊢
  have hA : ∀ q : Nat, s.heap.size ≤ q → A q := fun q h => by rw [← hAe]; exact Or.inr h
  have hS : va_S A s.heap s.heap [] := va_S.rf
  have hl := lv_entry ([.ref (a 0), .int w, .int x]) (n := 3) (Nat.le_of_ble_eq_true rfl)
  rw [lg_entry_eq]
  generalize (lg_sl ([.ref (a 0), .int w, .int x]) ++ List.replicate (3 - (lg_sl ([.ref (a 0), .int w, .int x])).length) Slot.unset).toArray = ls at hl ⊢
  have hl : lv_has ls 3 [(0, .ref (a 0)), (1, .int w), (2, .int x)] := hl
  have hP : va_P G CLS (XW a I F S lm LP fp d) s.heap := hP
  refine lv_iload_n hx hb dX0_step_0 rfl (lv_at hl 1 rfl) ?_
  refine lv_iconst (v := 0) hx hb dX0_step_1 (by decide) ?_
  refine lv_iconst (v := 1) hx hb dX0_step_2 (by decide) ?_
  refine y_rS (As := [.int w, .int 0, .int 1]) (rest := []) ⟨hx, hb, hml, hown, hts⟩ hK (ws := []) (fun _ _ h => by cases h) (metX0_in l G d w 0 1) (va_cwS 3 hts (lw_S q204 q205 q35 q206) rfl rfl rfl (by decide +kernel) ⟨Nat.le_of_ble_eq_true rfl, Nat.le_of_ble_eq_true rfl⟩) rfl hl.1 rfl (lv_room (Nat.le_of_ble_eq_true rfl)) dX0_step_3 ⟨Nat.le_of_ble_eq_true rfl, Nat.le_of_ble_eq_true rfl⟩ (fun r_1 hr_2 => ?_)
  refine lv_if_eq (tgt := 20) hx hb dX0_step_6 (by decide) (fun c_3 => ?_) (fun c_3 => ?_)
  · have c_3 := bI_eq hr_2 c_3
    refine lv_iconst (v := (-1)) hx hb dX0_step_20 (by decide) ?_
    exact W.iret (v := (-1)) hx hb hr (fun t ht hW => ⟨⟨(-1), (I, F), rfl, (if_neg (fun h => c_3 (h.1))).symm, by rw [ht]; exact hP, va_K.moved hW.alike hK, hD⟩, hS.F ht⟩) hS.2.2 dX0_step_21
  · have c_3 := bI_ne hr_2 c_3
    refine lv_iload_n hx hb dX0_step_9 rfl (lv_at hl 2 rfl) ?_
    refine lv_iconst (v := 0) hx hb dX0_step_10 (by decide) ?_
    refine lv_sipush (v := 2000) hx hb dX0_step_11 (by decide +kernel) ?_
    refine y_rS (As := [.int x, .int 0, .int 2000]) (rest := []) ⟨hx, hb, hml, hown, hts⟩ hK (ws := []) (fun _ _ h => by cases h) (metX0_in l G d x 0 2000) (va_cwS 3 hts (lw_S q204 q205 q35 q206) rfl rfl rfl (by decide +kernel) ⟨Nat.le_of_ble_eq_true rfl, Nat.le_of_ble_eq_true rfl⟩) rfl hl.1 rfl (lv_room (Nat.le_of_ble_eq_true rfl)) dX0_step_14 ⟨Nat.le_of_ble_eq_true rfl, Nat.le_of_ble_eq_true rfl⟩ (fun r_4 hr_5 => ?_)
    refine lv_if_ne (tgt := 22) hx hb dX0_step_17 (by decide) (fun c_6 => ?_) (fun c_6 => ?_)
    · have c_6 := bI_ne hr_5 c_6
      obtain ⟨k, hk, rfl⟩ := inR_n (n := 1) (by decide) c_3
      obtain ⟨z, hz40, hz⟩ := hsz k (by omega)
      refine lv_aload_n hx hb dX0_step_22 rfl (lv_at hl 0 rfl) ?_
      refine va_get (D := G) (ci := 0) (v := .ref (a 28)) (C := RX0) (T := TX0) (N := 29) hx hb hts in_X0 hown hK hP 0 rfl rfl 28 (Nat.le_of_ble_eq_true rfl) (hts _ q137) (fun _ h9 => h9) rfl dX0_step_23 ?_
      refine lv_iload_n hx hb dX0_step_26 rfl (lv_at hl 1 rfl) ?_
      refine y_iald (N := k) (f := F 28) hx hb hK hP 14 0 rfl rfl rfl (by omega) (by decide) dX0_step_27 ?_
      refine y_top (y := nI z) hz ?_
      refine lv_bipush (v := 40) hx hb dX0_step_28 (by decide +kernel) ?_
      refine lv_icmp_ne (tgt := 36) hx hb dX0_step_30 (by decide) (fun c_7 => ?_) (fun c_7 => ?_)
      · have c_7 : ¬ z = 40 := fun h => c_7 ((nI_eq (a := z) (b := 40) (by omega) (by omega)).mpr h)
        refine lv_aload_n hx hb dX0_step_36 rfl (lv_at hl 0 rfl) ?_
        refine va_get (D := G) (ci := 0) (v := .ref (a 27)) (C := RX0) (T := TX0) (N := 29) hx hb hts in_X0 hown hK hP 0 rfl rfl 27 (Nat.le_of_ble_eq_true rfl) (hts _ q136) (fun _ h9 => h9) rfl dX0_step_37 ?_
        refine lv_bipush (v := 40) hx hb dX0_step_40 (by decide +kernel) ?_
        refine lv_iload_n hx hb dX0_step_42 rfl (lv_at hl 1 rfl) ?_
        refine lv_imul hx hb dX0_step_43 ?_
        refine y_top (y := nI (40 * k)) (pk_mul 40 k) ?_
        refine lv_aload_n hx hb dX0_step_44 rfl (lv_at hl 0 rfl) ?_
        refine va_get (D := G) (ci := 0) (v := .ref (a 28)) (C := RX0) (T := TX0) (N := 29) hx hb hts in_X0 hown hK hP 0 rfl rfl 28 (Nat.le_of_ble_eq_true rfl) (hts _ q137) (fun _ h9 => h9) rfl dX0_step_45 ?_
        refine lv_iload_n hx hb dX0_step_48 rfl (lv_at hl 1 rfl) ?_
        refine y_iald (N := k) (f := F 28) hx hb hK hP 14 0 rfl rfl rfl (by omega) (by decide) dX0_step_49 ?_
        refine y_top (y := nI z) hz ?_
        refine lv_iadd hx hb dX0_step_50 ?_
        refine y_top (y := nI ((40 * k) + z)) (nI_add (40 * k) z) ?_
        refine lv_iload_n hx hb dX0_step_51 rfl (lv_at hl 2 rfl) ?_
        refine y_iast (N := (40 * k) + z) (f := F 27) hx hb hK hP hD hS 13 0 rfl rfl rfl (by omega) (by decide) dX0_step_52 (fun H locs hP hD hS => ?_)
        have hP : va_P G CLS (XW a I (va_up F 27 (upd (F 27) ((40 * k) + z) x)) S lm LP fp d) H := hP
        have hD : va_D A (XW a I (va_up F 27 (upd (F 27) ((40 * k) + z) x)) S lm LP fp d) := hD
        refine lv_aload_n hx hb dX0_step_53 rfl (lv_at hl 0 rfl) ?_
        refine va_get (D := G) (ci := 0) (v := .ref (a 28)) (C := RX0) (T := TX0) (N := 29) hx hb hts in_X0 hown hK hP 0 rfl rfl 28 (Nat.le_of_ble_eq_true rfl) (hts _ q137) (fun _ h9 => h9) rfl dX0_step_54 ?_
        refine lv_iload_n hx hb dX0_step_57 rfl (lv_at hl 1 rfl) ?_
        refine lv_dup2_11 hx hb dX0_step_58 rfl rfl ?_
        refine y_iald (N := k) (f := F 28) hx hb hK hP 14 0 rfl rfl rfl (by omega) (by decide) dX0_step_59 ?_
        refine y_top (y := nI z) hz ?_
        refine lv_iconst (v := 1) hx hb dX0_step_60 (by decide) ?_
        refine lv_iadd hx hb dX0_step_61 ?_
        refine y_top (y := nI (z + 1)) (nI_add z 1) ?_
        refine y_iast (N := k) (f := F 28) hx hb hK hP hD hS 14 0 rfl rfl rfl (by omega) (by decide) dX0_step_62 (fun H locs hP hD hS => ?_)
        have hP : va_P G CLS (XW a I (va_up (va_up F 27 (upd (F 27) ((40 * k) + z) x)) 28 (upd (F 28) k (nI (z + 1)))) S lm LP fp d) H := hP
        have hD : va_D A (XW a I (va_up (va_up F 27 (upd (F 27) ((40 * k) + z) x)) 28 (upd (F 28) k (nI (z + 1)))) S lm LP fp d) := hD
        refine lv_aload_n hx hb dX0_step_63 rfl (lv_at hl 0 rfl) ?_
        refine va_get (D := G) (ci := 0) (v := .ref (a 28)) (C := RX0) (T := TX0) (N := 29) hx hb hts in_X0 hown hK hP 0 rfl rfl 28 (Nat.le_of_ble_eq_true rfl) (hts _ q137) (fun _ h9 => h9) rfl dX0_step_64 ?_
        refine lv_iload_n hx hb dX0_step_67 rfl (lv_at hl 1 rfl) ?_
        refine y_iald (N := k) (f := (upd (F 28) k (nI (z + 1)))) hx hb hK hP 14 0 rfl rfl rfl (by omega) (by decide) dX0_step_68 ?_
        refine y_top (y := nI (z + 1)) pk_us ?_
        exact W.iret (v := nI (z + 1)) hx hb hr (fun t ht hW => ⟨⟨nI (z + 1), (I, va_up (va_up F 27 (upd (F 27) ((40 * k) + z) x)) 28 (upd (F 28) k (nI (z + 1)))), rfl, by unfold stepOp; rw [if_pos ⟨c_3, c_6⟩, cl_nI (show k < 2 ^ 31 by omega), show (I, F).2 28 k = nI z from hz, cl_nI (show z < 2 ^ 31 by omega), if_neg c_7], by rw [ht]; exact hP, va_K.moved hW.alike hK, hD⟩, hS.F ht⟩) hS.2.2 dX0_step_69
      · have c_7 : z = 40 := (nI_eq (a := z) (b := 40) (by omega) (by omega)).mp c_7
        refine lv_bipush (v := (-2)) hx hb dX0_step_33 (by decide +kernel) ?_
        exact W.iret (v := (-2)) hx hb hr (fun t ht hW => ⟨⟨(-2), (I, F), rfl, by unfold stepOp; rw [if_pos ⟨c_3, c_6⟩, cl_nI (show k < 2 ^ 31 by omega), show (I, F).2 28 k = nI z from hz, cl_nI (show z < 2 ^ 31 by omega), if_pos c_7], by rw [ht]; exact hP, va_K.moved hW.alike hK, hD⟩, hS.F ht⟩) hS.2.2 dX0_step_35
    · have c_6 := bI_eq hr_5 c_6
      refine lv_iconst (v := (-1)) hx hb dX0_step_20 (by decide) ?_
      exact W.iret (v := (-1)) hx hb hr (fun t ht hW => ⟨⟨(-1), (I, F), rfl, (if_neg (fun h => c_6 (h.2))).symm, by rw [ht]; exact hP, va_K.moved hW.alike hK, hD⟩, hS.F ht⟩) hS.2.2 dX0_step_21
set_option maxHeartbeats 400000 in
set_option maxRecDepth 100000 in
theorem metX0_clear (l : Launch) (G : va_G) (d : Nat → Nat) (sz : Nat) (a : Nat → Nat) (I : Nat → Int32) (F : Nat → Nat → Int32) (S : Nat → Nat → Option Nat) (lm : Int32 × Nat × Int32) (LP : List Nat) (fp : Nat → va_E) (w : Int32) : Met l yX0_clear (ws_ yX0_clear cX0_clear 3 (some FieldType.int)) ({ frames := 1, cells := 0, slots := 0, locals := 22 } : Room) (va_Pc [.ref (a 0), .int w] (pW G d sz (XW a I F S lm LP fp d))) (va_Qi (fun (r : Int32) (u : MS) => (r, u) = clearOp 28 (I, F) w) (fun (u : MS) t => bW G d (va_A (XW a I F S lm LP fp d) sz) (XW a u.1 u.2 S lm LP fp d) t) (va_A (XW a I F S lm LP fp d) sz)) 0 0 (va_A (XW a I F S lm LP fp d) sz) := by
  refine Met.ofW (cc := cX0_clear) (maxL := 3) (ret := (some FieldType.int)) (by decide) rfl ?_
  intro p e s m args below meth c s₁ B hml hv
  obtain ⟨rfl, hsz, hP, hK, hD0⟩ := hv
  have hx := B.exec
  have hb := B.bytes
  have hr := B.returns
  have hts := atoms_spec (ws := (ws_ yX0_clear cX0_clear 3 (some FieldType.int))) B.pre
  have hts : ∀ w ∈ lw_all, w.before _ s = true := fun w h => hts w (List.mem_cons_of_mem _ h)
  have hown : s.vm.findClass RX0 = some m.cls := findClass_of_methodNamed B.named
  have hlocks := B.notSynchronized
  subst hsz
  have hD := hD0.self (sz := s.heap.size)
  generalize hAe : va_A (XW a I F S lm LP fp d) s.heap.size = A at hD ⊢
  have hA : ∀ q : Nat, s.heap.size ≤ q → A q := fun q h => by rw [← hAe]; exact Or.inr h
  have hS : va_S A s.heap s.heap [] := va_S.rf
  have hl := lv_entry ([.ref (a 0), .int w]) (n := 3) (Nat.le_of_ble_eq_true rfl)
  rw [lg_entry_eq]
  generalize (lg_sl ([.ref (a 0), .int w]) ++ List.replicate (3 - (lg_sl ([.ref (a 0), .int w])).length) Slot.unset).toArray = ls at hl ⊢
  have hl : lv_has ls 3 [(0, .ref (a 0)), (1, .int w)] := hl
  have hP : va_P G CLS (XW a I F S lm LP fp d) s.heap := hP
  refine lv_iload_n hx hb dX0_clear_0 rfl (lv_at hl 1 rfl) ?_
  refine lv_iconst (v := 0) hx hb dX0_clear_1 (by decide) ?_
  refine lv_iconst (v := 1) hx hb dX0_clear_2 (by decide) ?_
  refine y_rS (As := [.int w, .int 0, .int 1]) (rest := []) ⟨hx, hb, hml, hown, hts⟩ hK (ws := []) (fun _ _ h => by cases h) (metX0_in l G d w 0 1) (va_cwS 3 hts (lw_S q204 q205 q35 q206) rfl rfl rfl (by decide +kernel) ⟨Nat.le_of_ble_eq_true rfl, Nat.le_of_ble_eq_true rfl⟩) rfl hl.1 rfl (lv_room (Nat.le_of_ble_eq_true rfl)) dX0_clear_3 ⟨Nat.le_of_ble_eq_true rfl, Nat.le_of_ble_eq_true rfl⟩ (fun r_1 hr_2 => ?_)
  refine lv_if_ne (tgt := 11) hx hb dX0_clear_6 (by decide) (fun c_3 => ?_) (fun c_3 => ?_)
  · have c_3 := bI_ne hr_2 c_3
    obtain ⟨k, hk, rfl⟩ := inR_n (n := 1) (by decide) c_3
    refine lv_aload_n hx hb dX0_clear_11 rfl (lv_at hl 0 rfl) ?_
    refine va_get (D := G) (ci := 0) (v := .ref (a 28)) (C := RX0) (T := TX0) (N := 29) hx hb hts in_X0 hown hK hP 0 rfl rfl 28 (Nat.le_of_ble_eq_true rfl) (hts _ q137) (fun _ h9 => h9) rfl dX0_clear_12 ?_
    refine lv_iload_n hx hb dX0_clear_15 rfl (lv_at hl 1 rfl) ?_
    refine y_iald (N := k) (f := F 28) hx hb hK hP 14 0 rfl rfl rfl (by omega) (by decide) dX0_clear_16 ?_
    refine lv_istore_n (lv' := [(2, .int ((F 28) k)), (0, .ref (a 0)), (1, .int (nI k))]) hx hb dX0_clear_17 rfl hl (Nat.le_of_ble_eq_true rfl) rfl (fun ls hl => ?_)
    refine lv_aload_n hx hb dX0_clear_18 rfl (lv_at hl 1 rfl) ?_
    refine va_get (D := G) (ci := 0) (v := .ref (a 28)) (C := RX0) (T := TX0) (N := 29) hx hb hts in_X0 hown hK hP 0 rfl rfl 28 (Nat.le_of_ble_eq_true rfl) (hts _ q137) (fun _ h9 => h9) rfl dX0_clear_19 ?_
    refine lv_iload_n hx hb dX0_clear_22 rfl (lv_at hl 2 rfl) ?_
    refine lv_iconst (v := 0) hx hb dX0_clear_23 (by decide) ?_
    refine y_iast (N := k) (f := F 28) hx hb hK hP hD hS 14 0 rfl rfl rfl (by omega) (by decide) dX0_clear_24 (fun H locs hP hD hS => ?_)
    have hP : va_P G CLS (XW a I (va_up F 28 (upd (F 28) k 0)) S lm LP fp d) H := hP
    have hD : va_D A (XW a I (va_up F 28 (upd (F 28) k 0)) S lm LP fp d) := hD
    refine lv_iload_n hx hb dX0_clear_25 rfl (lv_at hl 0 rfl) ?_
    exact W.iret (v := (F 28) k) hx hb hr (fun t ht hW => ⟨⟨(F 28) k, (I, va_up F 28 (upd (F 28) k 0)), rfl, by unfold clearOp; rw [if_pos c_3, cl_nI (show k < 2 ^ 31 by omega)], by rw [ht]; exact hP, va_K.moved hW.alike hK, hD⟩, hS.F ht⟩) hS.2.2 dX0_clear_26
  · have c_3 := bI_eq hr_2 c_3
    refine lv_iconst (v := (-1)) hx hb dX0_clear_9 (by decide) ?_
    exact W.iret (v := (-1)) hx hb hr (fun t ht hW => ⟨⟨(-1), (I, F), rfl, (if_neg c_3).symm, by rw [ht]; exact hP, va_K.moved hW.alike hK, hD⟩, hS.F ht⟩) hS.2.2 dX0_clear_10
set_option maxHeartbeats 400000 in
set_option maxRecDepth 100000 in
theorem metX0_findings (l : Launch) (G : va_G) (d : Nat → Nat) (a : Nat → Nat) (I : Nat → Int32) (F : Nat → Nat → Int32) (S : Nat → Nat → Option Nat) (lm : Int32 × Nat × Int32) (LP : List Nat) (fp : Nat → va_E) (w : Int32) : Met l yX0_findings (ws_ yX0_findings cX0_findings 2 (some FieldType.int)) ({ frames := 1, cells := 0, slots := 0, locals := 22 } : Room) (va_Pc [.ref (a 0), .int w] (pR G d (XW a I F S lm LP fp d))) (vp_Si (fun x => x = findingsOp (F 1) w)) 0 0 (fun _ => False) := by
  refine Met.ofW (cc := cX0_findings) (maxL := 2) (ret := (some FieldType.int)) (by decide) rfl ?_
  intro p e s m args below meth c s₁ B hml hv
  obtain ⟨rfl, hP, hK⟩ := hv
  have hx := B.exec
  have hb := B.bytes
  have hr := B.returns
  have hts := atoms_spec (ws := (ws_ yX0_findings cX0_findings 2 (some FieldType.int))) B.pre
  have hts : ∀ w ∈ lw_all, w.before _ s = true := fun w h => hts w (List.mem_cons_of_mem _ h)
  have hown : s.vm.findClass RX0 = some m.cls := findClass_of_methodNamed B.named
  have hlocks := B.notSynchronized
  have hl := lv_entry ([.ref (a 0), .int w]) (n := 2) (Nat.le_of_ble_eq_true rfl)
  rw [lg_entry_eq]
  generalize (lg_sl ([.ref (a 0), .int w]) ++ List.replicate (2 - (lg_sl ([.ref (a 0), .int w])).length) Slot.unset).toArray = ls at hl ⊢
  have hl : lv_has ls 2 [(0, .ref (a 0)), (1, .int w)] := hl
  refine lv_iload_n hx hb dX0_findings_0 rfl (lv_at hl 1 rfl) ?_
  refine lv_iconst (v := 1) hx hb dX0_findings_1 (by decide) ?_
  refine lv_iconst (v := 5) hx hb dX0_findings_2 (by decide) ?_
  refine y_rS (As := [.int w, .int 1, .int 5]) (rest := []) ⟨hx, hb, hml, hown, hts⟩ hK (ws := []) (fun _ _ h => by cases h) (metX0_in l G d w 1 5) (va_cwS 3 hts (lw_S q204 q205 q35 q206) rfl rfl rfl (by decide +kernel) ⟨Nat.le_of_ble_eq_true rfl, Nat.le_of_ble_eq_true rfl⟩) rfl hl.1 rfl (lv_room (Nat.le_of_ble_eq_true rfl)) dX0_findings_3 ⟨Nat.le_of_ble_eq_true rfl, Nat.le_of_ble_eq_true rfl⟩ (fun r_1 hr_2 => ?_)
  refine lv_if_eq (tgt := 18) hx hb dX0_findings_6 (by decide) (fun c_3 => ?_) (fun c_3 => ?_)
  · have c_3 := bI_eq hr_2 c_3
    refine lv_iconst (v := (-1)) hx hb dX0_findings_18 (by decide) ?_
    exact W.iret (v := (-1)) hx hb hr (fun t ht hW => ⟨(-1), rfl, (if_neg c_3).symm, ht⟩) (fun q h => by cases h) dX0_findings_19
  · have c_3 := bI_ne hr_2 c_3
    obtain ⟨q, hq, rfl⟩ := inR_n (n := 5) (by decide) ⟨Int32.le_trans (by decide) c_3.1, c_3.2⟩
    refine lv_aload_n hx hb dX0_findings_9 rfl (lv_at hl 0 rfl) ?_
    refine va_get (D := G) (ci := 0) (v := .ref (a 1)) (C := RX0) (T := TX0) (N := 29) hx hb hts in_X0 hown hK hP 0 rfl rfl 1 (Nat.le_of_ble_eq_true rfl) (hts _ q106) (fun _ h9 => h9) rfl dX0_findings_10 ?_
    refine lv_iload_n hx hb dX0_findings_13 rfl (lv_at hl 1 rfl) ?_
    refine y_iald (N := q) (f := F 1) hx hb hK hP 1 0 rfl rfl rfl (by omega) (by decide) dX0_findings_14 ?_
    refine lv_goto (tgt := 19) hx hb dX0_findings_15 (by decide) ?_
    exact W.iret (v := (F 1) q) hx hb hr (fun t ht hW => ⟨(F 1) q, rfl, by unfold findingsOp; rw [if_pos c_3, cl_nI (show q < 2 ^ 31 by omega)], ht⟩) (fun q h => by cases h) dX0_findings_19
set_option maxHeartbeats 400000 in
set_option maxRecDepth 100000 in
theorem metX0_legAt (l : Launch) (G : va_G) (d : Nat → Nat) (a : Nat → Nat) (I : Nat → Int32) (F : Nat → Nat → Int32) (S : Nat → Nat → Option Nat) (lm : Int32 × Nat × Int32) (LP : List Nat) (fp : Nat → va_E) (bm : Nat) (w : Int32) (hb16 : bm ≤ 16) (hbm : I 21 = nI bm) : Met l yX0_legAt (ws_ yX0_legAt cX0_legAt 2 (some FieldType.int)) ({ frames := 1, cells := 0, slots := 0, locals := 22 } : Room) (va_Pc [.ref (a 0), .int w] (pR G d (XW a I F S lm LP fp d))) (vp_Si (fun x => x = legAtV (F 20) bm w)) 0 0 (fun _ => False) := by
  refine Met.ofW (cc := cX0_legAt) (maxL := 2) (ret := (some FieldType.int)) (by decide) rfl ?_
  intro p e s m args below meth c s₁ B hml hv
  obtain ⟨rfl, hP, hK⟩ := hv
  have hx := B.exec
  have hb := B.bytes
  have hr := B.returns
  have hts := atoms_spec (ws := (ws_ yX0_legAt cX0_legAt 2 (some FieldType.int))) B.pre
  have hts : ∀ w ∈ lw_all, w.before _ s = true := fun w h => hts w (List.mem_cons_of_mem _ h)
  have hown : s.vm.findClass RX0 = some m.cls := findClass_of_methodNamed B.named
  have hlocks := B.notSynchronized
  have hl := lv_entry ([.ref (a 0), .int w]) (n := 2) (Nat.le_of_ble_eq_true rfl)
  rw [lg_entry_eq]
  generalize (lg_sl ([.ref (a 0), .int w]) ++ List.replicate (2 - (lg_sl ([.ref (a 0), .int w])).length) Slot.unset).toArray = ls at hl ⊢
  have hl : lv_has ls 2 [(0, .ref (a 0)), (1, .int w)] := hl
  refine lv_aload_n hx hb dX0_legAt_0 rfl (lv_at hl 0 rfl) ?_
  refine va_get (D := G) (ci := 0) (v := .int (I 21)) (C := RX0) (T := TX0) (N := 29) hx hb hts in_X0 hown hK hP 0 rfl rfl 21 (Nat.le_of_ble_eq_true rfl) (hts _ q130) (fun _ h9 => h9) rfl dX0_legAt_1 ?_
  refine y_top (y := nI bm) hbm ?_
  refine lv_if_ne (tgt := 12) hx hb dX0_legAt_4 (by decide) (fun c_1 => ?_) (fun c_1 => ?_)
  · have c_1 : ¬ bm = 0 := fun h => c_1 ((nI_eq (a := bm) (b := 0) (by omega) (by omega)).mpr h)
    refine lv_iload_n hx hb dX0_legAt_12 rfl (lv_at hl 1 rfl) ?_
    refine lv_iconst (v := (-1)) hx hb dX0_legAt_13 (by decide) ?_
    refine lv_icmp_ne (tgt := 24) hx hb dX0_legAt_14 (by decide) (fun c_2 => ?_) (fun c_2 => ?_)
    · refine lv_iload_n hx hb dX0_legAt_24 rfl (lv_at hl 1 rfl) ?_
      refine lv_iconst (v := 0) hx hb dX0_legAt_25 (by decide) ?_
      refine lv_aload_n hx hb dX0_legAt_26 rfl (lv_at hl 0 rfl) ?_
      refine va_get (D := G) (ci := 0) (v := .int (I 21)) (C := RX0) (T := TX0) (N := 29) hx hb hts in_X0 hown hK hP 0 rfl rfl 21 (Nat.le_of_ble_eq_true rfl) (hts _ q130) (fun _ h9 => h9) rfl dX0_legAt_27 ?_
      refine y_top (y := nI bm) hbm ?_
      refine lv_iconst (v := 1) hx hb dX0_legAt_30 (by decide) ?_
      refine lv_isub hx hb dX0_legAt_31 ?_
      refine y_rS (As := [.int w, .int 0, .int ((nI bm) - 1)]) (rest := []) ⟨hx, hb, hml, hown, hts⟩ hK (ws := []) (fun _ _ h => by cases h) (metX0_in l G d w 0 ((nI bm) - 1)) (va_cwS 3 hts (lw_S q204 q205 q35 q206) rfl rfl rfl (by decide +kernel) ⟨Nat.le_of_ble_eq_true rfl, Nat.le_of_ble_eq_true rfl⟩) rfl hl.1 rfl (lv_room (Nat.le_of_ble_eq_true rfl)) dX0_legAt_32 ⟨Nat.le_of_ble_eq_true rfl, Nat.le_of_ble_eq_true rfl⟩ (fun r_3 hr_4 => ?_)
      refine lv_if_eq (tgt := 47) hx hb dX0_legAt_35 (by decide) (fun c_5 => ?_) (fun c_5 => ?_)
      · have c_5 := bI_eq hr_4 c_5
        refine lv_bipush (v := (-9)) hx hb dX0_legAt_47 (by decide +kernel) ?_
        exact W.iret (v := (-9)) hx hb hr (fun t ht hW => ⟨(-9), rfl, by unfold legAtV; rw [if_neg c_1, if_neg c_2, if_neg c_5], ht⟩) (fun q h => by cases h) dX0_legAt_49
      · have c_5 := bI_ne hr_4 c_5
        obtain ⟨q, hq, rfl⟩ := inR_p (n := bm) (by omega) c_5
        refine lv_aload_n hx hb dX0_legAt_38 rfl (lv_at hl 0 rfl) ?_
        refine va_get (D := G) (ci := 0) (v := .ref (a 20)) (C := RX0) (T := TX0) (N := 29) hx hb hts in_X0 hown hK hP 0 rfl rfl 20 (Nat.le_of_ble_eq_true rfl) (hts _ q129) (fun _ h9 => h9) rfl dX0_legAt_39 ?_
        refine lv_iload_n hx hb dX0_legAt_42 rfl (lv_at hl 1 rfl) ?_
        refine y_iald (N := q) (f := F 20) hx hb hK hP 10 0 rfl rfl rfl (by omega) (by decide) dX0_legAt_43 ?_
        refine lv_goto (tgt := 49) hx hb dX0_legAt_44 (by decide) ?_
        exact W.iret (v := (F 20) q) hx hb hr (fun t ht hW => ⟨(F 20) q, rfl, by unfold legAtV; rw [if_neg c_1, if_neg c_2, if_pos c_5, cl_nI (show q < 2 ^ 31 by omega)], ht⟩) (fun q h => by cases h) dX0_legAt_49
    · refine lv_aload_n hx hb dX0_legAt_17 rfl (lv_at hl 0 rfl) ?_
      refine va_get (D := G) (ci := 0) (v := .int (I 21)) (C := RX0) (T := TX0) (N := 29) hx hb hts in_X0 hown hK hP 0 rfl rfl 21 (Nat.le_of_ble_eq_true rfl) (hts _ q130) (fun _ h9 => h9) rfl dX0_legAt_18 ?_
      refine y_top (y := nI bm) hbm ?_
      refine lv_goto (tgt := 49) hx hb dX0_legAt_21 (by decide) ?_
      exact W.iret (v := nI bm) hx hb hr (fun t ht hW => ⟨nI bm, rfl, by unfold legAtV; rw [if_neg c_1, if_pos c_2], ht⟩) (fun q h => by cases h) dX0_legAt_49
  · have c_1 : bm = 0 := (nI_eq (a := bm) (b := 0) (by omega) (by omega)).mp c_1
    refine lv_bipush (v := (-9)) hx hb dX0_legAt_7 (by decide +kernel) ?_
    refine lv_goto (tgt := 49) hx hb dX0_legAt_9 (by decide) ?_
    exact W.iret (v := (-9)) hx hb hr (fun t ht hW => ⟨(-9), rfl, by unfold legAtV; rw [if_pos c_1], ht⟩) (fun q h => by cases h) dX0_legAt_49
set_option maxHeartbeats 400000 in
set_option maxRecDepth 100000 in
theorem metX0_cuts (l : Launch) (G : va_G) (d : Nat → Nat) (a : Nat → Nat) (I : Nat → Int32) (F : Nat → Nat → Int32) (S : Nat → Nat → Option Nat) (lm : Int32 × Nat × Int32) (LP : List Nat) (fp : Nat → va_E) (bm : Nat) (hb16 : bm ≤ 16) (hbm : I 21 = nI bm) : Met l yX0_cuts (ws_ yX0_cuts cX0_cuts 1 (some FieldType.int)) ({ frames := 0, cells := 0, slots := 0, locals := 0 } : Room) (va_Pc [.ref (a 0)] (pR G d (XW a I F S lm LP fp d))) (vp_Si (fun x => x = cutsV bm (I 24))) 0 0 (fun _ => False) := by
  refine Met.ofW (cc := cX0_cuts) (maxL := 1) (ret := (some FieldType.int)) (by decide) rfl ?_
  intro p e s m args below meth c s₁ B hml hv
  obtain ⟨rfl, hP, hK⟩ := hv
  have hx := B.exec
  have hb := B.bytes
  have hr := B.returns
  have hts := atoms_spec (ws := (ws_ yX0_cuts cX0_cuts 1 (some FieldType.int))) B.pre
  have hts : ∀ w ∈ lw_all, w.before _ s = true := fun w h => hts w (List.mem_cons_of_mem _ h)
  have hown : s.vm.findClass RX0 = some m.cls := findClass_of_methodNamed B.named
  have hlocks := B.notSynchronized
  have hl := lv_entry ([.ref (a 0)]) (n := 1) (Nat.le_of_ble_eq_true rfl)
  rw [lg_entry_eq]
  generalize (lg_sl ([.ref (a 0)]) ++ List.replicate (1 - (lg_sl ([.ref (a 0)])).length) Slot.unset).toArray = ls at hl ⊢
  have hl : lv_has ls 1 [(0, .ref (a 0))] := hl
  refine lv_aload_n hx hb dX0_cuts_0 rfl (lv_at hl 0 rfl) ?_
  refine va_get (D := G) (ci := 0) (v := .int (I 21)) (C := RX0) (T := TX0) (N := 29) hx hb hts in_X0 hown hK hP 0 rfl rfl 21 (Nat.le_of_ble_eq_true rfl) (hts _ q130) (fun _ h9 => h9) rfl dX0_cuts_1 ?_
  refine y_top (y := nI bm) hbm ?_
  refine lv_if_ne (tgt := 12) hx hb dX0_cuts_4 (by decide) (fun c_1 => ?_) (fun c_1 => ?_)
  · have c_1 : ¬ bm = 0 := fun h => c_1 ((nI_eq (a := bm) (b := 0) (by omega) (by omega)).mpr h)
    refine lv_aload_n hx hb dX0_cuts_12 rfl (lv_at hl 0 rfl) ?_
    refine va_get (D := G) (ci := 0) (v := .int (I 24)) (C := RX0) (T := TX0) (N := 29) hx hb hts in_X0 hown hK hP 0 rfl rfl 24 (Nat.le_of_ble_eq_true rfl) (hts _ q133) (fun _ h9 => h9) rfl dX0_cuts_13 ?_
    exact W.iret (v := I 24) hx hb hr (fun t ht hW => ⟨I 24, rfl, by unfold cutsV; rw [if_neg c_1], ht⟩) (fun q h => by cases h) dX0_cuts_16
  · have c_1 : bm = 0 := (nI_eq (a := bm) (b := 0) (by omega) (by omega)).mp c_1
    refine lv_bipush (v := (-9)) hx hb dX0_cuts_7 (by decide +kernel) ?_
    refine lv_goto (tgt := 16) hx hb dX0_cuts_9 (by decide) ?_
    exact W.iret (v := (-9)) hx hb hr (fun t ht hW => ⟨(-9), rfl, by unfold cutsV; rw [if_pos c_1], ht⟩) (fun q h => by cases h) dX0_cuts_16
set_option maxHeartbeats 400000 in
set_option maxRecDepth 100000 in
theorem metX0_isPart (l : Launch) (G : va_G) (d : Nat → Nat) (a : Nat → Nat) (I : Nat → Int32) (F : Nat → Nat → Int32) (S : Nat → Nat → Option Nat) (lm : Int32 × Nat × Int32) (LP : List Nat) (fp : Nat → va_E) (n : Nat) (v : Int32) (hn16 : n ≤ 16) (hn : I 12 = nI n) : Met l yX0_isPart (ws_ yX0_isPart cX0_isPart 2 (some FieldType.boolean)) ({ frames := 1, cells := 0, slots := 0, locals := 22 } : Room) (va_Pc [.ref (a 0), .int v] (pR G d (XW a I F S lm LP fp d))) (vp_Si (fun r => r = bI (inR v 0 (nI n - 1)))) 0 0 (fun _ => False) := by
  refine Met.ofW (cc := cX0_isPart) (maxL := 2) (ret := (some FieldType.boolean)) (by decide) rfl ?_
  intro p e s m args below meth c s₁ B hml hv
  obtain ⟨rfl, hP, hK⟩ := hv
  have hx := B.exec
  have hb := B.bytes
  have hr := B.returns
  have hts := atoms_spec (ws := (ws_ yX0_isPart cX0_isPart 2 (some FieldType.boolean))) B.pre
  have hts : ∀ w ∈ lw_all, w.before _ s = true := fun w h => hts w (List.mem_cons_of_mem _ h)
  have hown : s.vm.findClass RX0 = some m.cls := findClass_of_methodNamed B.named
  have hlocks := B.notSynchronized
  have hl := lv_entry ([.ref (a 0), .int v]) (n := 2) (Nat.le_of_ble_eq_true rfl)
  rw [lg_entry_eq]
  generalize (lg_sl ([.ref (a 0), .int v]) ++ List.replicate (2 - (lg_sl ([.ref (a 0), .int v])).length) Slot.unset).toArray = ls at hl ⊢
  have hl : lv_has ls 2 [(0, .ref (a 0)), (1, .int v)] := hl
  refine lv_iload_n hx hb dX0_isPart_0 rfl (lv_at hl 1 rfl) ?_
  refine lv_iconst (v := 0) hx hb dX0_isPart_1 (by decide) ?_
  refine lv_aload_n hx hb dX0_isPart_2 rfl (lv_at hl 0 rfl) ?_
  refine va_get (D := G) (ci := 0) (v := .int (I 12)) (C := RX0) (T := TX0) (N := 29) hx hb hts in_X0 hown hK hP 0 rfl rfl 12 (Nat.le_of_ble_eq_true rfl) (hts _ q121) (fun _ h9 => h9) rfl dX0_isPart_3 ?_
  refine y_top (y := nI n) hn ?_
  refine lv_iconst (v := 1) hx hb dX0_isPart_6 (by decide) ?_
  refine lv_isub hx hb dX0_isPart_7 ?_
  refine y_rS (As := [.int v, .int 0, .int ((nI n) - 1)]) (rest := []) ⟨hx, hb, hml, hown, hts⟩ hK (ws := []) (fun _ _ h => by cases h) (metX0_in l G d v 0 ((nI n) - 1)) (va_cwS 3 hts (lw_S q204 q205 q35 q206) rfl rfl rfl (by decide +kernel) ⟨Nat.le_of_ble_eq_true rfl, Nat.le_of_ble_eq_true rfl⟩) rfl hl.1 rfl (lv_room (Nat.le_of_ble_eq_true rfl)) dX0_isPart_8 ⟨Nat.le_of_ble_eq_true rfl, Nat.le_of_ble_eq_true rfl⟩ (fun r_1 hr_2 => ?_)
  exact W.zret (v := r_1) hx hb hr (nar_01 (by rw [hr_2]; exact bI_01 _)) (fun t ht hW => ⟨r_1, rfl, hr_2, ht⟩) (fun q h => by cases h) dX0_isPart_11
set_option maxHeartbeats 400000 in
set_option maxRecDepth 100000 in
theorem metX0_differ (l : Launch) (G : va_G) (d : Nat → Nat) (a : Nat → Nat) (I : Nat → Int32) (F : Nat → Nat → Int32) (S : Nat → Nat → Option Nat) (lm : Int32 × Nat × Int32) (LP : List Nat) (fp : Nat → va_E) (n q : Nat) (hn40 : n ≤ 40) (hn0 : F 28 0 = nI n) (hq : q < n) : Met l yX0_differ (ws_ yX0_differ cX0_differ 5 (some FieldType.int)) ({ frames := 1, cells := 0, slots := 0, locals := 30 } : Room) (va_Pc [.ref (a 0), .int (nI q)] (pR G d (XW a I F S lm LP fp d))) (vp_Si (fun x => x = difV (F 27) n q)) 0 0 (fun _ => False) := by
  refine Met.ofW (cc := cX0_differ) (maxL := 5) (ret := (some FieldType.int)) (by decide) rfl ?_
  intro p e s m args below meth c s₁ B hml hv
  obtain ⟨rfl, hP, hK⟩ := hv
  have hx := B.exec
  have hb := B.bytes
  have hr := B.returns
  have hts := atoms_spec (ws := (ws_ yX0_differ cX0_differ 5 (some FieldType.int))) B.pre
  have hts : ∀ w ∈ lw_all, w.before _ s = true := fun w h => hts w (List.mem_cons_of_mem _ h)
  have hown : s.vm.findClass RX0 = some m.cls := findClass_of_methodNamed B.named
  have hlocks := B.notSynchronized
  have hl := lv_entry ([.ref (a 0), .int (nI q)]) (n := 5) (Nat.le_of_ble_eq_true rfl)
  rw [lg_entry_eq]
  generalize (lg_sl ([.ref (a 0), .int (nI q)]) ++ List.replicate (5 - (lg_sl ([.ref (a 0), .int (nI q)])).length) Slot.unset).toArray = ls at hl ⊢
  have hl : lv_has ls 5 [(0, .ref (a 0)), (1, .int (nI q))] := hl
  refine lv_aload_n hx hb dX0_differ_0 rfl (lv_at hl 0 rfl) ?_
  refine va_get (D := G) (ci := 0) (v := .ref (a 28)) (C := RX0) (T := TX0) (N := 29) hx hb hts in_X0 hown hK hP 0 rfl rfl 28 (Nat.le_of_ble_eq_true rfl) (hts _ q137) (fun _ h9 => h9) rfl dX0_differ_1 ?_
  refine lv_iconst (v := 0) hx hb dX0_differ_4 (by decide) ?_
  refine y_iald (N := 0) (f := F 28) hx hb hK hP 14 0 rfl rfl rfl (by omega) (by decide) dX0_differ_5 ?_
  refine y_top (y := nI n) hn0 ?_
  refine lv_istore_n (lv' := [(2, .int (nI n)), (0, .ref (a 0)), (1, .int (nI q))]) hx hb dX0_differ_6 rfl hl (Nat.le_of_ble_eq_true rfl) rfl (fun ls hl => ?_)
  refine lv_iconst (v := 0) hx hb dX0_differ_7 (by decide) ?_
  refine lv_istore_n (lv' := [(3, .int 0), (2, .int (nI n)), (0, .ref (a 0)), (1, .int (nI q))]) hx hb dX0_differ_8 rfl hl (Nat.le_of_ble_eq_true rfl) rfl (fun ls hl => ?_)
  refine lv_iconst (v := 0) hx hb dX0_differ_9 (by decide) ?_
  refine lv_istore (lv' := [(4, .int 0), (3, .int 0), (2, .int (nI n)), (0, .ref (a 0)), (1, .int (nI q))]) hx hb dX0_differ_10 hl (Nat.le_of_ble_eq_true rfl) rfl (fun ls hl => ?_)
  have lp_1 : ∀ (fu : Nat) (i : Nat) (sm : Int32) (hi : i ≤ n) (hm : n < i + fu) (hs : sm = sumR (fun i => absI (F 27 i - F 27 (40 + (i + q) % n))) i) (ls : Array Slot) (hl : lv_has ls 5 [(4, .int (nI i)), (3, .int sm), (2, .int (nI n)), (0, .ref (a 0)), (1, .int (nI q))]), W p l e (headSpec (ws_ yX0_differ cX0_differ 5 (some FieldType.int)) ({ frames := 1, cells := 0, slots := 0, locals := 30 } : Room)).room s m ([.ref (a 0), .int (nI q)] : List Value).toArray below meth c s.heap [] 0 0 (MQ below (vp_Si (fun x => x = difV (F 27) n q)) ([.ref (a 0), .int (nI q)] : List Value).toArray s 0 0 (fun _ => False)) (F0 m 12 ls []) := by
    intro fu
    induction fu with
    | zero =>
      intro i sm hi hm hs ls hl
      exfalso; omega
    | succ fu ih_lp_1 =>
      intro i sm hi hm hs ls hl
      refine lv_iload hx hb dX0_differ_12 (lv_at hl 0 rfl) ?_
      refine lv_iload_n hx hb dX0_differ_14 rfl (lv_at hl 2 rfl) ?_
      refine lv_icmp_ge (tgt := 52) hx hb dX0_differ_15 (by decide) (fun c_2 => ?_) (fun c_2 => ?_)
      · have c_2 : n ≤ i := (nI_leI (a := n) (b := i) (by omega) (by omega)).mp c_2
        refine lv_iload_n hx hb dX0_differ_52 rfl (lv_at hl 1 rfl) ?_
        exact W.iret (v := sm) hx hb hr (fun t ht hW => ⟨sm, rfl, by rw [hs, difV, show i = n by omega], ht⟩) (fun q h => by cases h) dX0_differ_53
      · have c_2 : ¬ n ≤ i := fun h => c_2 ((nI_leI (a := n) (b := i) (by omega) (by omega)).mpr h)
        refine lv_iload_n hx hb dX0_differ_18 rfl (lv_at hl 1 rfl) ?_
        refine lv_aload_n hx hb dX0_differ_19 rfl (lv_at hl 3 rfl) ?_
        refine va_get (D := G) (ci := 0) (v := .ref (a 27)) (C := RX0) (T := TX0) (N := 29) hx hb hts in_X0 hown hK hP 0 rfl rfl 27 (Nat.le_of_ble_eq_true rfl) (hts _ q136) (fun _ h9 => h9) rfl dX0_differ_20 ?_
        refine lv_iload hx hb dX0_differ_23 (lv_at hl 0 rfl) ?_
        refine y_iald (N := i) (f := F 27) hx hb hK hP 13 0 rfl rfl rfl (by omega) (by decide) dX0_differ_25 ?_
        refine lv_aload_n hx hb dX0_differ_26 rfl (lv_at hl 3 rfl) ?_
        refine va_get (D := G) (ci := 0) (v := .ref (a 27)) (C := RX0) (T := TX0) (N := 29) hx hb hts in_X0 hown hK hP 0 rfl rfl 27 (Nat.le_of_ble_eq_true rfl) (hts _ q136) (fun _ h9 => h9) rfl dX0_differ_27 ?_
        refine lv_bipush (v := 40) hx hb dX0_differ_30 (by decide +kernel) ?_
        refine lv_iload hx hb dX0_differ_32 (lv_at hl 0 rfl) ?_
        refine lv_iload_n hx hb dX0_differ_34 rfl (lv_at hl 4 rfl) ?_
        refine lv_iadd hx hb dX0_differ_35 ?_
        refine y_top (y := nI (i + q)) (nI_add i q) ?_
        refine lv_iload_n hx hb dX0_differ_36 rfl (lv_at hl 2 rfl) ?_
        refine lv_irem hx hb dX0_differ_37 (nI_ne0 (by omega) (by omega)) ?_
        refine y_top (y := nI ((i + q) % n)) (pk_rem (a := i + q) (d := n) (by omega) (by omega) (by omega)) ?_
        refine lv_iadd hx hb dX0_differ_38 ?_
        refine y_top (y := nI (40 + ((i + q) % n))) (nI_add 40 ((i + q) % n)) ?_
        refine y_iald (N := 40 + ((i + q) % n)) (f := F 27) hx hb hK hP 13 0 rfl rfl rfl (by have h9 := Nat.mod_lt (i + q) (show 0 < n by omega); omega) (by decide) dX0_differ_39 ?_
        refine lv_isub hx hb dX0_differ_40 ?_
        refine va_mabs hx hb (by rw [hml, hl.1]) hown (hts _ q854) (hts _ q855) (hts _ q40) (hts _ q856) (Nat.le_of_ble_eq_true rfl) (Nat.le_of_ble_eq_true rfl) (Nat.le_of_ble_eq_true rfl) (Nat.le_of_ble_eq_true rfl) dX0_differ_41 ?_
        refine lv_iadd hx hb dX0_differ_44 ?_
        refine lv_istore_n (lv' := [(3, .int (sm + (if 0 ≤ (((F 27) i) - ((F 27) (40 + ((i + q) % n)))) then (((F 27) i) - ((F 27) (40 + ((i + q) % n)))) else 0 - (((F 27) i) - ((F 27) (40 + ((i + q) % n))))))), (4, .int (nI i)), (2, .int (nI n)), (0, .ref (a 0)), (1, .int (nI q))]) hx hb dX0_differ_45 rfl hl (Nat.le_of_ble_eq_true rfl) rfl (fun ls hl => ?_)
        refine lv_iinc (v := nI (i + 1)) (lv' := [(4, .int (nI (i + 1))), (3, .int (sm + (if 0 ≤ (((F 27) i) - ((F 27) (40 + ((i + q) % n)))) then (((F 27) i) - ((F 27) (40 + ((i + q) % n)))) else 0 - (((F 27) i) - ((F 27) (40 + ((i + q) % n))))))), (2, .int (nI n)), (0, .ref (a 0)), (1, .int (nI q))]) hx hb dX0_differ_46 hl (k := 1) rfl (nI_add i 1) (Nat.le_of_ble_eq_true rfl) rfl (fun ls hl => ?_)
        refine lv_goto (tgt := 12) hx hb dX0_differ_49 (by decide) ?_
        exact ih_lp_1 (i + 1) _ (by omega) (by omega) (by rw [hs]; show _ = sumR (fun i => absI (F 27 i - F 27 (40 + (i + q) % n))) i + absI (F 27 i - F 27 (40 + (i + q) % n)); rw [abs_eq]) ls (lv_sub hl [0, 1, 2, 3, 4] rfl)
  exact lp_1 41 0 _ (by omega) (by omega) rfl ls (lv_sub hl [0, 1, 2, 3, 4] rfl)
