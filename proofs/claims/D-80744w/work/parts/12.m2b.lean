set_option maxHeartbeats 400000 in
set_option maxRecDepth 100000 in
theorem metX1_scan (l : Launch) (G : va_G) (d : Nat → Nat) (sz : Nat) (b : Nat → Nat) (J : Nat → Int32) (E : Nat → Nat → Int32) (v : Int32) : Met l yX1_scan (ws_ yX1_scan cX1_scan 4 (some FieldType.int)) ({ frames := 2, cells := 0, slots := 0, locals := 42 } : Room) (va_Pc [.ref (b 0), .int v] (pW G d sz (MW b J E d))) (va_Qi (fun (r : Int32) (u : MS) => (r, u) = mScan (J, E) v) (fun (u : MS) t => bW G d (va_A (MW b J E d) sz) (MW b u.1 u.2 d) t) (va_A (MW b J E d) sz)) 0 0 (va_A (MW b J E d) sz) := by
  refine Met.ofW (cc := cX1_scan) (maxL := 4) (ret := (some FieldType.int)) (by decide) rfl ?_
  intro p e s m args below meth c s₁ B hml hv
  obtain ⟨rfl, hsz, hP, hK, hD0⟩ := hv
  have hx := B.exec
  have hb := B.bytes
  have hr := B.returns
  have hts := atoms_spec (ws := (ws_ yX1_scan cX1_scan 4 (some FieldType.int))) B.pre
  have hts : ∀ w ∈ lw_all, w.before _ s = true := fun w h => hts w (List.mem_cons_of_mem _ h)
  have hown : s.vm.findClass RX1 = some m.cls := findClass_of_methodNamed B.named
  have hlocks := B.notSynchronized
  subst hsz
  have hD := hD0.self (sz := s.heap.size)
  generalize hAe : va_A (MW b J E d) s.heap.size = A at hD ⊢
  have hA : ∀ q : Nat, s.heap.size ≤ q → A q := fun q h => by rw [← hAe]; exact Or.inr h
  have hS : va_S A s.heap s.heap [] := va_S.rf
  have hl := lv_entry ([.ref (b 0), .int v]) (n := 4) (Nat.le_of_ble_eq_true rfl)
  rw [lg_entry_eq]
  generalize (lg_sl ([.ref (b 0), .int v]) ++ List.replicate (4 - (lg_sl ([.ref (b 0), .int v])).length) Slot.unset).toArray = ls at hl ⊢
  have hl : lv_has ls 4 [(0, .ref (b 0)), (1, .int v)] := hl
  have hP : va_P G CLS (MW b J E d) s.heap := hP
  refine lv_iload_n hx hb dX1_scan_0 rfl (lv_at hl 1 rfl) ?_
  refine y_rS (As := [.int v]) (rest := []) ⟨hx, hb, hml, hown, hts⟩ hK (ws := []) (fun _ _ h => by cases h) (metX1_isNumber l G d v) (va_cwS 1 hts (lw_S q991 q992 q39 q993) rfl rfl rfl (by decide +kernel) ⟨Nat.le_of_ble_eq_true rfl, Nat.le_of_ble_eq_true rfl⟩) rfl hl.1 rfl (lv_room (Nat.le_of_ble_eq_true rfl)) dX1_scan_1 ⟨Nat.le_of_ble_eq_true rfl, Nat.le_of_ble_eq_true rfl⟩ (fun r_1 hr_2 => ?_)
  refine lv_if_ne (tgt := 9) hx hb dX1_scan_4 (by decide) (fun c_3 => ?_) (fun c_3 => ?_)
  · have c_3 := bI_ne hr_2 c_3
    obtain ⟨k, hk, rfl⟩ := inR_n (n := 3) (by decide) c_3
    have hj_4 : ∀ (x : Int32) (hxx : x = bI (¬ E 3 k = 0)), W p l e (headSpec (ws_ yX1_scan cX1_scan 4 (some FieldType.int)) ({ frames := 2, cells := 0, slots := 0, locals := 42 } : Room)).room s m ([.ref (b 0), .int (nI k)] : List Value).toArray below meth c s.heap [] 0 0 (MQ below (va_Qi (fun (r : Int32) (u : MS) => (r, u) = mScan (J, E) (nI k)) (fun (u : MS) t => bW G d A (MW b u.1 u.2 d) t) A) ([.ref (b 0), .int (nI k)] : List Value).toArray s 0 0 A) (F0 m 23 ls [.int x]) := by
      intro x hxx
      refine lv_istore_n (lv' := [(2, .int x), (0, .ref (b 0)), (1, .int (nI k))]) hx hb dX1_scan_23 rfl hl (Nat.le_of_ble_eq_true rfl) rfl (fun ls hl => ?_)
      refine lv_aload_n hx hb dX1_scan_24 rfl (lv_at hl 1 rfl) ?_
      refine va_get (D := G) (ci := 1) (v := .ref (b 3)) (C := RX1) (T := TX1) (N := 33) hx hb hts in_X1 hown hK hP 0 rfl rfl 3 (Nat.le_of_ble_eq_true rfl) (hts _ q889) (fun _ h9 => h9) rfl dX1_scan_25 ?_
      refine lv_iload_n hx hb dX1_scan_28 rfl (lv_at hl 2 rfl) ?_
      refine lv_iconst (v := 1) hx hb dX1_scan_29 (by decide) ?_
      refine y_zast (N := k) (f := E 3) hx hb hK hP hD hS 2 1 rfl rfl rfl (by omega) (by decide) (Or.inr rfl) dX1_scan_30 (fun H locs hP hD hS => ?_)
      have hP : va_P G CLS (MW b J (va_up E 3 (upd (E 3) k 1)) d) H := hP
      have hD : va_D A (MW b J (va_up E 3 (upd (E 3) k 1)) d) := hD
      refine lv_iconst (v := 0) hx hb dX1_scan_31 (by decide) ?_
      refine lv_istore_n (lv' := [(3, .int 0), (2, .int x), (0, .ref (b 0)), (1, .int (nI k))]) hx hb dX1_scan_32 rfl hl (Nat.le_of_ble_eq_true rfl) rfl (fun ls hl => ?_)
      have hP : va_P G CLS (MW b J (va_up (va_up E 3 (upd (E 3) k 1)) 4 (fillR (E 4) (96 * k) 0 (-9))) d) H := by rw [fillR_0]; exact hP
      have hD : va_D A (MW b J (va_up (va_up E 3 (upd (E 3) k 1)) 4 (fillR (E 4) (96 * k) 0 (-9))) d) := by rw [fillR_0]; exact hD
      have lp_5 : ∀ (fu : Nat) (i : Nat) (hi : i ≤ 96) (hm : 96 < i + fu) (H : Heap) (locs : List Loc) (hP : va_P G CLS (MW b J (va_up (va_up E 3 (upd (E 3) k 1)) 4 (fillR (E 4) (96 * k) i (-9))) d) H) (hD : va_D A (MW b J (va_up (va_up E 3 (upd (E 3) k 1)) 4 (fillR (E 4) (96 * k) i (-9))) d)) (hS : va_S A s.heap H locs) (ls : Array Slot) (hl : lv_has ls 4 [(3, .int (nI i)), (2, .int x), (0, .ref (b 0)), (1, .int (nI k))]), W p l e (headSpec (ws_ yX1_scan cX1_scan 4 (some FieldType.int)) ({ frames := 2, cells := 0, slots := 0, locals := 42 } : Room)).room s m ([.ref (b 0), .int (nI k)] : List Value).toArray below meth c H locs 0 0 (MQ below (va_Qi (fun (r : Int32) (u : MS) => (r, u) = mScan (J, E) (nI k)) (fun (u : MS) t => bW G d A (MW b u.1 u.2 d) t) A) ([.ref (b 0), .int (nI k)] : List Value).toArray s 0 0 A) (F0 m 33 ls []) := by
        intro fu
        induction fu with
        | zero =>
          intro i hi hm H locs hP hD hS ls hl
          exfalso; omega
        | succ fu ih_lp_5 =>
          intro i hi hm H locs hP hD hS ls hl
          refine lv_iload_n hx hb dX1_scan_33 rfl (lv_at hl 0 rfl) ?_
          refine lv_bipush (v := 96) hx hb dX1_scan_34 (by decide +kernel) ?_
          refine lv_icmp_ge (tgt := 58) hx hb dX1_scan_36 (by decide) (fun c_6 => ?_) (fun c_6 => ?_)
          · have c_6 : 96 ≤ i := (nI_leI (a := 96) (b := i) (by omega) (by omega)).mp c_6
            refine lv_iload_n hx hb dX1_scan_58 rfl (lv_at hl 1 rfl) ?_
            exact W.iret (v := x) hx hb hr (fun t ht hW => ⟨⟨x, (J, va_up (va_up E 3 (upd (E 3) k 1)) 4 (fillR (E 4) (96 * k) i (-9))), rfl, by rw [mScan, if_pos (show inR (nI k) 0 3 from nI_inR (n := 3) (by omega) (by decide)), cl_nI (show k < 2 ^ 31 by omega), hxx, show i = 96 by omega], by rw [ht]; exact hP, va_K.moved hW.alike hK, hD⟩, hS.F ht⟩) hS.2.2 dX1_scan_59
          · have c_6 : ¬ 96 ≤ i := fun h => c_6 ((nI_leI (a := 96) (b := i) (by omega) (by omega)).mpr h)
            refine lv_aload_n hx hb dX1_scan_39 rfl (lv_at hl 2 rfl) ?_
            refine va_get (D := G) (ci := 1) (v := .ref (b 4)) (C := RX1) (T := TX1) (N := 33) hx hb hts in_X1 hown hK hP 0 rfl rfl 4 (Nat.le_of_ble_eq_true rfl) (hts _ q890) (fun _ h9 => h9) rfl dX1_scan_40 ?_
            refine lv_bipush (v := 96) hx hb dX1_scan_43 (by decide +kernel) ?_
            refine lv_iload_n hx hb dX1_scan_45 rfl (lv_at hl 3 rfl) ?_
            refine lv_imul hx hb dX1_scan_46 ?_
            refine y_top (y := nI (96 * k)) (pk_mul 96 k) ?_
            refine lv_iload_n hx hb dX1_scan_47 rfl (lv_at hl 0 rfl) ?_
            refine lv_iadd hx hb dX1_scan_48 ?_
            refine y_top (y := nI ((96 * k) + i)) (nI_add (96 * k) i) ?_
            refine lv_bipush (v := (-9)) hx hb dX1_scan_49 (by decide +kernel) ?_
            refine y_iast (N := (96 * k) + i) (f := (fillR (E 4) (96 * k) i (-9))) hx hb hK hP hD hS 3 0 rfl rfl rfl (by omega) (by decide) dX1_scan_51 (fun H locs hP hD hS => ?_)
            have hP : va_P G CLS (MW b J (va_up (va_up (va_up E 3 (upd (E 3) k 1)) 4 (fillR (E 4) (96 * k) i (-9))) 4 (upd (fillR (E 4) (96 * k) i (-9)) ((96 * k) + i) (-9))) d) H := hP
            have hD : va_D A (MW b J (va_up (va_up (va_up E 3 (upd (E 3) k 1)) 4 (fillR (E 4) (96 * k) i (-9))) 4 (upd (fillR (E 4) (96 * k) i (-9)) ((96 * k) + i) (-9))) d) := hD
            refine lv_iinc (v := nI (i + 1)) (lv' := [(3, .int (nI (i + 1))), (2, .int x), (0, .ref (b 0)), (1, .int (nI k))]) hx hb dX1_scan_52 hl (k := 0) rfl (nI_add i 1) (Nat.le_of_ble_eq_true rfl) rfl (fun ls hl => ?_)
            refine lv_goto (tgt := 33) hx hb dX1_scan_55 (by decide) ?_
            have hP : va_P G CLS (MW b J (va_up (va_up E 3 (upd (E 3) k 1)) 4 (fillR (E 4) (96 * k) (i + 1) (-9))) d) H := by rw [← fillR_s]; exact hP
            have hD : va_D A (MW b J (va_up (va_up E 3 (upd (E 3) k 1)) 4 (fillR (E 4) (96 * k) (i + 1) (-9))) d) := by rw [← fillR_s]; exact hD
            exact ih_lp_5 (i + 1) (by omega) (by omega) _ _ hP hD hS ls (lv_sub hl [0, 1, 2, 3] rfl)
      exact lp_5 97 0 (by omega) (by omega) _ _ hP hD hS ls (lv_sub hl [0, 1, 2, 3] rfl)
    refine lv_aload_n hx hb dX1_scan_9 rfl (lv_at hl 0 rfl) ?_
    refine va_get (D := G) (ci := 1) (v := .ref (b 3)) (C := RX1) (T := TX1) (N := 33) hx hb hts in_X1 hown hK hP 0 rfl rfl 3 (Nat.le_of_ble_eq_true rfl) (hts _ q889) (fun _ h9 => h9) rfl dX1_scan_10 ?_
    refine lv_iload_n hx hb dX1_scan_13 rfl (lv_at hl 1 rfl) ?_
    refine y_zald (N := k) (f := E 3) hx hb hK hP 2 1 rfl rfl rfl (by omega) (by decide) dX1_scan_14 ?_
    refine lv_if_eq (tgt := 22) hx hb dX1_scan_15 (by decide) (fun c_7 => ?_) (fun c_7 => ?_)
    · refine lv_iconst (v := 0) hx hb dX1_scan_22 (by decide) ?_
      exact hj_4 0 (bI_f (not_not_intro c_7)).symm
    · refine lv_iconst (v := 1) hx hb dX1_scan_18 (by decide) ?_
      refine lv_goto (tgt := 23) hx hb dX1_scan_19 (by decide) ?_
      exact hj_4 1 (bI_t c_7).symm
  · have c_3 := bI_eq hr_2 c_3
    refine lv_iconst (v := (-1)) hx hb dX1_scan_7 (by decide) ?_
    exact W.iret (v := (-1)) hx hb hr (fun t ht hW => ⟨⟨(-1), (J, E), rfl, (if_neg c_3).symm, by rw [ht]; exact hP, va_K.moved hW.alike hK, hD⟩, hS.F ht⟩) hS.2.2 dX1_scan_8
set_option maxHeartbeats 400000 in
set_option maxRecDepth 100000 in
theorem metX1_lay (l : Launch) (G : va_G) (d : Nat → Nat) (sz : Nat) (b : Nat → Nat) (J : Nat → Int32) (E : Nat → Nat → Int32) (v ring place z : Int32) : Met l yX1_lay (ws_ yX1_lay cX1_lay 8 (some FieldType.int)) ({ frames := 3, cells := 0, slots := 0, locals := 85 } : Room) (va_Pc [.ref (b 0), .int v, .int ring, .int place, .int z] (pW G d sz (MW b J E d))) (va_Qi (fun (r : Int32) (u : MS) => (r, u) = mLay (J, E) v ring place z) (fun (u : MS) t => bW G d (va_A (MW b J E d) sz) (MW b u.1 u.2 d) t) (va_A (MW b J E d) sz)) 0 0 (va_A (MW b J E d) sz) := by
  refine Met.ofW (cc := cX1_lay) (maxL := 8) (ret := (some FieldType.int)) (by decide) rfl ?_
  intro p e s m args below meth c s₁ B hml hv
  obtain ⟨rfl, hsz, hP, hK, hD0⟩ := hv
  have hx := B.exec
  have hb := B.bytes
  have hr := B.returns
  have hts := atoms_spec (ws := (ws_ yX1_lay cX1_lay 8 (some FieldType.int))) B.pre
  have hts : ∀ w ∈ lw_all, w.before _ s = true := fun w h => hts w (List.mem_cons_of_mem _ h)
  have hown : s.vm.findClass RX1 = some m.cls := findClass_of_methodNamed B.named
  have hlocks := B.notSynchronized
  subst hsz
  have hD := hD0.self (sz := s.heap.size)
  generalize hAe : va_A (MW b J E d) s.heap.size = A at hD ⊢
  have hA : ∀ q : Nat, s.heap.size ≤ q → A q := fun q h => by rw [← hAe]; exact Or.inr h
  have hS : va_S A s.heap s.heap [] := va_S.rf
  have hl := lv_entry ([.ref (b 0), .int v, .int ring, .int place, .int z]) (n := 8) (Nat.le_of_ble_eq_true rfl)
  rw [lg_entry_eq]
  generalize (lg_sl ([.ref (b 0), .int v, .int ring, .int place, .int z]) ++ List.replicate (8 - (lg_sl ([.ref (b 0), .int v, .int ring, .int place, .int z])).length) Slot.unset).toArray = ls at hl ⊢
  have hl : lv_has ls 8 [(0, .ref (b 0)), (1, .int v), (2, .int ring), (3, .int place), (4, .int z)] := hl
  have hP : va_P G CLS (MW b J E d) s.heap := hP
  have hj_1 : ∀ (hc : ¬ (¬ z = -9 ∧ ¬ inR z 0 500)), W p l e (headSpec (ws_ yX1_lay cX1_lay 8 (some FieldType.int)) ({ frames := 3, cells := 0, slots := 0, locals := 85 } : Room)).room s m ([.ref (b 0), .int v, .int ring, .int place, .int z] : List Value).toArray below meth c s.heap [] 0 0 (MQ below (va_Qi (fun (r : Int32) (u : MS) => (r, u) = mLay (J, E) v ring place z) (fun (u : MS) t => bW G d A (MW b u.1 u.2 d) t) A) ([.ref (b 0), .int v, .int ring, .int place, .int z] : List Value).toArray s 0 0 A) (F0 m 21 ls []) := by
    intro hc
    refine lv_aload_n hx hb dX1_lay_21 rfl (lv_at hl 0 rfl) ?_
    refine lv_iload_n hx hb dX1_lay_22 rfl (lv_at hl 1 rfl) ?_
    refine y_cVi (As := [.int v]) (rest := []) (ci := 1) (q0 := 0) ⟨hx, hb, hml, hown, hts⟩ hK hP hD hS hA (metX1_looked l G d s.heap.size b J E v) (cwV 1 hts (lw_V q1001 q1003 qs18 q39 q1004) rfl rfl rfl (by decide +kernel) ⟨Nat.le_of_ble_eq_true rfl, Nat.le_of_ble_eq_true rfl⟩) rfl rfl rfl hl.1 rfl (lv_room (Nat.le_of_ble_eq_true rfl)) dX1_lay_23 ⟨Nat.le_of_ble_eq_true rfl, Nat.le_of_ble_eq_true rfl⟩ (fun r_2 u_4 H locs hw_3 hP hD hS => ?_)
    rcases hw_3 with ⟨ha_5, hr_6, hu_7⟩ | ⟨k, hk, hv_8, he_9, hr_6, hu_7⟩ | ⟨k, hk, hv_8, he_9, hr_6, hu_7⟩
    · subst hr_6; subst hu_7
      have hP : va_P G CLS (MW b J E d) H := hP
      have hD : va_D A (MW b J E d) := hD
      refine lv_istore (lv' := [(5, .int (-1)), (0, .ref (b 0)), (1, .int v), (2, .int ring), (3, .int place), (4, .int z)]) hx hb dX1_lay_26 hl (Nat.le_of_ble_eq_true rfl) rfl (fun ls hl => ?_)
      refine lv_iload hx hb dX1_lay_28 (lv_at hl 0 rfl) ?_
      refine lv_if_ge (tgt := 36) hx hb dX1_lay_30 (by decide) (fun c_10 => ?_) (fun c_10 => ?_)
      · exact absurd c_10 (by decide)
      · refine lv_iload hx hb dX1_lay_33 (lv_at hl 0 rfl) ?_
        exact W.iret (v := (-1)) hx hb hr (fun t ht hW => ⟨⟨(-1), (J, E), rfl, by unfold mLay lookX; rw [if_neg hc, if_pos ha_5], by rw [ht]; exact hP, va_K.moved hW.alike hK, hD⟩, hS.F ht⟩) hS.2.2 dX1_lay_35
    · subst hr_6; subst hu_7; subst hv_8
      have hP : va_P G CLS (MW b ((uFind (J, E) 1).1) ((uFind (J, E) 1).2) d) H := hP
      have hD : va_D A (MW b ((uFind (J, E) 1).1) ((uFind (J, E) 1).2) d) := hD
      refine lv_istore (lv' := [(5, .int (-3)), (0, .ref (b 0)), (1, .int (nI k)), (2, .int ring), (3, .int place), (4, .int z)]) hx hb dX1_lay_26 hl (Nat.le_of_ble_eq_true rfl) rfl (fun ls hl => ?_)
      refine lv_iload hx hb dX1_lay_28 (lv_at hl 0 rfl) ?_
      refine lv_if_ge (tgt := 36) hx hb dX1_lay_30 (by decide) (fun c_11 => ?_) (fun c_11 => ?_)
      · exact absurd c_11 (by decide)
      · refine lv_iload hx hb dX1_lay_33 (lv_at hl 0 rfl) ?_
        exact W.iret (v := (-3)) hx hb hr (fun t ht hW => ⟨⟨(-3), (uFind (J, E) 1), rfl, by unfold mLay lookX; rw [if_neg hc, if_neg (not_not_intro (show inR (nI k) 0 3 from nI_inR (n := 3) (by omega) (by decide))), cl_nI (show k < 2 ^ 31 by omega), if_neg (not_not_intro he_9)], by rw [ht]; exact hP, va_K.moved hW.alike hK, hD⟩, hS.F ht⟩) hS.2.2 dX1_lay_35
    · subst hr_6; subst hu_7; subst hv_8
      have hP : va_P G CLS (MW b J E d) H := hP
      have hD : va_D A (MW b J E d) := hD
      refine lv_istore (lv' := [(5, .int 0), (0, .ref (b 0)), (1, .int (nI k)), (2, .int ring), (3, .int place), (4, .int z)]) hx hb dX1_lay_26 hl (Nat.le_of_ble_eq_true rfl) rfl (fun ls hl => ?_)
      refine lv_iload hx hb dX1_lay_28 (lv_at hl 0 rfl) ?_
      refine lv_if_ge (tgt := 36) hx hb dX1_lay_30 (by decide) (fun c_12 => ?_) (fun c_12 => ?_)
      · refine lv_iload_n hx hb dX1_lay_36 rfl (lv_at hl 3 rfl) ?_
        refine lv_iload_n hx hb dX1_lay_37 rfl (lv_at hl 4 rfl) ?_
        refine y_rS (As := [.int ring, .int place]) (rest := []) ⟨hx, hb, hml, hown, hts⟩ hK (ws := []) (fun _ _ h => by cases h) (metX1_isPlace l G d ring place) (va_cwS 2 hts (lw_S q1009 q1010 q39 q1011) rfl rfl rfl (by decide +kernel) ⟨Nat.le_of_ble_eq_true rfl, Nat.le_of_ble_eq_true rfl⟩) rfl hl.1 rfl (lv_room (Nat.le_of_ble_eq_true rfl)) dX1_lay_38 ⟨Nat.le_of_ble_eq_true rfl, Nat.le_of_ble_eq_true rfl⟩ (fun r_13 hr_14 => ?_)
        refine lv_if_ne (tgt := 50) hx hb dX1_lay_41 (by decide) (fun c_15 => ?_) (fun c_15 => ?_)
        · have c_15 := bI_ne hr_14 c_15
          obtain ⟨rr, hrr, rfl⟩ := inR_n (n := 11) (by decide) c_15.1
          obtain ⟨qq, hqq, rfl⟩ := inR_n (n := 7) (by decide) c_15.2
          refine lv_bipush (v := 96) hx hb dX1_lay_50 (by decide +kernel) ?_
          refine lv_iload_n hx hb dX1_lay_52 rfl (lv_at hl 2 rfl) ?_
          refine lv_imul hx hb dX1_lay_53 ?_
          refine y_top (y := nI (96 * k)) (pk_mul 96 k) ?_
          refine lv_bipush (v := 8) hx hb dX1_lay_54 (by decide +kernel) ?_
          refine lv_iload_n hx hb dX1_lay_56 rfl (lv_at hl 3 rfl) ?_
          refine lv_imul hx hb dX1_lay_57 ?_
          refine y_top (y := nI (8 * rr)) (pk_mul 8 rr) ?_
          refine lv_iadd hx hb dX1_lay_58 ?_
          refine y_top (y := nI ((96 * k) + (8 * rr))) (nI_add (96 * k) (8 * rr)) ?_
          refine lv_iload_n hx hb dX1_lay_59 rfl (lv_at hl 4 rfl) ?_
          refine lv_iadd hx hb dX1_lay_60 ?_
          refine y_top (y := nI (((96 * k) + (8 * rr)) + qq)) (nI_add ((96 * k) + (8 * rr)) qq) ?_
          refine lv_istore (lv' := [(6, .int (nI (((96 * k) + (8 * rr)) + qq))), (5, .int 0), (0, .ref (b 0)), (1, .int (nI k)), (2, .int (nI rr)), (3, .int (nI qq)), (4, .int z)]) hx hb dX1_lay_61 hl (Nat.le_of_ble_eq_true rfl) rfl (fun ls hl => ?_)
          refine lv_aload_n hx hb dX1_lay_63 rfl (lv_at hl 2 rfl) ?_
          refine va_get (D := G) (ci := 1) (v := .ref (b 4)) (C := RX1) (T := TX1) (N := 33) hx hb hts in_X1 hown hK hP 0 rfl rfl 4 (Nat.le_of_ble_eq_true rfl) (hts _ q890) (fun _ h9 => h9) rfl dX1_lay_64 ?_
          refine lv_iload hx hb dX1_lay_67 (lv_at hl 0 rfl) ?_
          refine y_iald (N := ((96 * k) + (8 * rr)) + qq) (f := E 4) hx hb hK hP 3 0 rfl rfl rfl (by omega) (by decide) dX1_lay_69 ?_
          refine lv_istore (lv' := [(7, .int ((E 4) (((96 * k) + (8 * rr)) + qq))), (6, .int (nI (((96 * k) + (8 * rr)) + qq))), (5, .int 0), (0, .ref (b 0)), (1, .int (nI k)), (2, .int (nI rr)), (3, .int (nI qq)), (4, .int z)]) hx hb dX1_lay_70 hl (Nat.le_of_ble_eq_true rfl) rfl (fun ls hl => ?_)
          refine lv_aload_n hx hb dX1_lay_72 rfl (lv_at hl 3 rfl) ?_
          refine va_get (D := G) (ci := 1) (v := .ref (b 4)) (C := RX1) (T := TX1) (N := 33) hx hb hts in_X1 hown hK hP 0 rfl rfl 4 (Nat.le_of_ble_eq_true rfl) (hts _ q890) (fun _ h9 => h9) rfl dX1_lay_73 ?_
          refine lv_iload hx hb dX1_lay_76 (lv_at hl 1 rfl) ?_
          refine lv_iload hx hb dX1_lay_78 (lv_at hl 7 rfl) ?_
          refine y_iast (N := ((96 * k) + (8 * rr)) + qq) (f := E 4) hx hb hK hP hD hS 3 0 rfl rfl rfl (by omega) (by decide) dX1_lay_80 (fun H locs hP hD hS => ?_)
          have hP : va_P G CLS (MW b J (va_up E 4 (upd (E 4) (((96 * k) + (8 * rr)) + qq) z)) d) H := hP
          have hD : va_D A (MW b J (va_up E 4 (upd (E 4) (((96 * k) + (8 * rr)) + qq) z)) d) := hD
          refine lv_iload hx hb dX1_lay_81 (lv_at hl 0 rfl) ?_
          exact W.iret (v := (E 4) (((96 * k) + (8 * rr)) + qq)) hx hb hr (fun t ht hW => ⟨⟨(E 4) (((96 * k) + (8 * rr)) + qq), (J, va_up E 4 (upd (E 4) (((96 * k) + (8 * rr)) + qq) z)), rfl, by unfold mLay lookX; rw [if_neg hc, if_neg (not_not_intro (show inR (nI k) 0 3 from nI_inR (n := 3) (by omega) (by decide))), cl_nI (show k < 2 ^ 31 by omega), if_pos he_9, if_neg (not_not_intro ⟨(show inR (nI rr) 0 11 from nI_inR (n := 11) (by omega) (by decide)), (show inR (nI qq) 0 7 from nI_inR (n := 7) (by omega) (by decide))⟩), cl_nI (show rr < 2 ^ 31 by omega), cl_nI (show qq < 2 ^ 31 by omega)], by rw [ht]; exact hP, va_K.moved hW.alike hK, hD⟩, hS.F ht⟩) hS.2.2 dX1_lay_83
        · have c_15 := bI_eq hr_14 c_15
          refine lv_aload_n hx hb dX1_lay_44 rfl (lv_at hl 1 rfl) ?_
          refine lv_iconst (v := 2) hx hb dX1_lay_45 (by decide) ?_
          refine y_cVi (As := [.int 2]) (rest := []) (ci := 1) (q0 := 0) ⟨hx, hb, hml, hown, hts⟩ hK hP hD hS hA (metX1_meets l G d H.size b J E 2 (by omega)) (cwV 1 hts (lw_V q1005 q1007 qs19 q39 q1008) rfl rfl rfl (by decide +kernel) ⟨Nat.le_of_ble_eq_true rfl, Nat.le_of_ble_eq_true rfl⟩) rfl rfl rfl hl.1 rfl (lv_room (Nat.le_of_ble_eq_true rfl)) dX1_lay_46 ⟨Nat.le_of_ble_eq_true rfl, Nat.le_of_ble_eq_true rfl⟩ (fun r_16 u_18 H locs hw_17 hP hD hS => ?_)
          obtain ⟨rfl, rfl⟩ := hw_17
          exact W.iret (v := (-3)) hx hb hr (fun t ht hW => ⟨⟨(-3), (uFind (J, E) 2), rfl, by unfold mLay lookX; rw [if_neg hc, if_neg (not_not_intro (show inR (nI k) 0 3 from nI_inR (n := 3) (by omega) (by decide))), cl_nI (show k < 2 ^ 31 by omega), if_pos he_9, if_pos c_15], by rw [ht]; exact hP, va_K.moved hW.alike hK, hD⟩, hS.F ht⟩) hS.2.2 dX1_lay_49
      · exact absurd c_12 (by decide)
  refine lv_iload hx hb dX1_lay_0 (lv_at hl 4 rfl) ?_
  refine lv_bipush (v := (-9)) hx hb dX1_lay_2 (by decide +kernel) ?_
  refine lv_icmp_eq (tgt := 21) hx hb dX1_lay_4 (by decide) (fun c_19 => ?_) (fun c_19 => ?_)
  · exact hj_1 (fun h => h.1 c_19)
  · refine lv_iload hx hb dX1_lay_7 (lv_at hl 4 rfl) ?_
    refine lv_iconst (v := 0) hx hb dX1_lay_9 (by decide) ?_
    refine lv_sipush (v := 500) hx hb dX1_lay_10 (by decide +kernel) ?_
    refine y_rS (As := [.int z, .int 0, .int 500]) (rest := []) ⟨hx, hb, hml, hown, hts⟩ hK (ws := []) (fun _ _ h => by cases h) (metX1_in l G d z 0 500) (va_cwS 3 hts (lw_S q994 q995 q39 q996) rfl rfl rfl (by decide +kernel) ⟨Nat.le_of_ble_eq_true rfl, Nat.le_of_ble_eq_true rfl⟩) rfl hl.1 rfl (lv_room (Nat.le_of_ble_eq_true rfl)) dX1_lay_13 ⟨Nat.le_of_ble_eq_true rfl, Nat.le_of_ble_eq_true rfl⟩ (fun r_20 hr_21 => ?_)
    refine lv_if_ne (tgt := 21) hx hb dX1_lay_16 (by decide) (fun c_22 => ?_) (fun c_22 => ?_)
    · have c_22 := bI_ne hr_21 c_22
      exact hj_1 (fun h => h.2 c_22)
    · have c_22 := bI_eq hr_21 c_22
      refine lv_iconst (v := (-1)) hx hb dX1_lay_19 (by decide) ?_
      exact W.iret (v := (-1)) hx hb hr (fun t ht hW => ⟨⟨(-1), (J, E), rfl, (if_pos ⟨c_19, c_22⟩).symm, by rw [ht]; exact hP, va_K.moved hW.alike hK, hD⟩, hS.F ht⟩) hS.2.2 dX1_lay_20
