set_option maxHeartbeats 400000 in
set_option maxRecDepth 100000 in
theorem metX1_at (l : Launch) (G : va_G) (d : Nat → Nat) (sz : Nat) (b : Nat → Nat) (J : Nat → Int32) (E : Nat → Nat → Int32) (v ring place fl sh : Int32) (n : Nat) (hn12 : n ≤ 12) (hn : J 6 = nI n) : Met l yX1_at (ws_ yX1_at cX1_at 7 (some FieldType.int)) ({ frames := 3, cells := 0, slots := 0, locals := 85 } : Room) (va_Pc [.ref (b 0), .int v, .int ring, .int place, .int fl, .int sh] (pW G d sz (MW b J E d))) (va_Qi (fun (r : Int32) (u : MS) => (r, u) = mAt n (J, E) v ring place fl sh) (fun (u : MS) t => bW G d (va_A (MW b J E d) sz) (MW b u.1 u.2 d) t) (va_A (MW b J E d) sz)) 0 0 (va_A (MW b J E d) sz) := by
  refine Met.ofW (cc := cX1_at) (maxL := 7) (ret := (some FieldType.int)) (by decide) rfl ?_
  intro p e s m args below meth c s₁ B hml hv
  obtain ⟨rfl, hsz, hP, hK, hD0⟩ := hv
  have hx := B.exec
  have hb := B.bytes
  have hr := B.returns
  have hts := atoms_spec (ws := (ws_ yX1_at cX1_at 7 (some FieldType.int))) B.pre
  have hts : ∀ w ∈ lw_all, w.before _ s = true := fun w h => hts w (List.mem_cons_of_mem _ h)
  have hown : s.vm.findClass RX1 = some m.cls := findClass_of_methodNamed B.named
  have hlocks := B.notSynchronized
  subst hsz
  have hD := hD0.self (sz := s.heap.size)
  generalize hAe : va_A (MW b J E d) s.heap.size = A at hD ⊢
  have hA : ∀ q : Nat, s.heap.size ≤ q → A q := fun q h => by rw [← hAe]; exact Or.inr h
  have hS : va_S A s.heap s.heap [] := va_S.rf
  have hl := lv_entry ([.ref (b 0), .int v, .int ring, .int place, .int fl, .int sh]) (n := 7) (Nat.le_of_ble_eq_true rfl)
  rw [lg_entry_eq]
  generalize (lg_sl ([.ref (b 0), .int v, .int ring, .int place, .int fl, .int sh]) ++ List.replicate (7 - (lg_sl ([.ref (b 0), .int v, .int ring, .int place, .int fl, .int sh])).length) Slot.unset).toArray = ls at hl ⊢
  have hl : lv_has ls 7 [(0, .ref (b 0)), (1, .int v), (2, .int ring), (3, .int place), (4, .int fl), (5, .int sh)] := hl
  have hP : va_P G CLS (MW b J E d) s.heap := hP
  refine lv_aload_n hx hb dX1_at_0 rfl (lv_at hl 0 rfl) ?_
  refine lv_iload_n hx hb dX1_at_1 rfl (lv_at hl 1 rfl) ?_
  refine y_cVi (As := [.int v]) (rest := []) (ci := 1) (q0 := 0) ⟨hx, hb, hml, hown, hts⟩ hK hP hD hS hA (metX1_looked l G d s.heap.size b J E v) (cwV 1 hts (lw_V q1001 q1003 qs18 q39 q1004) rfl rfl rfl (by decide +kernel) ⟨Nat.le_of_ble_eq_true rfl, Nat.le_of_ble_eq_true rfl⟩) rfl rfl rfl hl.1 rfl (lv_room (Nat.le_of_ble_eq_true rfl)) dX1_at_2 ⟨Nat.le_of_ble_eq_true rfl, Nat.le_of_ble_eq_true rfl⟩ (fun r_1 u_3 H locs hw_2 hP hD hS => ?_)
  rcases hw_2 with ⟨ha_4, hr_5, hu_6⟩ | ⟨k, hk, hv_7, he_8, hr_5, hu_6⟩ | ⟨k, hk, hv_7, he_8, hr_5, hu_6⟩
  · subst hr_5; subst hu_6
    have hP : va_P G CLS (MW b J E d) H := hP
    have hD : va_D A (MW b J E d) := hD
    refine lv_istore (lv' := [(6, .int (-1)), (0, .ref (b 0)), (1, .int v), (2, .int ring), (3, .int place), (4, .int fl), (5, .int sh)]) hx hb dX1_at_5 hl (Nat.le_of_ble_eq_true rfl) rfl (fun ls hl => ?_)
    refine lv_iload hx hb dX1_at_7 (lv_at hl 0 rfl) ?_
    refine lv_if_ge (tgt := 15) hx hb dX1_at_9 (by decide) (fun c_9 => ?_) (fun c_9 => ?_)
    · exact absurd c_9 (by decide)
    · refine lv_iload hx hb dX1_at_12 (lv_at hl 0 rfl) ?_
      exact W.iret (v := (-1)) hx hb hr (fun t ht hW => ⟨⟨(-1), (J, E), rfl, by unfold mAt lookX; rw [if_pos ha_4], by rw [ht]; exact hP, va_K.moved hW.alike hK, hD⟩, hS.F ht⟩) hS.2.2 dX1_at_14
  · subst hr_5; subst hu_6; subst hv_7
    have hP : va_P G CLS (MW b ((uFind (J, E) 1).1) ((uFind (J, E) 1).2) d) H := hP
    have hD : va_D A (MW b ((uFind (J, E) 1).1) ((uFind (J, E) 1).2) d) := hD
    refine lv_istore (lv' := [(6, .int (-3)), (0, .ref (b 0)), (1, .int (nI k)), (2, .int ring), (3, .int place), (4, .int fl), (5, .int sh)]) hx hb dX1_at_5 hl (Nat.le_of_ble_eq_true rfl) rfl (fun ls hl => ?_)
    refine lv_iload hx hb dX1_at_7 (lv_at hl 0 rfl) ?_
    refine lv_if_ge (tgt := 15) hx hb dX1_at_9 (by decide) (fun c_10 => ?_) (fun c_10 => ?_)
    · exact absurd c_10 (by decide)
    · refine lv_iload hx hb dX1_at_12 (lv_at hl 0 rfl) ?_
      exact W.iret (v := (-3)) hx hb hr (fun t ht hW => ⟨⟨(-3), (uFind (J, E) 1), rfl, by unfold mAt lookX; rw [if_neg (not_not_intro (show inR (nI k) 0 3 from nI_inR (n := 3) (by omega) (by decide))), cl_nI (show k < 2 ^ 31 by omega), if_neg (not_not_intro he_8)], by rw [ht]; exact hP, va_K.moved hW.alike hK, hD⟩, hS.F ht⟩) hS.2.2 dX1_at_14
  · subst hr_5; subst hu_6; subst hv_7
    have hP : va_P G CLS (MW b J E d) H := hP
    have hD : va_D A (MW b J E d) := hD
    refine lv_istore (lv' := [(6, .int 0), (0, .ref (b 0)), (1, .int (nI k)), (2, .int ring), (3, .int place), (4, .int fl), (5, .int sh)]) hx hb dX1_at_5 hl (Nat.le_of_ble_eq_true rfl) rfl (fun ls hl => ?_)
    refine lv_iload hx hb dX1_at_7 (lv_at hl 0 rfl) ?_
    refine lv_if_ge (tgt := 15) hx hb dX1_at_9 (by decide) (fun c_11 => ?_) (fun c_11 => ?_)
    · refine lv_iload_n hx hb dX1_at_15 rfl (lv_at hl 3 rfl) ?_
      refine lv_iload_n hx hb dX1_at_16 rfl (lv_at hl 4 rfl) ?_
      refine y_rS (As := [.int ring, .int place]) (rest := []) ⟨hx, hb, hml, hown, hts⟩ hK (ws := []) (fun _ _ h => by cases h) (metX1_isPlace l G d ring place) (va_cwS 2 hts (lw_S q1009 q1010 q39 q1011) rfl rfl rfl (by decide +kernel) ⟨Nat.le_of_ble_eq_true rfl, Nat.le_of_ble_eq_true rfl⟩) rfl hl.1 rfl (lv_room (Nat.le_of_ble_eq_true rfl)) dX1_at_17 ⟨Nat.le_of_ble_eq_true rfl, Nat.le_of_ble_eq_true rfl⟩ (fun r_12 hr_13 => ?_)
      refine lv_if_ne (tgt := 29) hx hb dX1_at_20 (by decide) (fun c_14 => ?_) (fun c_14 => ?_)
      · have c_14 := bI_ne hr_13 c_14
        obtain ⟨rr, hrr, rfl⟩ := inR_n (n := 11) (by decide) c_14.1
        obtain ⟨qq, hqq, rfl⟩ := inR_n (n := 7) (by decide) c_14.2
        refine lv_iload hx hb dX1_at_29 (lv_at hl 6 rfl) ?_
        refine lv_if_eq (tgt := 44) hx hb dX1_at_31 (by decide) (fun c_15 => ?_) (fun c_15 => ?_)
        · refine lv_iload hx hb dX1_at_44 (lv_at hl 5 rfl) ?_
          refine lv_if_eq (tgt := 59) hx hb dX1_at_46 (by decide) (fun c_16 => ?_) (fun c_16 => ?_)
          · refine lv_aload_n hx hb dX1_at_59 rfl (lv_at hl 1 rfl) ?_
            refine lv_iload_n hx hb dX1_at_60 rfl (lv_at hl 2 rfl) ?_
            refine lv_iload_n hx hb dX1_at_61 rfl (lv_at hl 3 rfl) ?_
            refine lv_iload_n hx hb dX1_at_62 rfl (lv_at hl 4 rfl) ?_
            refine y_rV (As := [.int (nI k), .int (nI rr), .int (nI qq)]) (rest := []) (ci := 1) (q0 := 0) ⟨hx, hb, hml, hown, hts⟩ hK hP (metX1_toldAt l G d b J E k rr qq (by omega) (by omega) (by omega)) (cwV 3 hts (lw_V q1027 q1029 qs22 q39 q1030) rfl rfl rfl (by decide +kernel) ⟨Nat.le_of_ble_eq_true rfl, Nat.le_of_ble_eq_true rfl⟩) rfl rfl rfl hl.1 rfl (lv_room (Nat.le_of_ble_eq_true rfl)) dX1_at_63 ⟨Nat.le_of_ble_eq_true rfl, Nat.le_of_ble_eq_true rfl⟩ (fun r_17 hw_18 => ?_)
            rw [hw_18]
            exact W.iret (v := E 4 (96 * k + 8 * rr + qq % 8)) hx hb hr (fun t ht hW => ⟨⟨E 4 (96 * k + 8 * rr + qq % 8), (J, E), rfl, by unfold mAt lookX; rw [if_neg (not_not_intro (show inR (nI k) 0 3 from nI_inR (n := 3) (by omega) (by decide))), cl_nI (show k < 2 ^ 31 by omega), if_pos he_8, if_neg (not_not_intro ⟨(show inR (nI rr) 0 11 from nI_inR (n := 11) (by omega) (by decide)), (show inR (nI qq) 0 7 from nI_inR (n := 7) (by omega) (by decide))⟩), cl_nI (show rr < 2 ^ 31 by omega), cl_nI (show qq < 2 ^ 31 by omega), atV, if_neg (not_not_intro c_15), if_neg (not_not_intro c_16), Nat.mod_eq_of_lt hqq], by rw [ht]; exact hP, va_K.moved hW.alike hK, hD⟩, hS.F ht⟩) hS.2.2 dX1_at_66
          · refine lv_aload_n hx hb dX1_at_49 rfl (lv_at hl 1 rfl) ?_
            refine lv_iload_n hx hb dX1_at_50 rfl (lv_at hl 2 rfl) ?_
            refine lv_iload_n hx hb dX1_at_51 rfl (lv_at hl 3 rfl) ?_
            refine lv_iload_n hx hb dX1_at_52 rfl (lv_at hl 4 rfl) ?_
            refine y_rV (As := [.int (nI k), .int (nI rr), .int (nI qq)]) (rest := []) (ci := 1) (q0 := 0) ⟨hx, hb, hml, hown, hts⟩ hK hP (metX1_filledAt l G d b J E k rr qq (by omega) (by omega) (by omega)) (cwV 3 hts (lw_V q1023 q1025 qs21 q39 q1026) rfl rfl rfl (by decide +kernel) ⟨Nat.le_of_ble_eq_true rfl, Nat.le_of_ble_eq_true rfl⟩) rfl rfl rfl hl.1 rfl (lv_room (Nat.le_of_ble_eq_true rfl)) dX1_at_53 ⟨Nat.le_of_ble_eq_true rfl, Nat.le_of_ble_eq_true rfl⟩ (fun r_19 hw_20 => ?_)
            rw [hw_20]
            refine lv_goto (tgt := 66) hx hb dX1_at_56 (by decide) ?_
            exact W.iret (v := fillV (gM E k rr) qq) hx hb hr (fun t ht hW => ⟨⟨fillV (gM E k rr) qq, (J, E), rfl, by unfold mAt lookX; rw [if_neg (not_not_intro (show inR (nI k) 0 3 from nI_inR (n := 3) (by omega) (by decide))), cl_nI (show k < 2 ^ 31 by omega), if_pos he_8, if_neg (not_not_intro ⟨(show inR (nI rr) 0 11 from nI_inR (n := 11) (by omega) (by decide)), (show inR (nI qq) 0 7 from nI_inR (n := 7) (by omega) (by decide))⟩), cl_nI (show rr < 2 ^ 31 by omega), cl_nI (show qq < 2 ^ 31 by omega), atV, if_neg (not_not_intro c_15), if_pos c_16], by rw [ht]; exact hP, va_K.moved hW.alike hK, hD⟩, hS.F ht⟩) hS.2.2 dX1_at_66
        · refine lv_aload_n hx hb dX1_at_34 rfl (lv_at hl 1 rfl) ?_
          refine lv_iload_n hx hb dX1_at_35 rfl (lv_at hl 2 rfl) ?_
          refine lv_iload_n hx hb dX1_at_36 rfl (lv_at hl 3 rfl) ?_
          refine lv_iload_n hx hb dX1_at_37 rfl (lv_at hl 4 rfl) ?_
          refine y_rV (As := [.int (nI k), .int (nI rr), .int (nI qq)]) (rest := []) (ci := 1) (q0 := 0) ⟨hx, hb, hml, hown, hts⟩ hK hP (metX1_shapedAt l G d b J E k rr qq n (by omega) (by omega) (by omega) hn12 hn) (cwV 3 hts (lw_V q1019 q1021 qs20 q39 q1022) rfl rfl rfl (by decide +kernel) ⟨Nat.le_of_ble_eq_true rfl, Nat.le_of_ble_eq_true rfl⟩) rfl rfl rfl hl.1 rfl (lv_room (Nat.le_of_ble_eq_true rfl)) dX1_at_38 ⟨Nat.le_of_ble_eq_true rfl, Nat.le_of_ble_eq_true rfl⟩ (fun r_21 hw_22 => ?_)
          rw [hw_22]
          refine lv_goto (tgt := 66) hx hb dX1_at_41 (by decide) ?_
          exact W.iret (v := shapeV (E 7) (E 8) (E 9) (E 10) n rr qq (fillV (gM E k rr) qq)) hx hb hr (fun t ht hW => ⟨⟨shapeV (E 7) (E 8) (E 9) (E 10) n rr qq (fillV (gM E k rr) qq), (J, E), rfl, by unfold mAt lookX; rw [if_neg (not_not_intro (show inR (nI k) 0 3 from nI_inR (n := 3) (by omega) (by decide))), cl_nI (show k < 2 ^ 31 by omega), if_pos he_8, if_neg (not_not_intro ⟨(show inR (nI rr) 0 11 from nI_inR (n := 11) (by omega) (by decide)), (show inR (nI qq) 0 7 from nI_inR (n := 7) (by omega) (by decide))⟩), cl_nI (show rr < 2 ^ 31 by omega), cl_nI (show qq < 2 ^ 31 by omega), atV, if_pos c_15], by rw [ht]; exact hP, va_K.moved hW.alike hK, hD⟩, hS.F ht⟩) hS.2.2 dX1_at_66
      · have c_14 := bI_eq hr_13 c_14
        refine lv_aload_n hx hb dX1_at_23 rfl (lv_at hl 1 rfl) ?_
        refine lv_iconst (v := 2) hx hb dX1_at_24 (by decide) ?_
        refine y_cVi (As := [.int 2]) (rest := []) (ci := 1) (q0 := 0) ⟨hx, hb, hml, hown, hts⟩ hK hP hD hS hA (metX1_meets l G d H.size b J E 2 (by omega)) (cwV 1 hts (lw_V q1005 q1007 qs19 q39 q1008) rfl rfl rfl (by decide +kernel) ⟨Nat.le_of_ble_eq_true rfl, Nat.le_of_ble_eq_true rfl⟩) rfl rfl rfl hl.1 rfl (lv_room (Nat.le_of_ble_eq_true rfl)) dX1_at_25 ⟨Nat.le_of_ble_eq_true rfl, Nat.le_of_ble_eq_true rfl⟩ (fun r_23 u_25 H locs hw_24 hP hD hS => ?_)
        obtain ⟨rfl, rfl⟩ := hw_24
        exact W.iret (v := (-3)) hx hb hr (fun t ht hW => ⟨⟨(-3), (uFind (J, E) 2), rfl, by unfold mAt lookX; rw [if_neg (not_not_intro (show inR (nI k) 0 3 from nI_inR (n := 3) (by omega) (by decide))), cl_nI (show k < 2 ^ 31 by omega), if_pos he_8, if_pos c_14], by rw [ht]; exact hP, va_K.moved hW.alike hK, hD⟩, hS.F ht⟩) hS.2.2 dX1_at_28
    · exact absurd c_11 (by decide)
