set_option maxHeartbeats 400000 in
set_option maxRecDepth 100000 in
theorem metX1_toldAt (l : Launch) (G : va_G) (d : Nat → Nat) (b : Nat → Nat) (J : Nat → Int32) (E : Nat → Nat → Int32) (k r q : Nat) (hk : k < 4) (h12 : r < 12) (hq : q < 2 ^ 30) : Met l yX1_toldAt (ws_ yX1_toldAt cX1_toldAt 4 (some FieldType.int)) ({ frames := 0, cells := 0, slots := 0, locals := 0 } : Room) (va_Pc [.ref (b 0), .int (nI k), .int (nI r), .int (nI q)] (pR G d (MW b J E d))) (vp_Si (fun x => x = E 4 (96 * k + 8 * r + q % 8))) 0 0 (fun _ => False) := by
  refine Met.ofW (cc := cX1_toldAt) (maxL := 4) (ret := (some FieldType.int)) (by decide) rfl ?_
  intro p e s m args below meth c s₁ B hml hv
  obtain ⟨rfl, hP, hK⟩ := hv
  have hx := B.exec
  have hb := B.bytes
  have hr := B.returns
  have hts := atoms_spec (ws := (ws_ yX1_toldAt cX1_toldAt 4 (some FieldType.int))) B.pre
  have hts : ∀ w ∈ lw_all, w.before _ s = true := fun w h => hts w (List.mem_cons_of_mem _ h)
  have hown : s.vm.findClass RX1 = some m.cls := findClass_of_methodNamed B.named
  have hlocks := B.notSynchronized
  have hl := lv_entry ([.ref (b 0), .int (nI k), .int (nI r), .int (nI q)]) (n := 4) (Nat.le_of_ble_eq_true rfl)
  rw [lg_entry_eq]
  generalize (lg_sl ([.ref (b 0), .int (nI k), .int (nI r), .int (nI q)]) ++ List.replicate (4 - (lg_sl ([.ref (b 0), .int (nI k), .int (nI r), .int (nI q)])).length) Slot.unset).toArray = ls at hl ⊢
  have hl : lv_has ls 4 [(0, .ref (b 0)), (1, .int (nI k)), (2, .int (nI r)), (3, .int (nI q))] := hl
  refine lv_aload_n hx hb dX1_toldAt_0 rfl (lv_at hl 0 rfl) ?_
  refine va_get (D := G) (ci := 1) (v := .ref (b 4)) (C := RX1) (T := TX1) (N := 33) hx hb hts in_X1 hown hK hP 0 rfl rfl 4 (Nat.le_of_ble_eq_true rfl) (hts _ q890) (fun _ h9 => h9) rfl dX1_toldAt_1 ?_
  refine lv_bipush (v := 96) hx hb dX1_toldAt_4 (by decide +kernel) ?_
  refine lv_iload_n hx hb dX1_toldAt_6 rfl (lv_at hl 1 rfl) ?_
  refine lv_imul hx hb dX1_toldAt_7 ?_
  refine y_top (y := nI (96 * k)) (pk_mul 96 k) ?_
  refine lv_bipush (v := 8) hx hb dX1_toldAt_8 (by decide +kernel) ?_
  refine lv_iload_n hx hb dX1_toldAt_10 rfl (lv_at hl 2 rfl) ?_
  refine lv_imul hx hb dX1_toldAt_11 ?_
  refine y_top (y := nI (8 * r)) (pk_mul 8 r) ?_
  refine lv_iadd hx hb dX1_toldAt_12 ?_
  refine y_top (y := nI ((96 * k) + (8 * r))) (nI_add (96 * k) (8 * r)) ?_
  refine lv_iload_n hx hb dX1_toldAt_13 rfl (lv_at hl 3 rfl) ?_
  refine lv_bipush (v := 7) hx hb dX1_toldAt_14 (by decide +kernel) ?_
  refine lv_iand hx hb dX1_toldAt_16 ?_
  refine y_top (y := nI (q % 8)) (pk_andN (by omega) 3 (by decide)) ?_
  refine lv_iadd hx hb dX1_toldAt_17 ?_
  refine y_top (y := nI (((96 * k) + (8 * r)) + (q % 8))) (nI_add ((96 * k) + (8 * r)) (q % 8)) ?_
  refine y_iald (N := ((96 * k) + (8 * r)) + (q % 8)) (f := E 4) hx hb hK hP 3 0 rfl rfl rfl (by omega) (by decide) dX1_toldAt_18 ?_
  exact W.iret (v := (E 4) (((96 * k) + (8 * r)) + (q % 8))) hx hb hr (fun t ht hW => ⟨(E 4) (((96 * k) + (8 * r)) + (q % 8)), rfl, rfl, ht⟩) (fun q h => by cases h) dX1_toldAt_19
set_option maxHeartbeats 400000 in
set_option maxRecDepth 100000 in
theorem metX1_filledAt (l : Launch) (G : va_G) (d : Nat → Nat) (b : Nat → Nat) (J : Nat → Int32) (E : Nat → Nat → Int32) (k r q : Nat) (hk : k < 4) (h12 : r < 12) (hq : q < 8) : Met l yX1_filledAt (ws_ yX1_filledAt cX1_filledAt 6 (some FieldType.int)) ({ frames := 1, cells := 0, slots := 0, locals := 23 } : Room) (va_Pc [.ref (b 0), .int (nI k), .int (nI r), .int (nI q)] (pR G d (MW b J E d))) (vp_Si (fun x => x = fillV (gM E k r) q)) 0 0 (fun _ => False) := by
  refine Met.ofW (cc := cX1_filledAt) (maxL := 6) (ret := (some FieldType.int)) (by decide) rfl ?_
  intro p e s m args below meth c s₁ B hml hv
  obtain ⟨rfl, hP, hK⟩ := hv
  have hx := B.exec
  have hb := B.bytes
  have hr := B.returns
  have hts := atoms_spec (ws := (ws_ yX1_filledAt cX1_filledAt 6 (some FieldType.int))) B.pre
  have hts : ∀ w ∈ lw_all, w.before _ s = true := fun w h => hts w (List.mem_cons_of_mem _ h)
  have hown : s.vm.findClass RX1 = some m.cls := findClass_of_methodNamed B.named
  have hlocks := B.notSynchronized
  have hl := lv_entry ([.ref (b 0), .int (nI k), .int (nI r), .int (nI q)]) (n := 6) (Nat.le_of_ble_eq_true rfl)
  rw [lg_entry_eq]
  generalize (lg_sl ([.ref (b 0), .int (nI k), .int (nI r), .int (nI q)]) ++ List.replicate (6 - (lg_sl ([.ref (b 0), .int (nI k), .int (nI r), .int (nI q)])).length) Slot.unset).toArray = ls at hl ⊢
  have hl : lv_has ls 6 [(0, .ref (b 0)), (1, .int (nI k)), (2, .int (nI r)), (3, .int (nI q))] := hl
  refine lv_iconst (v := 0) hx hb dX1_filledAt_0 (by decide) ?_
  refine lv_istore (lv' := [(4, .int 0), (0, .ref (b 0)), (1, .int (nI k)), (2, .int (nI r)), (3, .int (nI q))]) hx hb dX1_filledAt_1 hl (Nat.le_of_ble_eq_true rfl) rfl (fun ls hl => ?_)
  have hj_1 : ∀ (z : Nat) (h8 : z ≤ 8) (bz : ∀ j, j < z → E 4 (96 * k + 8 * r + (q + 8 - j) % 8) = -9) (he : z < 8 → ¬ E 4 (96 * k + 8 * r + (q + 8 - z) % 8) = -9) (ls : Array Slot) (hl : lv_has ls 6 [(4, .int (nI z)), (0, .ref (b 0)), (1, .int (nI k)), (2, .int (nI r)), (3, .int (nI q))]), W p l e (headSpec (ws_ yX1_filledAt cX1_filledAt 6 (some FieldType.int)) ({ frames := 1, cells := 0, slots := 0, locals := 23 } : Room)).room s m ([.ref (b 0), .int (nI k), .int (nI r), .int (nI q)] : List Value).toArray below meth c s.heap [] 0 0 (MQ below (vp_Si (fun x => x = fillV (gM E k r) q)) ([.ref (b 0), .int (nI k), .int (nI r), .int (nI q)] : List Value).toArray s 0 0 (fun _ => False)) (F0 m 34 ls []) := by
    intro z h8 bz he ls hl
    refine lv_iload hx hb dX1_filledAt_34 (lv_at hl 0 rfl) ?_
    refine lv_if_eq (tgt := 46) hx hb dX1_filledAt_36 (by decide) (fun c_2 => ?_) (fun c_2 => ?_)
    · have c_2 : z = 0 := (nI_eq (a := z) (b := 0) (by omega) (by omega)).mp c_2
      refine lv_iload hx hb dX1_filledAt_46 (lv_at hl 0 rfl) ?_
      refine lv_if_ne (tgt := 61) hx hb dX1_filledAt_48 (by decide) (fun c_3 => ?_) (fun c_3 => ?_)
      · have c_3 : ¬ z = 0 := fun h => c_3 ((nI_eq (a := z) (b := 0) (by omega) (by omega)).mpr h)
        exfalso; omega
      · have c_3 : z = 0 := (nI_eq (a := z) (b := 0) (by omega) (by omega)).mp c_3
        refine lv_aload_n hx hb dX1_filledAt_51 rfl (lv_at hl 1 rfl) ?_
        refine lv_iload_n hx hb dX1_filledAt_52 rfl (lv_at hl 2 rfl) ?_
        refine lv_iload_n hx hb dX1_filledAt_53 rfl (lv_at hl 3 rfl) ?_
        refine lv_iload_n hx hb dX1_filledAt_54 rfl (lv_at hl 4 rfl) ?_
        refine y_rV (As := [.int (nI k), .int (nI r), .int (nI q)]) (rest := []) (ci := 1) (q0 := 0) ⟨hx, hb, hml, hown, hts⟩ hK hP (metX1_toldAt l G d b J E k r q (by omega) (by omega) (by omega)) (cwV 3 hts (lw_V q1027 q1029 qs22 q39 q1030) rfl rfl rfl (by decide +kernel) ⟨Nat.le_of_ble_eq_true rfl, Nat.le_of_ble_eq_true rfl⟩) rfl rfl rfl hl.1 rfl (lv_room (Nat.le_of_ble_eq_true rfl)) dX1_filledAt_55 ⟨Nat.le_of_ble_eq_true rfl, Nat.le_of_ble_eq_true rfl⟩ (fun r_4 hw_5 => ?_)
        rw [hw_5]
        refine lv_goto (tgt := 63) hx hb dX1_filledAt_58 (by decide) ?_
        exact W.iret (v := E 4 (96 * k + 8 * r + q % 8)) hx hb hr (fun t ht hW => ⟨E 4 (96 * k + 8 * r + q % 8), rfl, by
            have h1 := he (by omega)
            rw [show (q + 8 - z) % 8 = q by omega] at h1
            rw [fillV_0 (g := gM E k r) hq h1, Nat.mod_eq_of_lt hq], ht⟩) (fun q h => by cases h) dX1_filledAt_63
    · have c_2 : ¬ z = 0 := fun h => c_2 ((nI_eq (a := z) (b := 0) (by omega) (by omega)).mpr h)
      refine lv_iload hx hb dX1_filledAt_39 (lv_at hl 0 rfl) ?_
      refine lv_bipush (v := 8) hx hb dX1_filledAt_41 (by decide +kernel) ?_
      refine lv_icmp_ne (tgt := 64) hx hb dX1_filledAt_43 (by decide) (fun c_6 => ?_) (fun c_6 => ?_)
      · have c_6 : ¬ z = 8 := fun h => c_6 ((nI_eq (a := z) (b := 8) (by omega) (by omega)).mpr h)
        refine lv_iconst (v := 1) hx hb dX1_filledAt_64 (by decide) ?_
        refine lv_istore (lv' := [(5, .int 1), (4, .int (nI z)), (0, .ref (b 0)), (1, .int (nI k)), (2, .int (nI r)), (3, .int (nI q))]) hx hb dX1_filledAt_65 hl (Nat.le_of_ble_eq_true rfl) rfl (fun ls hl => ?_)
        have lp_7 : ∀ (fu : Nat) (i : Nat) (h1 : 1 ≤ i) (hi : i ≤ 8 - z) (hm : 8 < i + fu) (rb : ∀ j, j < i → E 4 (96 * k + 8 * r + (q + j) % 8) = -9) (ls : Array Slot) (hl : lv_has ls 6 [(5, .int (nI i)), (4, .int (nI z)), (0, .ref (b 0)), (1, .int (nI k)), (2, .int (nI r)), (3, .int (nI q))]), W p l e (headSpec (ws_ yX1_filledAt cX1_filledAt 6 (some FieldType.int)) ({ frames := 1, cells := 0, slots := 0, locals := 23 } : Room)).room s m ([.ref (b 0), .int (nI k), .int (nI r), .int (nI q)] : List Value).toArray below meth c s.heap [] 0 0 (MQ below (vp_Si (fun x => x = fillV (gM E k r) q)) ([.ref (b 0), .int (nI k), .int (nI r), .int (nI q)] : List Value).toArray s 0 0 (fun _ => False)) (F0 m 67 ls []) := by
          intro fu
          induction fu with
          | zero =>
            intro i h1 hi hm rb ls hl
            exfalso; omega
          | succ fu ih_lp_7 =>
            intro i h1 hi hm rb ls hl
            refine lv_aload_n hx hb dX1_filledAt_67 rfl (lv_at hl 2 rfl) ?_
            refine lv_iload_n hx hb dX1_filledAt_68 rfl (lv_at hl 3 rfl) ?_
            refine lv_iload_n hx hb dX1_filledAt_69 rfl (lv_at hl 4 rfl) ?_
            refine lv_iload_n hx hb dX1_filledAt_70 rfl (lv_at hl 5 rfl) ?_
            refine lv_iload hx hb dX1_filledAt_71 (lv_at hl 0 rfl) ?_
            refine lv_iadd hx hb dX1_filledAt_73 ?_
            refine y_top (y := nI (q + i)) (nI_add q i) ?_
            refine y_rV (As := [.int (nI k), .int (nI r), .int (nI (q + i))]) (rest := []) (ci := 1) (q0 := 0) ⟨hx, hb, hml, hown, hts⟩ hK hP (metX1_toldAt l G d b J E k r (q + i) (by omega) (by omega) (by omega)) (cwV 3 hts (lw_V q1027 q1029 qs22 q39 q1030) rfl rfl rfl (by decide +kernel) ⟨Nat.le_of_ble_eq_true rfl, Nat.le_of_ble_eq_true rfl⟩) rfl rfl rfl hl.1 rfl (lv_room (Nat.le_of_ble_eq_true rfl)) dX1_filledAt_74 ⟨Nat.le_of_ble_eq_true rfl, Nat.le_of_ble_eq_true rfl⟩ (fun r_8 hw_9 => ?_)
            rw [hw_9]
            refine lv_bipush (v := (-9)) hx hb dX1_filledAt_77 (by decide +kernel) ?_
            refine lv_icmp_ne (tgt := 88) hx hb dX1_filledAt_79 (by decide) (fun c_10 => ?_) (fun c_10 => ?_)
            · refine lv_aload_n hx hb dX1_filledAt_88 rfl (lv_at hl 2 rfl) ?_
              refine lv_iload_n hx hb dX1_filledAt_89 rfl (lv_at hl 3 rfl) ?_
              refine lv_iload_n hx hb dX1_filledAt_90 rfl (lv_at hl 4 rfl) ?_
              refine lv_iload_n hx hb dX1_filledAt_91 rfl (lv_at hl 5 rfl) ?_
              refine lv_bipush (v := 8) hx hb dX1_filledAt_92 (by decide +kernel) ?_
              refine lv_iadd hx hb dX1_filledAt_94 ?_
              refine y_top (y := nI (q + 8)) (nI_add q 8) ?_
              refine lv_iload hx hb dX1_filledAt_95 (lv_at hl 1 rfl) ?_
              refine lv_isub hx hb dX1_filledAt_97 ?_
              refine y_top (y := nI ((q + 8) - z)) (pk_sub (a := q + 8) (b := z) (by omega)) ?_
              refine y_rV (As := [.int (nI k), .int (nI r), .int (nI ((q + 8) - z))]) (rest := []) (ci := 1) (q0 := 0) ⟨hx, hb, hml, hown, hts⟩ hK hP (metX1_toldAt l G d b J E k r ((q + 8) - z) (by omega) (by omega) (by omega)) (cwV 3 hts (lw_V q1027 q1029 qs22 q39 q1030) rfl rfl rfl (by decide +kernel) ⟨Nat.le_of_ble_eq_true rfl, Nat.le_of_ble_eq_true rfl⟩) rfl rfl rfl hl.1 rfl (lv_room (Nat.le_of_ble_eq_true rfl)) dX1_filledAt_98 ⟨Nat.le_of_ble_eq_true rfl, Nat.le_of_ble_eq_true rfl⟩ (fun r_11 hw_12 => ?_)
              rw [hw_12]
              refine lv_iload hx hb dX1_filledAt_101 (lv_at hl 0 rfl) ?_
              refine lv_imul hx hb dX1_filledAt_103 ?_
              refine lv_aload_n hx hb dX1_filledAt_104 rfl (lv_at hl 2 rfl) ?_
              refine lv_iload_n hx hb dX1_filledAt_105 rfl (lv_at hl 3 rfl) ?_
              refine lv_iload_n hx hb dX1_filledAt_106 rfl (lv_at hl 4 rfl) ?_
              refine lv_iload_n hx hb dX1_filledAt_107 rfl (lv_at hl 5 rfl) ?_
              refine lv_iload hx hb dX1_filledAt_108 (lv_at hl 0 rfl) ?_
              refine lv_iadd hx hb dX1_filledAt_110 ?_
              refine y_top (y := nI (q + i)) (nI_add q i) ?_
              refine y_rV (As := [.int (nI k), .int (nI r), .int (nI (q + i))]) (rest := [.int ((E 4 (96 * k + 8 * r + ((q + 8) - z) % 8)) * (nI i))]) (ci := 1) (q0 := 0) ⟨hx, hb, hml, hown, hts⟩ hK hP (metX1_toldAt l G d b J E k r (q + i) (by omega) (by omega) (by omega)) (cwV 3 hts (lw_V q1027 q1029 qs22 q39 q1030) rfl rfl rfl (by decide +kernel) ⟨Nat.le_of_ble_eq_true rfl, Nat.le_of_ble_eq_true rfl⟩) rfl rfl rfl hl.1 rfl (lv_room (Nat.le_of_ble_eq_true rfl)) dX1_filledAt_111 ⟨Nat.le_of_ble_eq_true rfl, Nat.le_of_ble_eq_true rfl⟩ (fun r_13 hw_14 => ?_)
              rw [hw_14]
              refine lv_iload hx hb dX1_filledAt_114 (lv_at hl 1 rfl) ?_
              refine lv_imul hx hb dX1_filledAt_116 ?_
              refine lv_iadd hx hb dX1_filledAt_117 ?_
              refine lv_iload hx hb dX1_filledAt_118 (lv_at hl 1 rfl) ?_
              refine lv_iload hx hb dX1_filledAt_120 (lv_at hl 0 rfl) ?_
              refine lv_iadd hx hb dX1_filledAt_122 ?_
              refine y_top (y := nI (z + i)) (nI_add z i) ?_
              refine lv_idiv hx hb dX1_filledAt_123 (nI_ne0 (by omega) (by omega)) ?_
              exact W.iret (v := (((E 4 (96 * k + 8 * r + ((q + 8) - z) % 8)) * (nI i)) + ((E 4 (96 * k + 8 * r + (q + i) % 8)) * (nI z))) / (nI (z + i))) hx hb hr (fun t ht hW => ⟨(((E 4 (96 * k + 8 * r + ((q + 8) - z) % 8)) * (nI i)) + ((E 4 (96 * k + 8 * r + (q + i) % 8)) * (nI z))) / (nI (z + i)), rfl, (fillV_eq (g := gM E k r) h8 bz he (by omega) rb (fun _ => c_10) (by omega) (by omega)).symm, ht⟩) (fun q h => by cases h) dX1_filledAt_124
            · have hlt : i < 8 - z := by
                rcases Nat.lt_or_ge i (8 - z) with y | y
                · exact y
                · exact absurd (by rw [show (q + 8 - z) % 8 = (q + i) % 8 by omega]; exact c_10) (he (by omega))
              refine lv_iinc (v := nI (i + 1)) (lv' := [(5, .int (nI (i + 1))), (4, .int (nI z)), (0, .ref (b 0)), (1, .int (nI k)), (2, .int (nI r)), (3, .int (nI q))]) hx hb dX1_filledAt_82 hl (k := 0) rfl (nI_add i 1) (Nat.le_of_ble_eq_true rfl) rfl (fun ls hl => ?_)
              refine lv_goto (tgt := 67) hx hb dX1_filledAt_85 (by decide) ?_
              exact ih_lp_7 (i + 1) (by omega) (by omega) (by omega) (lt_s rb c_10) ls (lv_sub hl [0, 1, 2, 3, 4, 5] rfl)
        exact lp_7 9 1 (by omega) (by omega) (by omega) (fun j hj => by rw [show (q + j) % 8 = (q + 8 - 0) % 8 by omega]; exact bz 0 (by omega)) ls (lv_sub hl [0, 1, 2, 3, 4, 5] rfl)
      · have c_6 : z = 8 := (nI_eq (a := z) (b := 8) (by omega) (by omega)).mp c_6
        refine lv_iload hx hb dX1_filledAt_46 (lv_at hl 0 rfl) ?_
        refine lv_if_ne (tgt := 61) hx hb dX1_filledAt_48 (by decide) (fun c_15 => ?_) (fun c_15 => ?_)
        · have c_15 : ¬ z = 0 := fun h => c_15 ((nI_eq (a := z) (b := 0) (by omega) (by omega)).mpr h)
          refine lv_bipush (v := (-9)) hx hb dX1_filledAt_61 (by decide +kernel) ?_
          exact W.iret (v := (-9)) hx hb hr (fun t ht hW => ⟨(-9), rfl, (fillV_8 (g := gM E k r) (fun j hj => bz j (by omega))).symm, ht⟩) (fun q h => by cases h) dX1_filledAt_63
        · have c_15 : z = 0 := (nI_eq (a := z) (b := 0) (by omega) (by omega)).mp c_15
          exfalso; omega
  have lp_16 : ∀ (fu : Nat) (i : Nat) (hi : i ≤ 8) (hm : 8 < i + fu) (bz : ∀ j, j < i → E 4 (96 * k + 8 * r + (q + 8 - j) % 8) = -9) (ls : Array Slot) (hl : lv_has ls 6 [(4, .int (nI i)), (0, .ref (b 0)), (1, .int (nI k)), (2, .int (nI r)), (3, .int (nI q))]), W p l e (headSpec (ws_ yX1_filledAt cX1_filledAt 6 (some FieldType.int)) ({ frames := 1, cells := 0, slots := 0, locals := 23 } : Room)).room s m ([.ref (b 0), .int (nI k), .int (nI r), .int (nI q)] : List Value).toArray below meth c s.heap [] 0 0 (MQ below (vp_Si (fun x => x = fillV (gM E k r) q)) ([.ref (b 0), .int (nI k), .int (nI r), .int (nI q)] : List Value).toArray s 0 0 (fun _ => False)) (F0 m 3 ls []) := by
    intro fu
    induction fu with
    | zero =>
      intro i hi hm bz ls hl
      exfalso; omega
    | succ fu ih_lp_16 =>
      intro i hi hm bz ls hl
      refine lv_iload hx hb dX1_filledAt_3 (lv_at hl 0 rfl) ?_
      refine lv_bipush (v := 8) hx hb dX1_filledAt_5 (by decide +kernel) ?_
      refine lv_icmp_ge (tgt := 34) hx hb dX1_filledAt_7 (by decide) (fun c_17 => ?_) (fun c_17 => ?_)
      · have c_17 : 8 ≤ i := (nI_leI (a := 8) (b := i) (by omega) (by omega)).mp c_17
        exact hj_1 i (by omega) bz (fun q => absurd q (by omega)) ls (lv_sub hl [0, 1, 2, 3, 4] rfl)
      · have c_17 : ¬ 8 ≤ i := fun h => c_17 ((nI_leI (a := 8) (b := i) (by omega) (by omega)).mpr h)
        refine lv_aload_n hx hb dX1_filledAt_10 rfl (lv_at hl 1 rfl) ?_
        refine lv_iload_n hx hb dX1_filledAt_11 rfl (lv_at hl 2 rfl) ?_
        refine lv_iload_n hx hb dX1_filledAt_12 rfl (lv_at hl 3 rfl) ?_
        refine lv_iload_n hx hb dX1_filledAt_13 rfl (lv_at hl 4 rfl) ?_
        refine lv_bipush (v := 8) hx hb dX1_filledAt_14 (by decide +kernel) ?_
        refine lv_iadd hx hb dX1_filledAt_16 ?_
        refine y_top (y := nI (q + 8)) (nI_add q 8) ?_
        refine lv_iload hx hb dX1_filledAt_17 (lv_at hl 0 rfl) ?_
        refine lv_isub hx hb dX1_filledAt_19 ?_
        refine y_top (y := nI ((q + 8) - i)) (pk_sub (a := q + 8) (b := i) (by omega)) ?_
        refine y_rV (As := [.int (nI k), .int (nI r), .int (nI ((q + 8) - i))]) (rest := []) (ci := 1) (q0 := 0) ⟨hx, hb, hml, hown, hts⟩ hK hP (metX1_toldAt l G d b J E k r ((q + 8) - i) (by omega) (by omega) (by omega)) (cwV 3 hts (lw_V q1027 q1029 qs22 q39 q1030) rfl rfl rfl (by decide +kernel) ⟨Nat.le_of_ble_eq_true rfl, Nat.le_of_ble_eq_true rfl⟩) rfl rfl rfl hl.1 rfl (lv_room (Nat.le_of_ble_eq_true rfl)) dX1_filledAt_20 ⟨Nat.le_of_ble_eq_true rfl, Nat.le_of_ble_eq_true rfl⟩ (fun r_18 hw_19 => ?_)
        rw [hw_19]
        refine lv_bipush (v := (-9)) hx hb dX1_filledAt_23 (by decide +kernel) ?_
        refine lv_icmp_ne (tgt := 34) hx hb dX1_filledAt_25 (by decide) (fun c_20 => ?_) (fun c_20 => ?_)
        · exact hj_1 i (by omega) bz (fun _ => c_20) ls (lv_sub hl [0, 1, 2, 3, 4] rfl)
        · refine lv_iinc (v := nI (i + 1)) (lv' := [(4, .int (nI (i + 1))), (0, .ref (b 0)), (1, .int (nI k)), (2, .int (nI r)), (3, .int (nI q))]) hx hb dX1_filledAt_28 hl (k := 0) rfl (nI_add i 1) (Nat.le_of_ble_eq_true rfl) rfl (fun ls hl => ?_)
          refine lv_goto (tgt := 3) hx hb dX1_filledAt_31 (by decide) ?_
          exact ih_lp_16 (i + 1) (by omega) (by omega) (lt_s bz c_20) ls (lv_sub hl [0, 1, 2, 3, 4] rfl)
  exact lp_16 9 0 (by omega) (by omega) (fun j hj => absurd hj (Nat.not_lt_zero j)) ls (lv_sub hl [0, 1, 2, 3, 4] rfl)
set_option maxHeartbeats 400000 in
set_option maxRecDepth 100000 in
theorem metX1_shapedAt (l : Launch) (G : va_G) (d : Nat → Nat) (b : Nat → Nat) (J : Nat → Int32) (E : Nat → Nat → Int32) (k r q n : Nat) (hk : k < 4) (h12 : r < 12) (hq : q < 8) (hn12 : n ≤ 12) (hn : J 6 = nI n) : Met l yX1_shapedAt (ws_ yX1_shapedAt cX1_shapedAt 6 (some FieldType.int)) ({ frames := 2, cells := 0, slots := 0, locals := 48 } : Room) (va_Pc [.ref (b 0), .int (nI k), .int (nI r), .int (nI q)] (pR G d (MW b J E d))) (vp_Si (fun x => x = shapeV (E 7) (E 8) (E 9) (E 10) n r q (fillV (gM E k r) q))) 0 0 (fun _ => False) := by
  refine Met.ofW (cc := cX1_shapedAt) (maxL := 6) (ret := (some FieldType.int)) (by decide) rfl ?_
  intro p e s m args below meth c s₁ B hml hv
  obtain ⟨rfl, hP, hK⟩ := hv
  have hx := B.exec
  have hb := B.bytes
  have hr := B.returns
  have hts := atoms_spec (ws := (ws_ yX1_shapedAt cX1_shapedAt 6 (some FieldType.int))) B.pre
  have hts : ∀ w ∈ lw_all, w.before _ s = true := fun w h => hts w (List.mem_cons_of_mem _ h)
  have hown : s.vm.findClass RX1 = some m.cls := findClass_of_methodNamed B.named
  have hlocks := B.notSynchronized
  have hl := lv_entry ([.ref (b 0), .int (nI k), .int (nI r), .int (nI q)]) (n := 6) (Nat.le_of_ble_eq_true rfl)
  rw [lg_entry_eq]
  generalize (lg_sl ([.ref (b 0), .int (nI k), .int (nI r), .int (nI q)]) ++ List.replicate (6 - (lg_sl ([.ref (b 0), .int (nI k), .int (nI r), .int (nI q)])).length) Slot.unset).toArray = ls at hl ⊢
  have hl : lv_has ls 6 [(0, .ref (b 0)), (1, .int (nI k)), (2, .int (nI r)), (3, .int (nI q))] := hl
  refine lv_aload_n hx hb dX1_shapedAt_0 rfl (lv_at hl 0 rfl) ?_
  refine lv_iload_n hx hb dX1_shapedAt_1 rfl (lv_at hl 1 rfl) ?_
  refine lv_iload_n hx hb dX1_shapedAt_2 rfl (lv_at hl 2 rfl) ?_
  refine lv_iload_n hx hb dX1_shapedAt_3 rfl (lv_at hl 3 rfl) ?_
  refine y_rV (As := [.int (nI k), .int (nI r), .int (nI q)]) (rest := []) (ci := 1) (q0 := 0) ⟨hx, hb, hml, hown, hts⟩ hK hP (metX1_filledAt l G d b J E k r q (by omega) (by omega) (by omega)) (cwV 3 hts (lw_V q1023 q1025 qs21 q39 q1026) rfl rfl rfl (by decide +kernel) ⟨Nat.le_of_ble_eq_true rfl, Nat.le_of_ble_eq_true rfl⟩) rfl rfl rfl hl.1 rfl (lv_room (Nat.le_of_ble_eq_true rfl)) dX1_shapedAt_4 ⟨Nat.le_of_ble_eq_true rfl, Nat.le_of_ble_eq_true rfl⟩ (fun r_1 hw_2 => ?_)
  rw [hw_2]
  refine lv_istore (lv' := [(4, .int (fillV (gM E k r) q)), (0, .ref (b 0)), (1, .int (nI k)), (2, .int (nI r)), (3, .int (nI q))]) hx hb dX1_shapedAt_7 hl (Nat.le_of_ble_eq_true rfl) rfl (fun ls hl => ?_)
  refine lv_iload hx hb dX1_shapedAt_9 (lv_at hl 0 rfl) ?_
  refine lv_bipush (v := (-9)) hx hb dX1_shapedAt_11 (by decide +kernel) ?_
  refine lv_icmp_ne (tgt := 19) hx hb dX1_shapedAt_13 (by decide) (fun c_3 => ?_) (fun c_3 => ?_)
  · refine lv_iconst (v := 0) hx hb dX1_shapedAt_19 (by decide) ?_
    refine lv_istore (lv' := [(5, .int 0), (4, .int (fillV (gM E k r) q)), (0, .ref (b 0)), (1, .int (nI k)), (2, .int (nI r)), (3, .int (nI q))]) hx hb dX1_shapedAt_20 hl (Nat.le_of_ble_eq_true rfl) rfl (fun ls hl => ?_)
    have lp_4 : ∀ (fu : Nat) (i : Nat) (v : Int32) (hi : i ≤ n) (hm : n < i + fu) (hv : v = ruleS (E 7) (E 8) (E 9) (E 10) r q (fillV (gM E k r) q) i) (ls : Array Slot) (hl : lv_has ls 6 [(5, .int (nI i)), (4, .int v), (0, .ref (b 0)), (1, .int (nI k)), (2, .int (nI r)), (3, .int (nI q))]), W p l e (headSpec (ws_ yX1_shapedAt cX1_shapedAt 6 (some FieldType.int)) ({ frames := 2, cells := 0, slots := 0, locals := 48 } : Room)).room s m ([.ref (b 0), .int (nI k), .int (nI r), .int (nI q)] : List Value).toArray below meth c s.heap [] 0 0 (MQ below (vp_Si (fun x => x = shapeV (E 7) (E 8) (E 9) (E 10) n r q (fillV (gM E k r) q))) ([.ref (b 0), .int (nI k), .int (nI r), .int (nI q)] : List Value).toArray s 0 0 (fun _ => False)) (F0 m 22 ls []) := by
      intro fu
      induction fu with
      | zero =>
        intro i v hi hm hv ls hl
        exfalso; omega
      | succ fu ih_lp_4 =>
        intro i v hi hm hv ls hl
        refine lv_iload hx hb dX1_shapedAt_22 (lv_at hl 0 rfl) ?_
        refine lv_aload_n hx hb dX1_shapedAt_24 rfl (lv_at hl 2 rfl) ?_
        refine va_get (D := G) (ci := 1) (v := .int (J 6)) (C := RX1) (T := TX1) (N := 33) hx hb hts in_X1 hown hK hP 0 rfl rfl 6 (Nat.le_of_ble_eq_true rfl) (hts _ q892) (fun _ h9 => h9) rfl dX1_shapedAt_25 ?_
        refine y_top (y := nI n) hn ?_
        refine lv_icmp_ge (tgt := 89) hx hb dX1_shapedAt_28 (by decide) (fun c_5 => ?_) (fun c_5 => ?_)
        · have c_5 : n ≤ i := (nI_leI (a := n) (b := i) (by omega) (by omega)).mp c_5
          refine lv_iload hx hb dX1_shapedAt_89 (lv_at hl 1 rfl) ?_
          refine lv_if_ge (tgt := 98) hx hb dX1_shapedAt_91 (by decide) (fun c_6 => ?_) (fun c_6 => ?_)
          · refine lv_iload hx hb dX1_shapedAt_98 (lv_at hl 1 rfl) ?_
            exact W.iret (v := v) hx hb hr (fun t ht hW => ⟨v, rfl, by rw [shapeV, if_neg c_3, ← (show i = n by omega), ← hv, if_neg (Int32.not_lt.mpr c_6)], ht⟩) (fun q h => by cases h) dX1_shapedAt_100
          · refine lv_iconst (v := 0) hx hb dX1_shapedAt_94 (by decide) ?_
            refine lv_goto (tgt := 100) hx hb dX1_shapedAt_95 (by decide) ?_
            exact W.iret (v := 0) hx hb hr (fun t ht hW => ⟨0, rfl, by rw [shapeV, if_neg c_3, ← (show i = n by omega), ← hv, if_pos (Int32.not_le.mp c_6)], ht⟩) (fun q h => by cases h) dX1_shapedAt_100
        · have c_5 : ¬ n ≤ i := fun h => c_5 ((nI_leI (a := n) (b := i) (by omega) (by omega)).mpr h)
          have hj_7 : ∀ (x : Int32) (hxx : x = if inR (nI r) (E 7 i) (E 8 i) ∧ (E 9 i >>> (nI q &&& 31)) &&& 1 = 1 then E 10 i else 0), W p l e (headSpec (ws_ yX1_shapedAt cX1_shapedAt 6 (some FieldType.int)) ({ frames := 2, cells := 0, slots := 0, locals := 48 } : Room)).room s m ([.ref (b 0), .int (nI k), .int (nI r), .int (nI q)] : List Value).toArray below meth c s.heap [] 0 0 (MQ below (vp_Si (fun x => x = shapeV (E 7) (E 8) (E 9) (E 10) n r q (fillV (gM E k r) q))) ([.ref (b 0), .int (nI k), .int (nI r), .int (nI q)] : List Value).toArray s 0 0 (fun _ => False)) (F0 m 80 ls [.int x, .int v]) := by
            intro x hxx
            refine lv_iadd hx hb dX1_shapedAt_80 ?_
            refine lv_istore (lv' := [(4, .int (v + x)), (5, .int (nI i)), (0, .ref (b 0)), (1, .int (nI k)), (2, .int (nI r)), (3, .int (nI q))]) hx hb dX1_shapedAt_81 hl (Nat.le_of_ble_eq_true rfl) rfl (fun ls hl => ?_)
            refine lv_iinc (v := nI (i + 1)) (lv' := [(5, .int (nI (i + 1))), (4, .int (v + x)), (0, .ref (b 0)), (1, .int (nI k)), (2, .int (nI r)), (3, .int (nI q))]) hx hb dX1_shapedAt_83 hl (k := 1) rfl (nI_add i 1) (Nat.le_of_ble_eq_true rfl) rfl (fun ls hl => ?_)
            refine lv_goto (tgt := 22) hx hb dX1_shapedAt_86 (by decide) ?_
            exact ih_lp_4 (i + 1) _ (by omega) (by omega) (by rw [hxx, hv]; rfl) ls (lv_sub hl [0, 1, 2, 3, 4, 5] rfl)
          refine lv_iload hx hb dX1_shapedAt_31 (lv_at hl 1 rfl) ?_
          refine lv_iload_n hx hb dX1_shapedAt_33 rfl (lv_at hl 4 rfl) ?_
          refine lv_aload_n hx hb dX1_shapedAt_34 rfl (lv_at hl 2 rfl) ?_
          refine va_get (D := G) (ci := 1) (v := .ref (b 7)) (C := RX1) (T := TX1) (N := 33) hx hb hts in_X1 hown hK hP 0 rfl rfl 7 (Nat.le_of_ble_eq_true rfl) (hts _ q893) (fun _ h9 => h9) rfl dX1_shapedAt_35 ?_
          refine lv_iload hx hb dX1_shapedAt_38 (lv_at hl 0 rfl) ?_
          refine y_iald (N := i) (f := E 7) hx hb hK hP 5 0 rfl rfl rfl (by omega) (by decide) dX1_shapedAt_40 ?_
          refine lv_aload_n hx hb dX1_shapedAt_41 rfl (lv_at hl 2 rfl) ?_
          refine va_get (D := G) (ci := 1) (v := .ref (b 8)) (C := RX1) (T := TX1) (N := 33) hx hb hts in_X1 hown hK hP 0 rfl rfl 8 (Nat.le_of_ble_eq_true rfl) (hts _ q894) (fun _ h9 => h9) rfl dX1_shapedAt_42 ?_
          refine lv_iload hx hb dX1_shapedAt_45 (lv_at hl 0 rfl) ?_
          refine y_iald (N := i) (f := E 8) hx hb hK hP 6 0 rfl rfl rfl (by omega) (by decide) dX1_shapedAt_47 ?_
          refine y_rS (As := [.int (nI r), .int ((E 7) i), .int ((E 8) i)]) (rest := [.int v]) ⟨hx, hb, hml, hown, hts⟩ hK (ws := []) (fun _ _ h => by cases h) (metX1_in l G d (nI r) ((E 7) i) ((E 8) i)) (va_cwS 3 hts (lw_S q994 q995 q39 q996) rfl rfl rfl (by decide +kernel) ⟨Nat.le_of_ble_eq_true rfl, Nat.le_of_ble_eq_true rfl⟩) rfl hl.1 rfl (lv_room (Nat.le_of_ble_eq_true rfl)) dX1_shapedAt_48 ⟨Nat.le_of_ble_eq_true rfl, Nat.le_of_ble_eq_true rfl⟩ (fun r_8 hr_9 => ?_)
          refine lv_if_eq (tgt := 79) hx hb dX1_shapedAt_51 (by decide) (fun c_10 => ?_) (fun c_10 => ?_)
          · have c_10 := bI_eq hr_9 c_10
            refine lv_iconst (v := 0) hx hb dX1_shapedAt_79 (by decide) ?_
            exact hj_7 0 (if_neg (fun h => c_10 h.1)).symm
          · have c_10 := bI_ne hr_9 c_10
            refine lv_aload_n hx hb dX1_shapedAt_54 rfl (lv_at hl 2 rfl) ?_
            refine va_get (D := G) (ci := 1) (v := .ref (b 9)) (C := RX1) (T := TX1) (N := 33) hx hb hts in_X1 hown hK hP 0 rfl rfl 9 (Nat.le_of_ble_eq_true rfl) (hts _ q895) (fun _ h9 => h9) rfl dX1_shapedAt_55 ?_
            refine lv_iload hx hb dX1_shapedAt_58 (lv_at hl 0 rfl) ?_
            refine y_iald (N := i) (f := E 9) hx hb hK hP 7 0 rfl rfl rfl (by omega) (by decide) dX1_shapedAt_60 ?_
            refine lv_iload_n hx hb dX1_shapedAt_61 rfl (lv_at hl 5 rfl) ?_
            refine lv_ishr hx hb dX1_shapedAt_62 ?_
            refine lv_iconst (v := 1) hx hb dX1_shapedAt_63 (by decide) ?_
            refine lv_iand hx hb dX1_shapedAt_64 ?_
            refine lv_iconst (v := 1) hx hb dX1_shapedAt_65 (by decide) ?_
            refine lv_icmp_ne (tgt := 79) hx hb dX1_shapedAt_66 (by decide) (fun c_11 => ?_) (fun c_11 => ?_)
            · refine lv_iconst (v := 0) hx hb dX1_shapedAt_79 (by decide) ?_
              exact hj_7 0 (if_neg (fun h => c_11 h.2)).symm
            · refine lv_aload_n hx hb dX1_shapedAt_69 rfl (lv_at hl 2 rfl) ?_
              refine va_get (D := G) (ci := 1) (v := .ref (b 10)) (C := RX1) (T := TX1) (N := 33) hx hb hts in_X1 hown hK hP 0 rfl rfl 10 (Nat.le_of_ble_eq_true rfl) (hts _ q896) (fun _ h9 => h9) rfl dX1_shapedAt_70 ?_
              refine lv_iload hx hb dX1_shapedAt_73 (lv_at hl 0 rfl) ?_
              refine y_iald (N := i) (f := E 10) hx hb hK hP 8 0 rfl rfl rfl (by omega) (by decide) dX1_shapedAt_75 ?_
              refine lv_goto (tgt := 80) hx hb dX1_shapedAt_76 (by decide) ?_
              exact hj_7 _ (if_pos ⟨c_10, c_11⟩).symm
    exact lp_4 13 0 _ (by omega) (by omega) rfl ls (lv_sub hl [0, 1, 2, 3, 4, 5] rfl)
  · refine lv_bipush (v := (-9)) hx hb dX1_shapedAt_16 (by decide +kernel) ?_
    exact W.iret (v := (-9)) hx hb hr (fun t ht hW => ⟨(-9), rfl, (if_pos c_3).symm, ht⟩) (fun q h => by cases h) dX1_shapedAt_18
