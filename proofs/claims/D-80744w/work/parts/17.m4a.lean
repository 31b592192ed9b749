set_option maxHeartbeats 400000 in
set_option maxRecDepth 100000 in
theorem metX1_copy (l : Launch) (G : va_G) (d : Nat → Nat) (sz : Nat) (b : Nat → Nat) (J : Nat → Int32) (E : Nat → Nat → Int32) (v i0 w j0 n0 : Int32) : Met l yX1_copy (ws_ yX1_copy cX1_copy 7 (some FieldType.int)) ({ frames := 2, cells := 0, slots := 0, locals := 42 } : Room) (va_Pc [.ref (b 0), .int v, .int i0, .int w, .int j0, .int n0] (pW G d sz (MW b J E d))) (va_Qi (fun (r : Int32) (u : MS) => (r, u) = mCopy (J, E) v i0 w j0 n0) (fun (u : MS) t => bW G d (va_A (MW b J E d) sz) (MW b u.1 u.2 d) t) (va_A (MW b J E d) sz)) 0 0 (va_A (MW b J E d) sz) := by
  refine Met.ofW (cc := cX1_copy) (maxL := 7) (ret := (some FieldType.int)) (by decide) rfl ?_
  intro p e s m args below meth c s₁ B hml hv
  obtain ⟨rfl, hsz, hP, hK, hD0⟩ := hv
  have hx := B.exec
  have hb := B.bytes
  have hr := B.returns
  have hts := atoms_spec (ws := (ws_ yX1_copy cX1_copy 7 (some FieldType.int))) B.pre
  have hts : ∀ w ∈ lw_all, w.before _ s = true := fun w h => hts w (List.mem_cons_of_mem _ h)
  have hown : s.vm.findClass RX1 = some m.cls := findClass_of_methodNamed B.named
  have hlocks := B.notSynchronized
  subst hsz
  have hD := hD0.self (sz := s.heap.size)
  generalize hAe : va_A (MW b J E d) s.heap.size = A at hD ⊢
  have hA : ∀ q : Nat, s.heap.size ≤ q → A q := fun q h => by rw [← hAe]; exact Or.inr h
  have hS : va_S A s.heap s.heap [] := va_S.rf
  have hl := lv_entry ([.ref (b 0), .int v, .int i0, .int w, .int j0, .int n0]) (n := 7) (Nat.le_of_ble_eq_true rfl)
  rw [lg_entry_eq]
  generalize (lg_sl ([.ref (b 0), .int v, .int i0, .int w, .int j0, .int n0]) ++ List.replicate (7 - (lg_sl ([.ref (b 0), .int v, .int i0, .int w, .int j0, .int n0])).length) Slot.unset).toArray = ls at hl ⊢
  have hl : lv_has ls 7 [(0, .ref (b 0)), (1, .int v), (2, .int i0), (3, .int w), (4, .int j0), (5, .int n0)] := hl
  have hP : va_P G CLS (MW b J E d) s.heap := hP
  refine lv_iload_n hx hb dX1_copy_0 rfl (lv_at hl 1 rfl) ?_
  refine y_rS (As := [.int v]) (rest := []) ⟨hx, hb, hml, hown, hts⟩ hK (ws := []) (fun _ _ h => by cases h) (metX1_isNumber l G d v) (va_cwS 1 hts (lw_S q991 q992 q39 q993) rfl rfl rfl (by decide +kernel) ⟨Nat.le_of_ble_eq_true rfl, Nat.le_of_ble_eq_true rfl⟩) rfl hl.1 rfl (lv_room (Nat.le_of_ble_eq_true rfl)) dX1_copy_1 ⟨Nat.le_of_ble_eq_true rfl, Nat.le_of_ble_eq_true rfl⟩ (fun r_1 hr_2 => ?_)
  refine lv_if_eq (tgt := 14) hx hb dX1_copy_4 (by decide) (fun c_3 => ?_) (fun c_3 => ?_)
  · have c_3 := bI_eq hr_2 c_3
    refine lv_iconst (v := (-1)) hx hb dX1_copy_14 (by decide) ?_
    exact W.iret (v := (-1)) hx hb hr (fun t ht hW => ⟨⟨(-1), (J, E), rfl, (if_pos (fun h => c_3 h.1)).symm, by rw [ht]; exact hP, va_K.moved hW.alike hK, hD⟩, hS.F ht⟩) hS.2.2 dX1_copy_15
  · have c_3 := bI_ne hr_2 c_3
    refine lv_iload_n hx hb dX1_copy_7 rfl (lv_at hl 3 rfl) ?_
    refine y_rS (As := [.int w]) (rest := []) ⟨hx, hb, hml, hown, hts⟩ hK (ws := []) (fun _ _ h => by cases h) (metX1_isNumber l G d w) (va_cwS 1 hts (lw_S q991 q992 q39 q993) rfl rfl rfl (by decide +kernel) ⟨Nat.le_of_ble_eq_true rfl, Nat.le_of_ble_eq_true rfl⟩) rfl hl.1 rfl (lv_room (Nat.le_of_ble_eq_true rfl)) dX1_copy_8 ⟨Nat.le_of_ble_eq_true rfl, Nat.le_of_ble_eq_true rfl⟩ (fun r_4 hr_5 => ?_)
    refine lv_if_ne (tgt := 16) hx hb dX1_copy_11 (by decide) (fun c_6 => ?_) (fun c_6 => ?_)
    · have c_6 := bI_ne hr_5 c_6
      obtain ⟨k, hk, rfl⟩ := inR_n (n := 3) (by decide) c_3
      obtain ⟨k2, hk2, rfl⟩ := inR_n (n := 3) (by decide) c_6
      refine lv_iload hx hb dX1_copy_16 (lv_at hl 5 rfl) ?_
      refine lv_if_ge (tgt := 27) hx hb dX1_copy_18 (by decide) (fun c_7 => ?_) (fun c_7 => ?_)
      · obtain ⟨nn, hnn, rfl⟩ := nI_of (Int32.not_lt.mpr c_7)
        refine lv_aload_n hx hb dX1_copy_27 rfl (lv_at hl 0 rfl) ?_
        refine va_get (D := G) (ci := 1) (v := .ref (b 3)) (C := RX1) (T := TX1) (N := 33) hx hb hts in_X1 hown hK hP 0 rfl rfl 3 (Nat.le_of_ble_eq_true rfl) (hts _ q889) (fun _ h9 => h9) rfl dX1_copy_28 ?_
        refine lv_iload_n hx hb dX1_copy_31 rfl (lv_at hl 1 rfl) ?_
        refine y_zald (N := k) (f := E 3) hx hb hK hP 2 1 rfl rfl rfl (by omega) (by decide) dX1_copy_32 ?_
        refine lv_if_eq (tgt := 45) hx hb dX1_copy_33 (by decide) (fun c_8 => ?_) (fun c_8 => ?_)
        · refine lv_aload_n hx hb dX1_copy_45 rfl (lv_at hl 0 rfl) ?_
          refine lv_iconst (v := 1) hx hb dX1_copy_46 (by decide) ?_
          refine y_cVi (As := [.int 1]) (rest := []) (ci := 1) (q0 := 0) ⟨hx, hb, hml, hown, hts⟩ hK hP hD hS hA (metX1_meets l G d s.heap.size b J E 1 (by omega)) (cwV 1 hts (lw_V q1005 q1007 qs19 q39 q1008) rfl rfl rfl (by decide +kernel) ⟨Nat.le_of_ble_eq_true rfl, Nat.le_of_ble_eq_true rfl⟩) rfl rfl rfl hl.1 rfl (lv_room (Nat.le_of_ble_eq_true rfl)) dX1_copy_47 ⟨Nat.le_of_ble_eq_true rfl, Nat.le_of_ble_eq_true rfl⟩ (fun r_9 u_11 H locs hw_10 hP hD hS => ?_)
          obtain ⟨rfl, rfl⟩ := hw_10
          exact W.iret (v := (-3)) hx hb hr (fun t ht hW => ⟨⟨(-3), (uFind (J, E) 1), rfl, by unfold mCopy; rw [if_neg (not_not_intro ⟨(show inR (nI k) 0 3 from nI_inR (n := 3) (by omega) (by decide)), (show inR (nI k2) 0 3 from nI_inR (n := 3) (by omega) (by decide))⟩), if_neg (nI_pos (by omega)), cl_nI (show k < 2 ^ 31 by omega), cl_nI (show k2 < 2 ^ 31 by omega), if_pos (fun h => h.1 c_8)], by rw [ht]; exact hP, va_K.moved hW.alike hK, hD⟩, hS.F ht⟩) hS.2.2 dX1_copy_50
        · refine lv_aload_n hx hb dX1_copy_36 rfl (lv_at hl 0 rfl) ?_
          refine va_get (D := G) (ci := 1) (v := .ref (b 3)) (C := RX1) (T := TX1) (N := 33) hx hb hts in_X1 hown hK hP 0 rfl rfl 3 (Nat.le_of_ble_eq_true rfl) (hts _ q889) (fun _ h9 => h9) rfl dX1_copy_37 ?_
          refine lv_iload_n hx hb dX1_copy_40 rfl (lv_at hl 3 rfl) ?_
          refine y_zald (N := k2) (f := E 3) hx hb hK hP 2 1 rfl rfl rfl (by omega) (by decide) dX1_copy_41 ?_
          refine lv_if_ne (tgt := 51) hx hb dX1_copy_42 (by decide) (fun c_12 => ?_) (fun c_12 => ?_)
          · refine lv_iload_n hx hb dX1_copy_51 rfl (lv_at hl 2 rfl) ?_
            refine lv_if_lt (tgt := 87) hx hb dX1_copy_52 (by decide) (fun c_13 => ?_) (fun c_13 => ?_)
            · refine lv_aload_n hx hb dX1_copy_87 rfl (lv_at hl 0 rfl) ?_
              refine lv_iconst (v := 2) hx hb dX1_copy_88 (by decide) ?_
              refine y_cVi (As := [.int 2]) (rest := []) (ci := 1) (q0 := 0) ⟨hx, hb, hml, hown, hts⟩ hK hP hD hS hA (metX1_meets l G d s.heap.size b J E 2 (by omega)) (cwV 1 hts (lw_V q1005 q1007 qs19 q39 q1008) rfl rfl rfl (by decide +kernel) ⟨Nat.le_of_ble_eq_true rfl, Nat.le_of_ble_eq_true rfl⟩) rfl rfl rfl hl.1 rfl (lv_room (Nat.le_of_ble_eq_true rfl)) dX1_copy_89 ⟨Nat.le_of_ble_eq_true rfl, Nat.le_of_ble_eq_true rfl⟩ (fun r_14 u_16 H locs hw_15 hP hD hS => ?_)
              obtain ⟨rfl, rfl⟩ := hw_15
              exact W.iret (v := (-3)) hx hb hr (fun t ht hW => ⟨⟨(-3), (uFind (J, E) 2), rfl, by unfold mCopy; rw [if_neg (not_not_intro ⟨(show inR (nI k) 0 3 from nI_inR (n := 3) (by omega) (by decide)), (show inR (nI k2) 0 3 from nI_inR (n := 3) (by omega) (by decide))⟩), if_neg (nI_pos (by omega)), cl_nI (show k < 2 ^ 31 by omega), cl_nI (show k2 < 2 ^ 31 by omega), if_neg (not_not_intro ⟨c_8, c_12⟩), if_pos (fun h => absurd h.1 (Int32.not_le.mpr c_13))], by rw [ht]; exact hP, va_K.moved hW.alike hK, hD⟩, hS.F ht⟩) hS.2.2 dX1_copy_92
            · obtain ⟨i1, hi1, rfl⟩ := nI_of c_13
              refine lv_iload hx hb dX1_copy_55 (lv_at hl 4 rfl) ?_
              refine lv_if_lt (tgt := 87) hx hb dX1_copy_57 (by decide) (fun c_17 => ?_) (fun c_17 => ?_)
              · refine lv_aload_n hx hb dX1_copy_87 rfl (lv_at hl 0 rfl) ?_
                refine lv_iconst (v := 2) hx hb dX1_copy_88 (by decide) ?_
                refine y_cVi (As := [.int 2]) (rest := []) (ci := 1) (q0 := 0) ⟨hx, hb, hml, hown, hts⟩ hK hP hD hS hA (metX1_meets l G d s.heap.size b J E 2 (by omega)) (cwV 1 hts (lw_V q1005 q1007 qs19 q39 q1008) rfl rfl rfl (by decide +kernel) ⟨Nat.le_of_ble_eq_true rfl, Nat.le_of_ble_eq_true rfl⟩) rfl rfl rfl hl.1 rfl (lv_room (Nat.le_of_ble_eq_true rfl)) dX1_copy_89 ⟨Nat.le_of_ble_eq_true rfl, Nat.le_of_ble_eq_true rfl⟩ (fun r_18 u_20 H locs hw_19 hP hD hS => ?_)
                obtain ⟨rfl, rfl⟩ := hw_19
                exact W.iret (v := (-3)) hx hb hr (fun t ht hW => ⟨⟨(-3), (uFind (J, E) 2), rfl, by unfold mCopy; rw [if_neg (not_not_intro ⟨(show inR (nI k) 0 3 from nI_inR (n := 3) (by omega) (by decide)), (show inR (nI k2) 0 3 from nI_inR (n := 3) (by omega) (by decide))⟩), if_neg (nI_pos (by omega)), cl_nI (show k < 2 ^ 31 by omega), cl_nI (show k2 < 2 ^ 31 by omega), if_neg (not_not_intro ⟨c_8, c_12⟩), if_pos (fun h => absurd h.2.1 (Int32.not_le.mpr c_17))], by rw [ht]; exact hP, va_K.moved hW.alike hK, hD⟩, hS.F ht⟩) hS.2.2 dX1_copy_92
              · obtain ⟨j1, hj1, rfl⟩ := nI_of c_17
                refine lv_iload_n hx hb dX1_copy_60 rfl (lv_at hl 2 rfl) ?_
                refine lv_i2l (v := (nI i1).toInt64) hx hb dX1_copy_61 rfl ?_
                refine lv_iload hx hb dX1_copy_62 (lv_at hl 5 rfl) ?_
                refine lv_i2l (v := (nI nn).toInt64) hx hb dX1_copy_64 rfl ?_
                refine lv_ladd hx hb dX1_copy_65 ?_
                refine lv_ldc2 (v := 96) hx hb hown (hts _ q1039) dX1_copy_66 ?_
                refine W.lcmp hx hb dX1_copy_69 ?_
                refine lv_if_gt (tgt := 87) hx hb dX1_copy_70 (by decide) (fun c_21 => ?_) (fun c_21 => ?_)
                · have c_21 : 96 < (nI i1).toInt + (nI nn).toInt := lsum_lt.mp (lg_gt.mp c_21)
                  refine lv_aload_n hx hb dX1_copy_87 rfl (lv_at hl 0 rfl) ?_
                  refine lv_iconst (v := 2) hx hb dX1_copy_88 (by decide) ?_
                  refine y_cVi (As := [.int 2]) (rest := []) (ci := 1) (q0 := 0) ⟨hx, hb, hml, hown, hts⟩ hK hP hD hS hA (metX1_meets l G d s.heap.size b J E 2 (by omega)) (cwV 1 hts (lw_V q1005 q1007 qs19 q39 q1008) rfl rfl rfl (by decide +kernel) ⟨Nat.le_of_ble_eq_true rfl, Nat.le_of_ble_eq_true rfl⟩) rfl rfl rfl hl.1 rfl (lv_room (Nat.le_of_ble_eq_true rfl)) dX1_copy_89 ⟨Nat.le_of_ble_eq_true rfl, Nat.le_of_ble_eq_true rfl⟩ (fun r_22 u_24 H locs hw_23 hP hD hS => ?_)
                  obtain ⟨rfl, rfl⟩ := hw_23
                  exact W.iret (v := (-3)) hx hb hr (fun t ht hW => ⟨⟨(-3), (uFind (J, E) 2), rfl, by unfold mCopy; rw [if_neg (not_not_intro ⟨(show inR (nI k) 0 3 from nI_inR (n := 3) (by omega) (by decide)), (show inR (nI k2) 0 3 from nI_inR (n := 3) (by omega) (by decide))⟩), if_neg (nI_pos (by omega)), cl_nI (show k < 2 ^ 31 by omega), cl_nI (show k2 < 2 ^ 31 by omega), if_neg (not_not_intro ⟨c_8, c_12⟩), if_pos (fun h => absurd h.2.2.1 (Int.not_le.mpr c_21))], by rw [ht]; exact hP, va_K.moved hW.alike hK, hD⟩, hS.F ht⟩) hS.2.2 dX1_copy_92
                · have c_21 : ¬ 96 < (nI i1).toInt + (nI nn).toInt := fun h => c_21 (lg_gt.mpr (lsum_lt.mpr h))
                  have s1 : i1 + nn ≤ 96 := by
                    have h9 := c_21
                    rw [nI_toInt (by omega), nI_toInt (by omega)] at h9
                    omega
                  refine lv_iload hx hb dX1_copy_73 (lv_at hl 4 rfl) ?_
                  refine lv_i2l (v := (nI j1).toInt64) hx hb dX1_copy_75 rfl ?_
                  refine lv_iload hx hb dX1_copy_76 (lv_at hl 5 rfl) ?_
                  refine lv_i2l (v := (nI nn).toInt64) hx hb dX1_copy_78 rfl ?_
                  refine lv_ladd hx hb dX1_copy_79 ?_
                  refine lv_ldc2 (v := 96) hx hb hown (hts _ q1039) dX1_copy_80 ?_
                  refine W.lcmp hx hb dX1_copy_83 ?_
                  refine lv_if_le (tgt := 93) hx hb dX1_copy_84 (by decide) (fun c_25 => ?_) (fun c_25 => ?_)
                  · have c_25 : ¬ 0 < lg_cmp ((nI j1).toInt64 + (nI nn).toInt64) 96 := Int32.not_lt.mpr c_25
                    have c_25 : ¬ 96 < (nI j1).toInt + (nI nn).toInt := fun h => c_25 (lg_gt.mpr (lsum_lt.mpr h))
                    have s2 : j1 + nn ≤ 96 := by
                      have h9 := c_25
                      rw [nI_toInt (by omega), nI_toInt (by omega)] at h9
                      omega
                    refine lv_iconst (v := 0) hx hb dX1_copy_93 (by decide) ?_
                    refine lv_istore (lv' := [(6, .int 0), (0, .ref (b 0)), (1, .int (nI k)), (2, .int (nI i1)), (3, .int (nI k2)), (4, .int (nI j1)), (5, .int (nI nn))]) hx hb dX1_copy_94 hl (Nat.le_of_ble_eq_true rfl) rfl (fun ls hl => ?_)
                    have hP : va_P G CLS (MW b J (va_up E 5 (va_cpy (E 4) (E 5) (96 * k + i1) 0 0)) d) s.heap := by rw [cpy_0]; exact hP
                    have hD : va_D A (MW b J (va_up E 5 (va_cpy (E 4) (E 5) (96 * k + i1) 0 0)) d) := by rw [cpy_0]; exact hD
                    have hS : va_S A s.heap s.heap [] := hS
                    have lp_26 : ∀ (fu : Nat) (t : Nat) (ht : t ≤ nn) (hm : nn < t + fu) (H : Heap) (locs : List Loc) (hP : va_P G CLS (MW b J (va_up E 5 (va_cpy (E 4) (E 5) (96 * k + i1) 0 t)) d) H) (hD : va_D A (MW b J (va_up E 5 (va_cpy (E 4) (E 5) (96 * k + i1) 0 t)) d)) (hS : va_S A s.heap H locs) (ls : Array Slot) (hl : lv_has ls 7 [(6, .int (nI t)), (0, .ref (b 0)), (1, .int (nI k)), (2, .int (nI i1)), (3, .int (nI k2)), (4, .int (nI j1)), (5, .int (nI nn))]), W p l e (headSpec (ws_ yX1_copy cX1_copy 7 (some FieldType.int)) ({ frames := 2, cells := 0, slots := 0, locals := 42 } : Room)).room s m ([.ref (b 0), .int (nI k), .int (nI i1), .int (nI k2), .int (nI j1), .int (nI nn)] : List Value).toArray below meth c H locs 0 0 (MQ below (va_Qi (fun (r : Int32) (u : MS) => (r, u) = mCopy (J, E) (nI k) (nI i1) (nI k2) (nI j1) (nI nn)) (fun (u : MS) t => bW G d A (MW b u.1 u.2 d) t) A) ([.ref (b 0), .int (nI k), .int (nI i1), .int (nI k2), .int (nI j1), .int (nI nn)] : List Value).toArray s 0 0 A) (F0 m 96 ls []) := by
                      intro fu
                      induction fu with
                      | zero =>
                        intro t ht hm H locs hP hD hS ls hl
                        exfalso; omega
                      | succ fu ih_lp_26 =>
                        intro t ht hm H locs hP hD hS ls hl
                        refine lv_iload hx hb dX1_copy_96 (lv_at hl 0 rfl) ?_
                        refine lv_iload hx hb dX1_copy_98 (lv_at hl 6 rfl) ?_
                        refine lv_icmp_ge (tgt := 130) hx hb dX1_copy_100 (by decide) (fun c_27 => ?_) (fun c_27 => ?_)
                        · have c_27 : nn ≤ t := (nI_leI (a := nn) (b := t) (by omega) (by omega)).mp c_27
                          have et : nn = t := by omega
                          subst et
                          refine lv_iconst (v := 0) hx hb dX1_copy_130 (by decide) ?_
                          refine lv_istore (lv' := [(6, .int 0), (0, .ref (b 0)), (1, .int (nI k)), (2, .int (nI i1)), (3, .int (nI k2)), (4, .int (nI j1)), (5, .int (nI nn))]) hx hb dX1_copy_131 hl (Nat.le_of_ble_eq_true rfl) rfl (fun ls hl => ?_)
                          have hP : va_P G CLS (MW b J (va_up (va_up E 5 (va_cpy (E 4) (E 5) (96 * k + i1) 0 nn)) 4 (va_cpy (E 4) (E 4) (96 * k + i1) (96 * k2 + j1) 0)) d) H := by rw [cpy_0]; exact hP
                          have hD : va_D A (MW b J (va_up (va_up E 5 (va_cpy (E 4) (E 5) (96 * k + i1) 0 nn)) 4 (va_cpy (E 4) (E 4) (96 * k + i1) (96 * k2 + j1) 0)) d) := by rw [cpy_0]; exact hD
                          have lp_28 : ∀ (fu : Nat) (q : Nat) (hq : q ≤ nn) (hm : nn < q + fu) (H : Heap) (locs : List Loc) (hP : va_P G CLS (MW b J (va_up (va_up E 5 (va_cpy (E 4) (E 5) (96 * k + i1) 0 nn)) 4 (va_cpy (E 4) (E 4) (96 * k + i1) (96 * k2 + j1) q)) d) H) (hD : va_D A (MW b J (va_up (va_up E 5 (va_cpy (E 4) (E 5) (96 * k + i1) 0 nn)) 4 (va_cpy (E 4) (E 4) (96 * k + i1) (96 * k2 + j1) q)) d)) (hS : va_S A s.heap H locs) (ls : Array Slot) (hl : lv_has ls 7 [(6, .int (nI q)), (0, .ref (b 0)), (1, .int (nI k)), (2, .int (nI i1)), (3, .int (nI k2)), (4, .int (nI j1)), (5, .int (nI nn))]), W p l e (headSpec (ws_ yX1_copy cX1_copy 7 (some FieldType.int)) ({ frames := 2, cells := 0, slots := 0, locals := 42 } : Room)).room s m ([.ref (b 0), .int (nI k), .int (nI i1), .int (nI k2), .int (nI j1), .int (nI nn)] : List Value).toArray below meth c H locs 0 0 (MQ below (va_Qi (fun (r : Int32) (u : MS) => (r, u) = mCopy (J, E) (nI k) (nI i1) (nI k2) (nI j1) (nI nn)) (fun (u : MS) t => bW G d A (MW b u.1 u.2 d) t) A) ([.ref (b 0), .int (nI k), .int (nI i1), .int (nI k2), .int (nI j1), .int (nI nn)] : List Value).toArray s 0 0 A) (F0 m 133 ls []) := by
                            intro fu
                            induction fu with
                            | zero =>
                              intro q hq hm H locs hP hD hS ls hl
                              exfalso; omega
                            | succ fu ih_lp_28 =>
                              intro q hq hm H locs hP hD hS ls hl
                              refine lv_iload hx hb dX1_copy_133 (lv_at hl 0 rfl) ?_
                              refine lv_iload hx hb dX1_copy_135 (lv_at hl 6 rfl) ?_
                              refine lv_icmp_ge (tgt := 168) hx hb dX1_copy_137 (by decide) (fun c_29 => ?_) (fun c_29 => ?_)
                              · have c_29 : nn ≤ q := (nI_leI (a := nn) (b := q) (by omega) (by omega)).mp c_29
                                refine lv_iconst (v := 1) hx hb dX1_copy_168 (by decide) ?_
                                have eq9 : q = nn := by omega
                                exact W.iret (v := 1) hx hb hr (fun t ht hW => ⟨⟨1, (J, va_up (va_up E 5 (va_cpy (E 4) (E 5) (96 * k + i1) 0 nn)) 4 (va_cpy (E 4) (E 4) (96 * k + i1) (96 * k2 + j1) q)), rfl, by unfold mCopy; rw [if_neg (not_not_intro ⟨(show inR (nI k) 0 3 from nI_inR (n := 3) (by omega) (by decide)), (show inR (nI k2) 0 3 from nI_inR (n := 3) (by omega) (by decide))⟩), if_neg (nI_pos (by omega)), cl_nI (show k < 2 ^ 31 by omega), cl_nI (show k2 < 2 ^ 31 by omega), if_neg (not_not_intro ⟨c_8, c_12⟩), if_neg (not_not_intro ⟨nI_pos' (by omega), nI_pos' (by omega), by rw [nI_toInt (by omega), nI_toInt (by omega)]; omega, by rw [nI_toInt (by omega), nI_toInt (by omega)]; omega⟩), cl_nI (show i1 < 2 ^ 31 by omega), cl_nI (show j1 < 2 ^ 31 by omega), cl_nI (show nn < 2 ^ 31 by omega), show nn = q by omega], by rw [ht]; exact hP, va_K.moved hW.alike hK, hD⟩, hS.F ht⟩) hS.2.2 dX1_copy_169
                              · have c_29 : ¬ nn ≤ q := fun h => c_29 ((nI_leI (a := nn) (b := q) (by omega) (by omega)).mpr h)
                                refine lv_aload_n hx hb dX1_copy_140 rfl (lv_at hl 1 rfl) ?_
                                refine va_get (D := G) (ci := 1) (v := .ref (b 4)) (C := RX1) (T := TX1) (N := 33) hx hb hts in_X1 hown hK hP 0 rfl rfl 4 (Nat.le_of_ble_eq_true rfl) (hts _ q890) (fun _ h9 => h9) rfl dX1_copy_141 ?_
                                refine lv_bipush (v := 96) hx hb dX1_copy_144 (by decide +kernel) ?_
                                refine lv_iload_n hx hb dX1_copy_146 rfl (lv_at hl 4 rfl) ?_
                                refine lv_imul hx hb dX1_copy_147 ?_
                                refine y_top (y := nI (96 * k2)) (pk_mul 96 k2) ?_
                                refine lv_iload hx hb dX1_copy_148 (lv_at hl 5 rfl) ?_
                                refine lv_iadd hx hb dX1_copy_150 ?_
                                refine y_top (y := nI ((96 * k2) + j1)) (nI_add (96 * k2) j1) ?_
                                refine lv_iload hx hb dX1_copy_151 (lv_at hl 0 rfl) ?_
                                refine lv_iadd hx hb dX1_copy_153 ?_
                                refine y_top (y := nI (((96 * k2) + j1) + q)) (nI_add ((96 * k2) + j1) q) ?_
                                refine lv_aload_n hx hb dX1_copy_154 rfl (lv_at hl 1 rfl) ?_
                                refine va_get (D := G) (ci := 1) (v := .ref (b 5)) (C := RX1) (T := TX1) (N := 33) hx hb hts in_X1 hown hK hP 0 rfl rfl 5 (Nat.le_of_ble_eq_true rfl) (hts _ q891) (fun _ h9 => h9) rfl dX1_copy_155 ?_
                                refine lv_iload hx hb dX1_copy_158 (lv_at hl 0 rfl) ?_
                                refine y_iald (N := q) (f := (va_cpy (E 4) (E 5) (96 * k + i1) 0 nn)) hx hb hK hP 4 0 rfl rfl rfl (by omega) (by decide) dX1_copy_160 ?_
                                refine y_top (y := E 4 (96 * k + i1 + q)) (cpy_in0 (by omega)) ?_
                                refine y_iast (N := ((96 * k2) + j1) + q) (f := (va_cpy (E 4) (E 4) (96 * k + i1) (96 * k2 + j1) q)) hx hb hK hP hD hS 3 0 rfl rfl rfl (by omega) (by decide) dX1_copy_161 (fun H locs hP hD hS => ?_)
                                have hP : va_P G CLS (MW b J (va_up (va_up (va_up E 5 (va_cpy (E 4) (E 5) (96 * k + i1) 0 nn)) 4 (va_cpy (E 4) (E 4) (96 * k + i1) (96 * k2 + j1) q)) 4 (upd (va_cpy (E 4) (E 4) (96 * k + i1) (96 * k2 + j1) q) (((96 * k2) + j1) + q) (E 4 (96 * k + i1 + q)))) d) H := hP
                                have hD : va_D A (MW b J (va_up (va_up (va_up E 5 (va_cpy (E 4) (E 5) (96 * k + i1) 0 nn)) 4 (va_cpy (E 4) (E 4) (96 * k + i1) (96 * k2 + j1) q)) 4 (upd (va_cpy (E 4) (E 4) (96 * k + i1) (96 * k2 + j1) q) (((96 * k2) + j1) + q) (E 4 (96 * k + i1 + q)))) d) := hD
                                refine lv_iinc (v := nI (q + 1)) (lv' := [(6, .int (nI (q + 1))), (0, .ref (b 0)), (1, .int (nI k)), (2, .int (nI i1)), (3, .int (nI k2)), (4, .int (nI j1)), (5, .int (nI nn))]) hx hb dX1_copy_162 hl (k := 0) rfl (nI_add q 1) (Nat.le_of_ble_eq_true rfl) rfl (fun ls hl => ?_)
                                refine lv_goto (tgt := 133) hx hb dX1_copy_165 (by decide) ?_
                                have hP : va_P G CLS (MW b J (va_up (va_up E 5 (va_cpy (E 4) (E 5) (96 * k + i1) 0 nn)) 4 (va_cpy (E 4) (E 4) (96 * k + i1) (96 * k2 + j1) (q + 1))) d) H := by rw [← cpy_s]; exact hP
                                have hD : va_D A (MW b J (va_up (va_up E 5 (va_cpy (E 4) (E 5) (96 * k + i1) 0 nn)) 4 (va_cpy (E 4) (E 4) (96 * k + i1) (96 * k2 + j1) (q + 1))) d) := by rw [← cpy_s]; exact hD
                                exact ih_lp_28 (q + 1) (by omega) (by omega) _ _ hP hD hS ls (lv_sub hl [0, 1, 2, 3, 4, 5, 6] rfl)
                          exact lp_28 (nn + 1) 0 (by omega) (by omega) _ _ hP hD hS ls (lv_sub hl [0, 1, 2, 3, 4, 5, 6] rfl)
                        · have c_27 : ¬ nn ≤ t := fun h => c_27 ((nI_leI (a := nn) (b := t) (by omega) (by omega)).mpr h)
                          refine lv_aload_n hx hb dX1_copy_103 rfl (lv_at hl 1 rfl) ?_
                          refine va_get (D := G) (ci := 1) (v := .ref (b 5)) (C := RX1) (T := TX1) (N := 33) hx hb hts in_X1 hown hK hP 0 rfl rfl 5 (Nat.le_of_ble_eq_true rfl) (hts _ q891) (fun _ h9 => h9) rfl dX1_copy_104 ?_
                          refine lv_iload hx hb dX1_copy_107 (lv_at hl 0 rfl) ?_
                          refine lv_aload_n hx hb dX1_copy_109 rfl (lv_at hl 1 rfl) ?_
                          refine va_get (D := G) (ci := 1) (v := .ref (b 4)) (C := RX1) (T := TX1) (N := 33) hx hb hts in_X1 hown hK hP 0 rfl rfl 4 (Nat.le_of_ble_eq_true rfl) (hts _ q890) (fun _ h9 => h9) rfl dX1_copy_110 ?_
                          refine lv_bipush (v := 96) hx hb dX1_copy_113 (by decide +kernel) ?_
                          refine lv_iload_n hx hb dX1_copy_115 rfl (lv_at hl 2 rfl) ?_
                          refine lv_imul hx hb dX1_copy_116 ?_
                          refine y_top (y := nI (96 * k)) (pk_mul 96 k) ?_
                          refine lv_iload_n hx hb dX1_copy_117 rfl (lv_at hl 3 rfl) ?_
                          refine lv_iadd hx hb dX1_copy_118 ?_
                          refine y_top (y := nI ((96 * k) + i1)) (nI_add (96 * k) i1) ?_
                          refine lv_iload hx hb dX1_copy_119 (lv_at hl 0 rfl) ?_
                          refine lv_iadd hx hb dX1_copy_121 ?_
                          refine y_top (y := nI (((96 * k) + i1) + t)) (nI_add ((96 * k) + i1) t) ?_
                          refine y_iald (N := ((96 * k) + i1) + t) (f := E 4) hx hb hK hP 3 0 rfl rfl rfl (by omega) (by decide) dX1_copy_122 ?_
                          refine y_iast (N := t) (f := (va_cpy (E 4) (E 5) (96 * k + i1) 0 t)) hx hb hK hP hD hS 4 0 rfl rfl rfl (by omega) (by decide) dX1_copy_123 (fun H locs hP hD hS => ?_)
                          have hP : va_P G CLS (MW b J (va_up (va_up E 5 (va_cpy (E 4) (E 5) (96 * k + i1) 0 t)) 5 (upd (va_cpy (E 4) (E 5) (96 * k + i1) 0 t) t ((E 4) (((96 * k) + i1) + t)))) d) H := hP
                          have hD : va_D A (MW b J (va_up (va_up E 5 (va_cpy (E 4) (E 5) (96 * k + i1) 0 t)) 5 (upd (va_cpy (E 4) (E 5) (96 * k + i1) 0 t) t ((E 4) (((96 * k) + i1) + t)))) d) := hD
                          refine lv_iinc (v := nI (t + 1)) (lv' := [(6, .int (nI (t + 1))), (0, .ref (b 0)), (1, .int (nI k)), (2, .int (nI i1)), (3, .int (nI k2)), (4, .int (nI j1)), (5, .int (nI nn))]) hx hb dX1_copy_124 hl (k := 0) rfl (nI_add t 1) (Nat.le_of_ble_eq_true rfl) rfl (fun ls hl => ?_)
                          refine lv_goto (tgt := 96) hx hb dX1_copy_127 (by decide) ?_
                          have hP : va_P G CLS (MW b J (va_up E 5 (va_cpy (E 4) (E 5) (96 * k + i1) 0 (t + 1))) d) H := by rw [← cpy_s0]; exact hP
                          have hD : va_D A (MW b J (va_up E 5 (va_cpy (E 4) (E 5) (96 * k + i1) 0 (t + 1))) d) := by rw [← cpy_s0]; exact hD
                          exact ih_lp_26 (t + 1) (by omega) (by omega) _ _ hP hD hS ls (lv_sub hl [0, 1, 2, 3, 4, 5, 6] rfl)
                    exact lp_26 (nn + 1) 0 (by omega) (by omega) _ _ hP hD hS ls (lv_sub hl [0, 1, 2, 3, 4, 5, 6] rfl)
                  · have c_25 : 0 < lg_cmp ((nI j1).toInt64 + (nI nn).toInt64) 96 := Int32.not_le.mp c_25
                    have c_25 : 96 < (nI j1).toInt + (nI nn).toInt := lsum_lt.mp (lg_gt.mp c_25)
                    refine lv_aload_n hx hb dX1_copy_87 rfl (lv_at hl 0 rfl) ?_
                    refine lv_iconst (v := 2) hx hb dX1_copy_88 (by decide) ?_
                    refine y_cVi (As := [.int 2]) (rest := []) (ci := 1) (q0 := 0) ⟨hx, hb, hml, hown, hts⟩ hK hP hD hS hA (metX1_meets l G d s.heap.size b J E 2 (by omega)) (cwV 1 hts (lw_V q1005 q1007 qs19 q39 q1008) rfl rfl rfl (by decide +kernel) ⟨Nat.le_of_ble_eq_true rfl, Nat.le_of_ble_eq_true rfl⟩) rfl rfl rfl hl.1 rfl (lv_room (Nat.le_of_ble_eq_true rfl)) dX1_copy_89 ⟨Nat.le_of_ble_eq_true rfl, Nat.le_of_ble_eq_true rfl⟩ (fun r_30 u_32 H locs hw_31 hP hD hS => ?_)
                    obtain ⟨rfl, rfl⟩ := hw_31
                    exact W.iret (v := (-3)) hx hb hr (fun t ht hW => ⟨⟨(-3), (uFind (J, E) 2), rfl, by unfold mCopy; rw [if_neg (not_not_intro ⟨(show inR (nI k) 0 3 from nI_inR (n := 3) (by omega) (by decide)), (show inR (nI k2) 0 3 from nI_inR (n := 3) (by omega) (by decide))⟩), if_neg (nI_pos (by omega)), cl_nI (show k < 2 ^ 31 by omega), cl_nI (show k2 < 2 ^ 31 by omega), if_neg (not_not_intro ⟨c_8, c_12⟩), if_pos (fun h => absurd h.2.2.2 (Int.not_le.mpr c_25))], by rw [ht]; exact hP, va_K.moved hW.alike hK, hD⟩, hS.F ht⟩) hS.2.2 dX1_copy_92
          · refine lv_aload_n hx hb dX1_copy_45 rfl (lv_at hl 0 rfl) ?_
            refine lv_iconst (v := 1) hx hb dX1_copy_46 (by decide) ?_
            refine y_cVi (As := [.int 1]) (rest := []) (ci := 1) (q0 := 0) ⟨hx, hb, hml, hown, hts⟩ hK hP hD hS hA (metX1_meets l G d s.heap.size b J E 1 (by omega)) (cwV 1 hts (lw_V q1005 q1007 qs19 q39 q1008) rfl rfl rfl (by decide +kernel) ⟨Nat.le_of_ble_eq_true rfl, Nat.le_of_ble_eq_true rfl⟩) rfl rfl rfl hl.1 rfl (lv_room (Nat.le_of_ble_eq_true rfl)) dX1_copy_47 ⟨Nat.le_of_ble_eq_true rfl, Nat.le_of_ble_eq_true rfl⟩ (fun r_33 u_35 H locs hw_34 hP hD hS => ?_)
            obtain ⟨rfl, rfl⟩ := hw_34
            exact W.iret (v := (-3)) hx hb hr (fun t ht hW => ⟨⟨(-3), (uFind (J, E) 1), rfl, by unfold mCopy; rw [if_neg (not_not_intro ⟨(show inR (nI k) 0 3 from nI_inR (n := 3) (by omega) (by decide)), (show inR (nI k2) 0 3 from nI_inR (n := 3) (by omega) (by decide))⟩), if_neg (nI_pos (by omega)), cl_nI (show k < 2 ^ 31 by omega), cl_nI (show k2 < 2 ^ 31 by omega), if_pos (fun h => h.2 c_12)], by rw [ht]; exact hP, va_K.moved hW.alike hK, hD⟩, hS.F ht⟩) hS.2.2 dX1_copy_50
      · refine lv_aload_n hx hb dX1_copy_21 rfl (lv_at hl 0 rfl) ?_
        refine lv_iconst (v := 5) hx hb dX1_copy_22 (by decide) ?_
        refine y_cVi (As := [.int 5]) (rest := []) (ci := 1) (q0 := 0) ⟨hx, hb, hml, hown, hts⟩ hK hP hD hS hA (metX1_meets l G d s.heap.size b J E 5 (by omega)) (cwV 1 hts (lw_V q1005 q1007 qs19 q39 q1008) rfl rfl rfl (by decide +kernel) ⟨Nat.le_of_ble_eq_true rfl, Nat.le_of_ble_eq_true rfl⟩) rfl rfl rfl hl.1 rfl (lv_room (Nat.le_of_ble_eq_true rfl)) dX1_copy_23 ⟨Nat.le_of_ble_eq_true rfl, Nat.le_of_ble_eq_true rfl⟩ (fun r_36 u_38 H locs hw_37 hP hD hS => ?_)
        obtain ⟨rfl, rfl⟩ := hw_37
        exact W.iret (v := (-3)) hx hb hr (fun t ht hW => ⟨⟨(-3), (uFind (J, E) 5), rfl, by unfold mCopy; rw [if_neg (not_not_intro ⟨(show inR (nI k) 0 3 from nI_inR (n := 3) (by omega) (by decide)), (show inR (nI k2) 0 3 from nI_inR (n := 3) (by omega) (by decide))⟩), if_pos (Int32.not_le.mp c_7)], by rw [ht]; exact hP, va_K.moved hW.alike hK, hD⟩, hS.F ht⟩) hS.2.2 dX1_copy_26
    · have c_6 := bI_eq hr_5 c_6
      refine lv_iconst (v := (-1)) hx hb dX1_copy_14 (by decide) ?_
      exact W.iret (v := (-1)) hx hb hr (fun t ht hW => ⟨⟨(-1), (J, E), rfl, (if_pos (fun h => c_6 h.2)).symm, by rw [ht]; exact hP, va_K.moved hW.alike hK, hD⟩, hS.F ht⟩) hS.2.2 dX1_copy_15
