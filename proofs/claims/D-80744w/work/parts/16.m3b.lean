set_option maxHeartbeats 400000 in
set_option maxRecDepth 100000 in
theorem metX1_mean (l : Launch) (G : va_G) (d : Nat → Nat) (sz : Nat) (b : Nat → Nat) (J : Nat → Int32) (E : Nat → Nat → Int32) (v : Int32) : Met l yX1_mean (ws_ yX1_mean cX1_mean 7 (some FieldType.int)) ({ frames := 3, cells := 0, slots := 0, locals := 63 } : Room) (va_Pc [.ref (b 0), .int v] (pW G d sz (MW b J E d))) (va_Qi (fun (r : Int32) (u : MS) => (r, u) = mMean (J, E) v) (fun (u : MS) t => bW G d (va_A (MW b J E d) sz) (MW b u.1 u.2 d) t) (va_A (MW b J E d) sz)) 0 0 (va_A (MW b J E d) sz) := by
  refine Met.ofW (cc := cX1_mean) (maxL := 7) (ret := (some FieldType.int)) (by decide) rfl ?_
  intro p e s m args below meth c s₁ B hml hv
  obtain ⟨rfl, hsz, hP, hK, hD0⟩ := hv
  have hx := B.exec
  have hb := B.bytes
  have hr := B.returns
  have hts := atoms_spec (ws := (ws_ yX1_mean cX1_mean 7 (some FieldType.int))) B.pre
  have hts : ∀ w ∈ lw_all, w.before _ s = true := fun w h => hts w (List.mem_cons_of_mem _ h)
  have hown : s.vm.findClass RX1 = some m.cls := findClass_of_methodNamed B.named
  have hlocks := B.notSynchronized
  subst hsz
  have hD := hD0.self (sz := s.heap.size)
  generalize hAe : va_A (MW b J E d) s.heap.size = A at hD ⊢
  have hA : ∀ q : Nat, s.heap.size ≤ q → A q := fun q h => by rw [← hAe]; exact Or.inr h
  have hS : va_S A s.heap s.heap [] := va_S.rf
  have hl := lv_entry ([.ref (b 0), .int v]) (n := 7) (Nat.le_of_ble_eq_true rfl)
  rw [lg_entry_eq]
  generalize (lg_sl ([.ref (b 0), .int v]) ++ List.replicate (7 - (lg_sl ([.ref (b 0), .int v])).length) Slot.unset).toArray = ls at hl ⊢
  have hl : lv_has ls 7 [(0, .ref (b 0)), (1, .int v)] := hl
  have hP : va_P G CLS (MW b J E d) s.heap := hP
  refine lv_aload_n hx hb dX1_mean_0 rfl (lv_at hl 0 rfl) ?_
  refine lv_iload_n hx hb dX1_mean_1 rfl (lv_at hl 1 rfl) ?_
  refine y_cVi (As := [.int v]) (rest := []) (ci := 1) (q0 := 0) ⟨hx, hb, hml, hown, hts⟩ hK hP hD hS hA (metX1_looked l G d s.heap.size b J E v) (cwV 1 hts (lw_V q1001 q1003 qs18 q39 q1004) rfl rfl rfl (by decide +kernel) ⟨Nat.le_of_ble_eq_true rfl, Nat.le_of_ble_eq_true rfl⟩) rfl rfl rfl hl.1 rfl (lv_room (Nat.le_of_ble_eq_true rfl)) dX1_mean_2 ⟨Nat.le_of_ble_eq_true rfl, Nat.le_of_ble_eq_true rfl⟩ (fun r_1 u_3 H locs hw_2 hP hD hS => ?_)
  rcases hw_2 with ⟨ha_4, hr_5, hu_6⟩ | ⟨k, hk, hv_7, he_8, hr_5, hu_6⟩ | ⟨k, hk, hv_7, he_8, hr_5, hu_6⟩
  · subst hr_5; subst hu_6
    have hP : va_P G CLS (MW b J E d) H := hP
    have hD : va_D A (MW b J E d) := hD
    refine lv_istore_n (lv' := [(2, .int (-1)), (0, .ref (b 0)), (1, .int v)]) hx hb dX1_mean_5 rfl hl (Nat.le_of_ble_eq_true rfl) rfl (fun ls hl => ?_)
    refine lv_iload_n hx hb dX1_mean_6 rfl (lv_at hl 0 rfl) ?_
    refine lv_if_ge (tgt := 12) hx hb dX1_mean_7 (by decide) (fun c_9 => ?_) (fun c_9 => ?_)
    · exact absurd c_9 (by decide)
    · refine lv_iload_n hx hb dX1_mean_10 rfl (lv_at hl 0 rfl) ?_
      exact W.iret (v := (-1)) hx hb hr (fun t ht hW => ⟨⟨(-1), (J, E), rfl, by unfold mMean lookX; rw [if_pos ha_4], by rw [ht]; exact hP, va_K.moved hW.alike hK, hD⟩, hS.F ht⟩) hS.2.2 dX1_mean_11
  · subst hr_5; subst hu_6; subst hv_7
    have hP : va_P G CLS (MW b ((uFind (J, E) 1).1) ((uFind (J, E) 1).2) d) H := hP
    have hD : va_D A (MW b ((uFind (J, E) 1).1) ((uFind (J, E) 1).2) d) := hD
    refine lv_istore_n (lv' := [(2, .int (-3)), (0, .ref (b 0)), (1, .int (nI k))]) hx hb dX1_mean_5 rfl hl (Nat.le_of_ble_eq_true rfl) rfl (fun ls hl => ?_)
    refine lv_iload_n hx hb dX1_mean_6 rfl (lv_at hl 0 rfl) ?_
    refine lv_if_ge (tgt := 12) hx hb dX1_mean_7 (by decide) (fun c_10 => ?_) (fun c_10 => ?_)
    · exact absurd c_10 (by decide)
    · refine lv_iload_n hx hb dX1_mean_10 rfl (lv_at hl 0 rfl) ?_
      exact W.iret (v := (-3)) hx hb hr (fun t ht hW => ⟨⟨(-3), (uFind (J, E) 1), rfl, by unfold mMean lookX; rw [if_neg (not_not_intro (show inR (nI k) 0 3 from nI_inR (n := 3) (by omega) (by decide))), cl_nI (show k < 2 ^ 31 by omega), if_neg (not_not_intro he_8)], by rw [ht]; exact hP, va_K.moved hW.alike hK, hD⟩, hS.F ht⟩) hS.2.2 dX1_mean_11
  · subst hr_5; subst hu_6; subst hv_7
    have hP : va_P G CLS (MW b J E d) H := hP
    have hD : va_D A (MW b J E d) := hD
    refine lv_istore_n (lv' := [(2, .int 0), (0, .ref (b 0)), (1, .int (nI k))]) hx hb dX1_mean_5 rfl hl (Nat.le_of_ble_eq_true rfl) rfl (fun ls hl => ?_)
    refine lv_iload_n hx hb dX1_mean_6 rfl (lv_at hl 0 rfl) ?_
    refine lv_if_ge (tgt := 12) hx hb dX1_mean_7 (by decide) (fun c_11 => ?_) (fun c_11 => ?_)
    · refine lv_iconst (v := 0) hx hb dX1_mean_12 (by decide) ?_
      refine lv_istore_n (lv' := [(3, .int 0), (2, .int 0), (0, .ref (b 0)), (1, .int (nI k))]) hx hb dX1_mean_13 rfl hl (Nat.le_of_ble_eq_true rfl) rfl (fun ls hl => ?_)
      refine lv_iconst (v := 0) hx hb dX1_mean_14 (by decide) ?_
      refine lv_istore (lv' := [(4, .int 0), (3, .int 0), (2, .int 0), (0, .ref (b 0)), (1, .int (nI k))]) hx hb dX1_mean_15 hl (Nat.le_of_ble_eq_true rfl) rfl (fun ls hl => ?_)
      refine lv_iconst (v := 0) hx hb dX1_mean_17 (by decide) ?_
      refine lv_istore (lv' := [(5, .int 0), (4, .int 0), (3, .int 0), (2, .int 0), (0, .ref (b 0)), (1, .int (nI k))]) hx hb dX1_mean_18 hl (Nat.le_of_ble_eq_true rfl) rfl (fun ls hl => ?_)
      have lp_12 : ∀ (fu : Nat) (i cn : Nat) (sm : Int32) (hi : i ≤ 96) (hm : 96 < i + fu) (hcn : cn = cntV (fun j => E 4 (96 * k + j)) i) (hsm : sm = sumR (fun j => if E 4 (96 * k + j) = -9 then 0 else E 4 (96 * k + j)) i) (ls : Array Slot) (hl : lv_has ls 7 [(5, .int (nI i)), (4, .int sm), (3, .int (nI cn)), (0, .ref (b 0)), (1, .int (nI k))]), W p l e (headSpec (ws_ yX1_mean cX1_mean 7 (some FieldType.int)) ({ frames := 3, cells := 0, slots := 0, locals := 63 } : Room)).room s m ([.ref (b 0), .int (nI k)] : List Value).toArray below meth c H locs 0 0 (MQ below (va_Qi (fun (r : Int32) (u : MS) => (r, u) = mMean (J, E) (nI k)) (fun (u : MS) t => bW G d A (MW b u.1 u.2 d) t) A) ([.ref (b 0), .int (nI k)] : List Value).toArray s 0 0 A) (F0 m 20 ls []) := by
        intro fu
        induction fu with
        | zero =>
          intro i cn sm hi hm hcn hsm ls hl
          exfalso; omega
        | succ fu ih_lp_12 =>
          intro i cn sm hi hm hcn hsm ls hl
          refine lv_iload hx hb dX1_mean_20 (lv_at hl 0 rfl) ?_
          refine lv_bipush (v := 96) hx hb dX1_mean_22 (by decide +kernel) ?_
          refine lv_icmp_ge (tgt := 80) hx hb dX1_mean_24 (by decide) (fun c_13 => ?_) (fun c_13 => ?_)
          · have c_13 : 96 ≤ i := (nI_leI (a := 96) (b := i) (by omega) (by omega)).mp c_13
            have ei : i = 96 := by omega
            subst ei
            have hcl := cntV_le (fun j => E 4 (96 * k + j)) 96
            rw [← hcn] at hcl
            refine lv_iload_n hx hb dX1_mean_80 rfl (lv_at hl 2 rfl) ?_
            refine lv_if_ne (tgt := 92) hx hb dX1_mean_81 (by decide) (fun c_14 => ?_) (fun c_14 => ?_)
            · have c_14 : ¬ cn = 0 := fun h => c_14 ((nI_eq (a := cn) (b := 0) (by omega) (by omega)).mpr h)
              refine lv_iload hx hb dX1_mean_92 (lv_at hl 1 rfl) ?_
              refine lv_iload_n hx hb dX1_mean_94 rfl (lv_at hl 2 rfl) ?_
              refine lv_idiv hx hb dX1_mean_95 (nI_ne0 (by omega) (by omega)) ?_
              exact W.iret (v := sm / (nI cn)) hx hb hr (fun t ht hW => ⟨⟨sm / (nI cn), (J, E), rfl, by unfold mMean lookX; rw [if_neg (not_not_intro (show inR (nI k) 0 3 from nI_inR (n := 3) (by omega) (by decide))), cl_nI (show k < 2 ^ 31 by omega), if_pos he_8, ← hcn, if_neg c_14, ← hsm], by rw [ht]; exact hP, va_K.moved hW.alike hK, hD⟩, hS.F ht⟩) hS.2.2 dX1_mean_96
            · have c_14 : cn = 0 := (nI_eq (a := cn) (b := 0) (by omega) (by omega)).mp c_14
              refine lv_aload_n hx hb dX1_mean_84 rfl (lv_at hl 3 rfl) ?_
              refine lv_iconst (v := 4) hx hb dX1_mean_85 (by decide) ?_
              refine y_cVi (As := [.int 4]) (rest := []) (ci := 1) (q0 := 0) ⟨hx, hb, hml, hown, hts⟩ hK hP hD hS hA (metX1_meets l G d H.size b J E 4 (by omega)) (cwV 1 hts (lw_V q1005 q1007 qs19 q39 q1008) rfl rfl rfl (by decide +kernel) ⟨Nat.le_of_ble_eq_true rfl, Nat.le_of_ble_eq_true rfl⟩) rfl rfl rfl hl.1 rfl (lv_room (Nat.le_of_ble_eq_true rfl)) dX1_mean_86 ⟨Nat.le_of_ble_eq_true rfl, Nat.le_of_ble_eq_true rfl⟩ (fun r_15 u_17 H locs hw_16 hP hD hS => ?_)
              obtain ⟨rfl, rfl⟩ := hw_16
              refine lv_goto (tgt := 96) hx hb dX1_mean_89 (by decide) ?_
              exact W.iret (v := (-3)) hx hb hr (fun t ht hW => ⟨⟨(-3), (uFind (J, E) 4), rfl, by unfold mMean lookX; rw [if_neg (not_not_intro (show inR (nI k) 0 3 from nI_inR (n := 3) (by omega) (by decide))), cl_nI (show k < 2 ^ 31 by omega), if_pos he_8, ← hcn, if_pos c_14], by rw [ht]; exact hP, va_K.moved hW.alike hK, hD⟩, hS.F ht⟩) hS.2.2 dX1_mean_96
          · have c_13 : ¬ 96 ≤ i := fun h => c_13 ((nI_leI (a := 96) (b := i) (by omega) (by omega)).mpr h)
            refine lv_aload_n hx hb dX1_mean_27 rfl (lv_at hl 3 rfl) ?_
            refine va_get (D := G) (ci := 1) (v := .ref (b 4)) (C := RX1) (T := TX1) (N := 33) hx hb hts in_X1 hown hK hP 0 rfl rfl 4 (Nat.le_of_ble_eq_true rfl) (hts _ q890) (fun _ h9 => h9) rfl dX1_mean_28 ?_
            refine lv_bipush (v := 96) hx hb dX1_mean_31 (by decide +kernel) ?_
            refine lv_iload_n hx hb dX1_mean_33 rfl (lv_at hl 4 rfl) ?_
            refine lv_imul hx hb dX1_mean_34 ?_
            refine y_top (y := nI (96 * k)) (pk_mul 96 k) ?_
            refine lv_iload hx hb dX1_mean_35 (lv_at hl 0 rfl) ?_
            refine lv_iadd hx hb dX1_mean_37 ?_
            refine y_top (y := nI ((96 * k) + i)) (nI_add (96 * k) i) ?_
            refine y_iald (N := (96 * k) + i) (f := E 4) hx hb hK hP 3 0 rfl rfl rfl (by omega) (by decide) dX1_mean_38 ?_
            refine lv_istore (lv' := [(6, .int ((E 4) ((96 * k) + i))), (5, .int (nI i)), (4, .int sm), (3, .int (nI cn)), (0, .ref (b 0)), (1, .int (nI k))]) hx hb dX1_mean_39 hl (Nat.le_of_ble_eq_true rfl) rfl (fun ls hl => ?_)
            refine lv_iload_n hx hb dX1_mean_41 rfl (lv_at hl 3 rfl) ?_
            refine lv_iload hx hb dX1_mean_42 (lv_at hl 0 rfl) ?_
            refine lv_bipush (v := (-9)) hx hb dX1_mean_44 (by decide +kernel) ?_
            refine lv_icmp_ne (tgt := 53) hx hb dX1_mean_46 (by decide) (fun c_18 => ?_) (fun c_18 => ?_)
            · refine lv_iconst (v := 1) hx hb dX1_mean_53 (by decide) ?_
              refine lv_iadd hx hb dX1_mean_54 ?_
              refine y_top (y := nI (cn + 1)) (nI_add cn 1) ?_
              refine lv_istore_n (lv' := [(3, .int (nI (cn + 1))), (6, .int ((E 4) ((96 * k) + i))), (5, .int (nI i)), (4, .int sm), (0, .ref (b 0)), (1, .int (nI k))]) hx hb dX1_mean_55 rfl hl (Nat.le_of_ble_eq_true rfl) rfl (fun ls hl => ?_)
              refine lv_iload hx hb dX1_mean_56 (lv_at hl 3 rfl) ?_
              refine lv_iload hx hb dX1_mean_58 (lv_at hl 1 rfl) ?_
              refine lv_bipush (v := (-9)) hx hb dX1_mean_60 (by decide +kernel) ?_
              refine lv_icmp_ne (tgt := 69) hx hb dX1_mean_62 (by decide) (fun c_19 => ?_) (fun c_19 => ?_)
              · refine lv_iload hx hb dX1_mean_69 (lv_at hl 1 rfl) ?_
                refine lv_iadd hx hb dX1_mean_71 ?_
                refine lv_istore (lv' := [(4, .int (sm + ((E 4) ((96 * k) + i)))), (3, .int (nI (cn + 1))), (6, .int ((E 4) ((96 * k) + i))), (5, .int (nI i)), (0, .ref (b 0)), (1, .int (nI k))]) hx hb dX1_mean_72 hl (Nat.le_of_ble_eq_true rfl) rfl (fun ls hl => ?_)
                refine lv_iinc (v := nI (i + 1)) (lv' := [(5, .int (nI (i + 1))), (4, .int (sm + ((E 4) ((96 * k) + i)))), (3, .int (nI (cn + 1))), (6, .int ((E 4) ((96 * k) + i))), (0, .ref (b 0)), (1, .int (nI k))]) hx hb dX1_mean_74 hl (k := 3) rfl (nI_add i 1) (Nat.le_of_ble_eq_true rfl) rfl (fun ls hl => ?_)
                refine lv_goto (tgt := 20) hx hb dX1_mean_77 (by decide) ?_
                exact ih_lp_12 (i + 1) (cn + 1) _ (by omega) (by omega) (by rw [cntV, hcn, if_neg c_18]) (by rw [hsm]; show _ = sumR (fun j => if E 4 (96 * k + j) = -9 then 0 else E 4 (96 * k + j)) i + (if E 4 (96 * k + i) = -9 then 0 else E 4 (96 * k + i)); rw [if_neg c_18]) ls (lv_sub hl [0, 1, 2, 4, 5] rfl)
              · exact absurd c_19 c_18
            · refine lv_iconst (v := 0) hx hb dX1_mean_49 (by decide) ?_
              refine lv_goto (tgt := 54) hx hb dX1_mean_50 (by decide) ?_
              refine lv_iadd hx hb dX1_mean_54 ?_
              refine y_top (y := nI (cn + 0)) (nI_add cn 0) ?_
              refine lv_istore_n (lv' := [(3, .int (nI (cn + 0))), (6, .int ((E 4) ((96 * k) + i))), (5, .int (nI i)), (4, .int sm), (0, .ref (b 0)), (1, .int (nI k))]) hx hb dX1_mean_55 rfl hl (Nat.le_of_ble_eq_true rfl) rfl (fun ls hl => ?_)
              refine lv_iload hx hb dX1_mean_56 (lv_at hl 3 rfl) ?_
              refine lv_iload hx hb dX1_mean_58 (lv_at hl 1 rfl) ?_
              refine lv_bipush (v := (-9)) hx hb dX1_mean_60 (by decide +kernel) ?_
              refine lv_icmp_ne (tgt := 69) hx hb dX1_mean_62 (by decide) (fun c_20 => ?_) (fun c_20 => ?_)
              · exact absurd c_18 c_20
              · refine lv_iconst (v := 0) hx hb dX1_mean_65 (by decide) ?_
                refine lv_goto (tgt := 71) hx hb dX1_mean_66 (by decide) ?_
                refine lv_iadd hx hb dX1_mean_71 ?_
                refine lv_istore (lv' := [(4, .int (sm + 0)), (3, .int (nI (cn + 0))), (6, .int ((E 4) ((96 * k) + i))), (5, .int (nI i)), (0, .ref (b 0)), (1, .int (nI k))]) hx hb dX1_mean_72 hl (Nat.le_of_ble_eq_true rfl) rfl (fun ls hl => ?_)
                refine lv_iinc (v := nI (i + 1)) (lv' := [(5, .int (nI (i + 1))), (4, .int (sm + 0)), (3, .int (nI (cn + 0))), (6, .int ((E 4) ((96 * k) + i))), (0, .ref (b 0)), (1, .int (nI k))]) hx hb dX1_mean_74 hl (k := 3) rfl (nI_add i 1) (Nat.le_of_ble_eq_true rfl) rfl (fun ls hl => ?_)
                refine lv_goto (tgt := 20) hx hb dX1_mean_77 (by decide) ?_
                exact ih_lp_12 (i + 1) (cn + 0) _ (by omega) (by omega) (by rw [cntV, hcn, if_pos c_18]) (by rw [hsm]; show _ = sumR (fun j => if E 4 (96 * k + j) = -9 then 0 else E 4 (96 * k + j)) i + (if E 4 (96 * k + i) = -9 then 0 else E 4 (96 * k + i)); rw [if_pos c_18]) ls (lv_sub hl [0, 1, 2, 4, 5] rfl)
      exact lp_12 97 0 0 _ (by omega) (by omega) rfl rfl ls (lv_sub hl [0, 1, 2, 4, 5] rfl)
    · exact absurd c_11 (by decide)
