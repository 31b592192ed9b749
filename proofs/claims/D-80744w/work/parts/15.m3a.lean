set_option maxHeartbeats 400000 in
set_option maxRecDepth 100000 in
theorem metX1_allRoom (l : Launch) (G : va_G) (d : Nat → Nat) (b : Nat → Nat) (J : Nat → Int32) (E : Nat → Nat → Int32) (k : Nat) (most : Int32) (hk : k < 4) (hrow : ∀ r, r < 12 → rOK (gM E k r)) : Met l yX1_allRoom (ws_ yX1_allRoom cX1_allRoom 10 (some FieldType.int)) ({ frames := 3, cells := 0, slots := 0, locals := 73 } : Room) (va_Pc [.ref (b 0), .int (nI k), .int most] (pR G d (MW b J E d))) (vp_Si (fun x => x = allV (fun r => roomV (gM E k r)) most)) 0 0 (fun _ => False) := by
  refine Met.ofW (cc := cX1_allRoom) (maxL := 10) (ret := (some FieldType.int)) (by decide) rfl ?_
  intro p e s m args below meth c s₁ B hml hv
  obtain ⟨rfl, hP, hK⟩ := hv
  have hx := B.exec
  have hb := B.bytes
  have hr := B.returns
  have hts := atoms_spec (ws := (ws_ yX1_allRoom cX1_allRoom 10 (some FieldType.int))) B.pre
  have hts : ∀ w ∈ lw_all, w.before _ s = true := fun w h => hts w (List.mem_cons_of_mem _ h)
  have hown : s.vm.findClass RX1 = some m.cls := findClass_of_methodNamed B.named
  have hlocks := B.notSynchronized
  have hl := lv_entry ([.ref (b 0), .int (nI k), .int most]) (n := 10) (Nat.le_of_ble_eq_true rfl)
  rw [lg_entry_eq]
  generalize (lg_sl ([.ref (b 0), .int (nI k), .int most]) ++ List.replicate (10 - (lg_sl ([.ref (b 0), .int (nI k), .int most])).length) Slot.unset).toArray = ls at hl ⊢
  have hl : lv_has ls 10 [(0, .ref (b 0)), (1, .int (nI k)), (2, .int most)] := hl
  refine lv_iconst (v := 0) hx hb dX1_allRoom_0 (by decide) ?_
  refine lv_istore_n (lv' := [(3, .int 0), (0, .ref (b 0)), (1, .int (nI k)), (2, .int most)]) hx hb dX1_allRoom_1 rfl hl (Nat.le_of_ble_eq_true rfl) rfl (fun ls hl => ?_)
  refine lv_iconst (v := 0) hx hb dX1_allRoom_2 (by decide) ?_
  refine lv_istore (lv' := [(4, .int 0), (3, .int 0), (0, .ref (b 0)), (1, .int (nI k)), (2, .int most)]) hx hb dX1_allRoom_3 hl (Nat.le_of_ble_eq_true rfl) rfl (fun ls hl => ?_)
  have lp_1 : ∀ (fu : Nat) (i : Nat) (sm : Int32) (hi : i ≤ 12) (hm : 12 < i + fu) (hs : sm = sumR (pickV (fun r => roomV (gM E k r)) most) i) (ls : Array Slot) (hl : lv_has ls 10 [(4, .int (nI i)), (3, .int sm), (0, .ref (b 0)), (1, .int (nI k)), (2, .int most)]), W p l e (headSpec (ws_ yX1_allRoom cX1_allRoom 10 (some FieldType.int)) ({ frames := 3, cells := 0, slots := 0, locals := 73 } : Room)).room s m ([.ref (b 0), .int (nI k), .int most] : List Value).toArray below meth c s.heap [] 0 0 (MQ below (vp_Si (fun x => x = allV (fun r => roomV (gM E k r)) most)) ([.ref (b 0), .int (nI k), .int most] : List Value).toArray s 0 0 (fun _ => False)) (F0 m 5 ls []) := by
    intro fu
    induction fu with
    | zero =>
      intro i sm hi hm hs ls hl
      exfalso; omega
    | succ fu ih_lp_1 =>
      intro i sm hi hm hs ls hl
      refine lv_iload hx hb dX1_allRoom_5 (lv_at hl 0 rfl) ?_
      refine lv_bipush (v := 12) hx hb dX1_allRoom_7 (by decide +kernel) ?_
      refine lv_icmp_ge (tgt := 206) hx hb dX1_allRoom_9 (by decide) (fun c_2 => ?_) (fun c_2 => ?_)
      · have c_2 : 12 ≤ i := (nI_leI (a := 12) (b := i) (by omega) (by omega)).mp c_2
        refine lv_iload_n hx hb dX1_allRoom_206 rfl (lv_at hl 1 rfl) ?_
        exact W.iret (v := sm) hx hb hr (fun t ht hW => ⟨sm, rfl, by rw [allV, hs, show i = 12 by omega], ht⟩) (fun q h => by cases h) dX1_allRoom_207
      · have c_2 : ¬ 12 ≤ i := fun h => c_2 ((nI_leI (a := 12) (b := i) (by omega) (by omega)).mpr h)
        refine lv_aload_n hx hb dX1_allRoom_12 rfl (lv_at hl 2 rfl) ?_
        refine lv_iload_n hx hb dX1_allRoom_13 rfl (lv_at hl 3 rfl) ?_
        refine lv_iload hx hb dX1_allRoom_14 (lv_at hl 0 rfl) ?_
        refine y_rV (As := [.int (nI k), .int (nI i)]) (rest := []) (ci := 1) (q0 := 0) ⟨hx, hb, hml, hown, hts⟩ hK hP (metX1_roomOf l G d b J E k i (by omega) (by omega) (hrow _ (by omega))) (cwV 2 hts (lw_V q1044 q1046 qs23 q39 q1047) rfl rfl rfl (by decide +kernel) ⟨Nat.le_of_ble_eq_true rfl, Nat.le_of_ble_eq_true rfl⟩) rfl rfl rfl hl.1 rfl (lv_room (Nat.le_of_ble_eq_true rfl)) dX1_allRoom_16 ⟨Nat.le_of_ble_eq_true rfl, Nat.le_of_ble_eq_true rfl⟩ (fun r_3 hw_4 => ?_)
        rw [hw_4]
        refine lv_istore (lv' := [(5, .int (roomV (gM E k i))), (4, .int (nI i)), (3, .int sm), (0, .ref (b 0)), (1, .int (nI k)), (2, .int most)]) hx hb dX1_allRoom_19 hl (Nat.le_of_ble_eq_true rfl) rfl (fun ls hl => ?_)
        have hi12 : i < 12 := by omega
        have hj_5 : ∀ (rm : Int32) (hrm : rm = pickV (fun r => roomV (gM E k r)) most i) (ls : Array Slot) (hl : lv_has ls 10 [(5, .int rm), (4, .int (nI i)), (3, .int sm), (0, .ref (b 0)), (1, .int (nI k)), (2, .int most)]), W p l e (headSpec (ws_ yX1_allRoom cX1_allRoom 10 (some FieldType.int)) ({ frames := 3, cells := 0, slots := 0, locals := 73 } : Room)).room s m ([.ref (b 0), .int (nI k), .int most] : List Value).toArray below meth c s.heap [] 0 0 (MQ below (vp_Si (fun x => x = allV (fun r => roomV (gM E k r)) most)) ([.ref (b 0), .int (nI k), .int most] : List Value).toArray s 0 0 (fun _ => False)) (F0 m 195 ls []) := by
          intro rm hrm ls hl
          refine lv_iload_n hx hb dX1_allRoom_195 rfl (lv_at hl 2 rfl) ?_
          refine lv_iload hx hb dX1_allRoom_196 (lv_at hl 0 rfl) ?_
          refine lv_iadd hx hb dX1_allRoom_198 ?_
          refine lv_istore_n (lv' := [(3, .int (sm + rm)), (5, .int rm), (4, .int (nI i)), (0, .ref (b 0)), (1, .int (nI k)), (2, .int most)]) hx hb dX1_allRoom_199 rfl hl (Nat.le_of_ble_eq_true rfl) rfl (fun ls hl => ?_)
          refine lv_iinc (v := nI (i + 1)) (lv' := [(4, .int (nI (i + 1))), (3, .int (sm + rm)), (5, .int rm), (0, .ref (b 0)), (1, .int (nI k)), (2, .int most)]) hx hb dX1_allRoom_200 hl (k := 2) rfl (nI_add i 1) (Nat.le_of_ble_eq_true rfl) rfl (fun ls hl => ?_)
          refine lv_goto (tgt := 5) hx hb dX1_allRoom_203 (by decide) ?_
          exact ih_lp_1 (i + 1) _ (by omega) (by omega) (by rw [hs, hrm]; rfl) ls (lv_sub hl [0, 1, 3, 4, 5] rfl)
        refine lv_iload hx hb dX1_allRoom_21 (lv_at hl 0 rfl) ?_
        refine lv_bipush (v := (-9)) hx hb dX1_allRoom_23 (by decide +kernel) ?_
        refine lv_icmp_ne (tgt := 195) hx hb dX1_allRoom_25 (by decide) (fun c_6 => ?_) (fun c_6 => ?_)
        · exact hj_5 _ (if_neg c_6).symm ls (lv_sub hl [0, 1, 2, 3, 4, 5] rfl)
        · refine lv_iload hx hb dX1_allRoom_28 (lv_at hl 1 rfl) ?_
          refine lv_iconst (v := 1) hx hb dX1_allRoom_30 (by decide) ?_
          refine lv_isub hx hb dX1_allRoom_31 ?_
          refine lv_istore (lv' := [(6, .int ((nI i) - 1)), (5, .int (roomV (gM E k i))), (4, .int (nI i)), (3, .int sm), (0, .ref (b 0)), (1, .int (nI k)), (2, .int most)]) hx hb dX1_allRoom_32 hl (Nat.le_of_ble_eq_true rfl) rfl (fun ls hl => ?_)
          have hj_7 : ∀ (y : Int32) (hy : (y < 0 ∧ belN (fun r => roomV (gM E k r)) i = -9) ∨ (∃ q : Nat, q < 12 ∧ y = nI q ∧ belN (fun r => roomV (gM E k r)) i = roomV (gM E k q))) (ls : Array Slot) (hl : lv_has ls 10 [(6, .int y), (5, .int (roomV (gM E k i))), (4, .int (nI i)), (3, .int sm), (0, .ref (b 0)), (1, .int (nI k)), (2, .int most)]), W p l e (headSpec (ws_ yX1_allRoom cX1_allRoom 10 (some FieldType.int)) ({ frames := 3, cells := 0, slots := 0, locals := 73 } : Room)).room s m ([.ref (b 0), .int (nI k), .int most] : List Value).toArray below meth c s.heap [] 0 0 (MQ below (vp_Si (fun x => x = allV (fun r => roomV (gM E k r)) most)) ([.ref (b 0), .int (nI k), .int most] : List Value).toArray s 0 0 (fun _ => False)) (F0 m 57 ls []) := by
            intro y hy ls hl
            refine lv_iload hx hb dX1_allRoom_57 (lv_at hl 2 rfl) ?_
            refine lv_iconst (v := 1) hx hb dX1_allRoom_59 (by decide) ?_
            refine lv_iadd hx hb dX1_allRoom_60 ?_
            refine y_top (y := nI (i + 1)) (nI_add i 1) ?_
            refine lv_istore (lv' := [(7, .int (nI (i + 1))), (6, .int y), (5, .int (roomV (gM E k i))), (4, .int (nI i)), (3, .int sm), (0, .ref (b 0)), (1, .int (nI k)), (2, .int most)]) hx hb dX1_allRoom_61 hl (Nat.le_of_ble_eq_true rfl) rfl (fun ls hl => ?_)
            have hj_8 : ∀ (z : Nat) (hz : (z = 12 ∧ abvN (fun r => roomV (gM E k r)) (11 - i) = -9) ∨ (z < 12 ∧ abvN (fun r => roomV (gM E k r)) (11 - i) = roomV (gM E k z))) (ls : Array Slot) (hl : lv_has ls 10 [(7, .int (nI z)), (6, .int y), (5, .int (roomV (gM E k i))), (4, .int (nI i)), (3, .int sm), (0, .ref (b 0)), (1, .int (nI k)), (2, .int most)]), W p l e (headSpec (ws_ yX1_allRoom cX1_allRoom 10 (some FieldType.int)) ({ frames := 3, cells := 0, slots := 0, locals := 73 } : Room)).room s m ([.ref (b 0), .int (nI k), .int most] : List Value).toArray below meth c s.heap [] 0 0 (MQ below (vp_Si (fun x => x = allV (fun r => roomV (gM E k r)) most)) ([.ref (b 0), .int (nI k), .int most] : List Value).toArray s 0 0 (fun _ => False)) (F0 m 88 ls []) := by
              intro z hz ls hl
              refine lv_iload hx hb dX1_allRoom_88 (lv_at hl 1 rfl) ?_
              have hz12 : z ≤ 12 := by
                rcases hz with w | w <;> omega
              have hj_9 : ∀ (u : Int32) (hu : u = belN (fun r => roomV (gM E k r)) i), W p l e (headSpec (ws_ yX1_allRoom cX1_allRoom 10 (some FieldType.int)) ({ frames := 3, cells := 0, slots := 0, locals := 73 } : Room)).room s m ([.ref (b 0), .int (nI k), .int most] : List Value).toArray below meth c s.heap [] 0 0 (MQ below (vp_Si (fun x => x = allV (fun r => roomV (gM E k r)) most)) ([.ref (b 0), .int (nI k), .int most] : List Value).toArray s 0 0 (fun _ => False)) (F0 m 105 ls [.int u]) := by
                intro u hu
                refine lv_istore (lv' := [(8, .int u), (7, .int (nI z)), (6, .int y), (5, .int (roomV (gM E k i))), (4, .int (nI i)), (3, .int sm), (0, .ref (b 0)), (1, .int (nI k)), (2, .int most)]) hx hb dX1_allRoom_105 hl (Nat.le_of_ble_eq_true rfl) rfl (fun ls hl => ?_)
                have hj_10 : ∀ (w : Int32) (hw : w = abvN (fun r => roomV (gM E k r)) (11 - i)), W p l e (headSpec (ws_ yX1_allRoom cX1_allRoom 10 (some FieldType.int)) ({ frames := 3, cells := 0, slots := 0, locals := 73 } : Room)).room s m ([.ref (b 0), .int (nI k), .int most] : List Value).toArray below meth c s.heap [] 0 0 (MQ below (vp_Si (fun x => x = allV (fun r => roomV (gM E k r)) most)) ([.ref (b 0), .int (nI k), .int most] : List Value).toArray s 0 0 (fun _ => False)) (F0 m 126 ls [.int w]) := by
                  intro w hw
                  refine lv_istore (lv' := [(9, .int w), (8, .int u), (7, .int (nI z)), (6, .int y), (5, .int (roomV (gM E k i))), (4, .int (nI i)), (3, .int sm), (0, .ref (b 0)), (1, .int (nI k)), (2, .int most)]) hx hb dX1_allRoom_126 hl (Nat.le_of_ble_eq_true rfl) rfl (fun ls hl => ?_)
                  have hj_11 : ∀ (rm : Int32) (hrm : rm = pickV (fun r => roomV (gM E k r)) most i), W p l e (headSpec (ws_ yX1_allRoom cX1_allRoom 10 (some FieldType.int)) ({ frames := 3, cells := 0, slots := 0, locals := 73 } : Room)).room s m ([.ref (b 0), .int (nI k), .int most] : List Value).toArray below meth c s.heap [] 0 0 (MQ below (vp_Si (fun x => x = allV (fun r => roomV (gM E k r)) most)) ([.ref (b 0), .int (nI k), .int most] : List Value).toArray s 0 0 (fun _ => False)) (F0 m 193 ls [.int rm]) := by
                    intro rm hrm
                    refine lv_istore (lv' := [(5, .int rm), (9, .int w), (8, .int u), (7, .int (nI z)), (6, .int y), (4, .int (nI i)), (3, .int sm), (0, .ref (b 0)), (1, .int (nI k)), (2, .int most)]) hx hb dX1_allRoom_193 hl (Nat.le_of_ble_eq_true rfl) rfl (fun ls hl => ?_)
                    exact hj_5 rm hrm ls (lv_sub hl [0, 5, 6, 7, 8, 9] rfl)
                  refine lv_iload hx hb dX1_allRoom_128 (lv_at hl 1 rfl) ?_
                  refine lv_bipush (v := (-9)) hx hb dX1_allRoom_130 (by decide +kernel) ?_
                  refine lv_icmp_ne (tgt := 146) hx hb dX1_allRoom_132 (by decide) (fun c_12 => ?_) (fun c_12 => ?_)
                  · refine lv_iload hx hb dX1_allRoom_146 (lv_at hl 1 rfl) ?_
                    refine lv_bipush (v := (-9)) hx hb dX1_allRoom_148 (by decide +kernel) ?_
                    refine lv_icmp_ne (tgt := 158) hx hb dX1_allRoom_150 (by decide) (fun c_13 => ?_) (fun c_13 => ?_)
                    · refine lv_iload hx hb dX1_allRoom_158 (lv_at hl 0 rfl) ?_
                      refine lv_bipush (v := (-9)) hx hb dX1_allRoom_160 (by decide +kernel) ?_
                      refine lv_icmp_ne (tgt := 170) hx hb dX1_allRoom_162 (by decide) (fun c_14 => ?_) (fun c_14 => ?_)
                      · refine lv_iload hx hb dX1_allRoom_170 (lv_at hl 1 rfl) ?_
                        refine lv_iload hx hb dX1_allRoom_172 (lv_at hl 0 rfl) ?_
                        refine lv_icmp_ge (tgt := 181) hx hb dX1_allRoom_174 (by decide) (fun c_15 => ?_) (fun c_15 => ?_)
                        · refine lv_iconst (v := 0) hx hb dX1_allRoom_181 (by decide) ?_
                          refine lv_iload_n hx hb dX1_allRoom_182 rfl (lv_at hl 9 rfl) ?_
                          refine lv_icmp_eq (tgt := 191) hx hb dX1_allRoom_183 (by decide) (fun c_16 => ?_) (fun c_16 => ?_)
                          · refine lv_iload hx hb dX1_allRoom_191 (lv_at hl 0 rfl) ?_
                            exact hj_11 _ (by rw [pickV, if_pos c_6, ← hu, ← hw, twoV, if_neg (fun h => c_12 h.1), if_neg c_12, if_neg c_14, bI_f (Int32.not_lt.mpr c_15), if_pos c_16])
                          · refine lv_iload hx hb dX1_allRoom_186 (lv_at hl 1 rfl) ?_
                            refine lv_goto (tgt := 193) hx hb dX1_allRoom_188 (by decide) ?_
                            exact hj_11 _ (by rw [pickV, if_pos c_6, ← hu, ← hw, twoV, if_neg (fun h => c_12 h.1), if_neg c_12, if_neg c_14, bI_f (Int32.not_lt.mpr c_15), if_neg c_16])
                        · refine lv_iconst (v := 1) hx hb dX1_allRoom_177 (by decide) ?_
                          refine lv_goto (tgt := 182) hx hb dX1_allRoom_178 (by decide) ?_
                          refine lv_iload_n hx hb dX1_allRoom_182 rfl (lv_at hl 9 rfl) ?_
                          refine lv_icmp_eq (tgt := 191) hx hb dX1_allRoom_183 (by decide) (fun c_17 => ?_) (fun c_17 => ?_)
                          · refine lv_iload hx hb dX1_allRoom_191 (lv_at hl 0 rfl) ?_
                            exact hj_11 _ (by rw [pickV, if_pos c_6, ← hu, ← hw, twoV, if_neg (fun h => c_12 h.1), if_neg c_12, if_neg c_14, bI_t (Int32.not_le.mp c_15), if_pos c_17])
                          · refine lv_iload hx hb dX1_allRoom_186 (lv_at hl 1 rfl) ?_
                            refine lv_goto (tgt := 193) hx hb dX1_allRoom_188 (by decide) ?_
                            exact hj_11 _ (by rw [pickV, if_pos c_6, ← hu, ← hw, twoV, if_neg (fun h => c_12 h.1), if_neg c_12, if_neg c_14, bI_t (Int32.not_le.mp c_15), if_neg c_17])
                      · refine lv_iload hx hb dX1_allRoom_165 (lv_at hl 1 rfl) ?_
                        refine lv_goto (tgt := 193) hx hb dX1_allRoom_167 (by decide) ?_
                        exact hj_11 _ (by rw [pickV, if_pos c_6, ← hu, ← hw, twoV, if_neg (fun h => c_12 h.1), if_neg c_12, if_pos c_14])
                    · exact absurd c_13 c_12
                  · refine lv_iload hx hb dX1_allRoom_135 (lv_at hl 0 rfl) ?_
                    refine lv_bipush (v := (-9)) hx hb dX1_allRoom_137 (by decide +kernel) ?_
                    refine lv_icmp_ne (tgt := 146) hx hb dX1_allRoom_139 (by decide) (fun c_18 => ?_) (fun c_18 => ?_)
                    · refine lv_iload hx hb dX1_allRoom_146 (lv_at hl 1 rfl) ?_
                      refine lv_bipush (v := (-9)) hx hb dX1_allRoom_148 (by decide +kernel) ?_
                      refine lv_icmp_ne (tgt := 158) hx hb dX1_allRoom_150 (by decide) (fun c_19 => ?_) (fun c_19 => ?_)
                      · exact absurd c_12 c_19
                      · refine lv_iload hx hb dX1_allRoom_153 (lv_at hl 0 rfl) ?_
                        refine lv_goto (tgt := 193) hx hb dX1_allRoom_155 (by decide) ?_
                        exact hj_11 _ (by rw [pickV, if_pos c_6, ← hu, ← hw, twoV, if_neg (fun h => c_18 h.2), if_pos c_12])
                    · refine lv_iconst (v := 0) hx hb dX1_allRoom_142 (by decide) ?_
                      refine lv_goto (tgt := 193) hx hb dX1_allRoom_143 (by decide) ?_
                      exact hj_11 _ (by rw [pickV, if_pos c_6, ← hu, ← hw, twoV, if_pos ⟨c_12, c_18⟩])
                refine lv_iload hx hb dX1_allRoom_107 (lv_at hl 1 rfl) ?_
                refine lv_bipush (v := 12) hx hb dX1_allRoom_109 (by decide +kernel) ?_
                refine lv_icmp_ne (tgt := 119) hx hb dX1_allRoom_111 (by decide) (fun c_20 => ?_) (fun c_20 => ?_)
                · have c_20 : ¬ z = 12 := fun h => c_20 ((nI_eq (a := z) (b := 12) (by omega) (by omega)).mpr h)
                  have hzr : z < 12 ∧ abvN (fun r => roomV (gM E k r)) (11 - i) = roomV (gM E k z) := by
                    rcases hz with w | w
                    · exact absurd w.1 c_20
                    · exact w
                  have hz2 := hzr.1
                  refine lv_aload_n hx hb dX1_allRoom_119 rfl (lv_at hl 6 rfl) ?_
                  refine lv_iload_n hx hb dX1_allRoom_120 rfl (lv_at hl 7 rfl) ?_
                  refine lv_iload hx hb dX1_allRoom_121 (lv_at hl 1 rfl) ?_
                  refine y_rV (As := [.int (nI k), .int (nI z)]) (rest := []) (ci := 1) (q0 := 0) ⟨hx, hb, hml, hown, hts⟩ hK hP (metX1_roomOf l G d b J E k z (by omega) (by omega) (hrow _ (by omega))) (cwV 2 hts (lw_V q1044 q1046 qs23 q39 q1047) rfl rfl rfl (by decide +kernel) ⟨Nat.le_of_ble_eq_true rfl, Nat.le_of_ble_eq_true rfl⟩) rfl rfl rfl hl.1 rfl (lv_room (Nat.le_of_ble_eq_true rfl)) dX1_allRoom_123 ⟨Nat.le_of_ble_eq_true rfl, Nat.le_of_ble_eq_true rfl⟩ (fun r_21 hw_22 => ?_)
                  rw [hw_22]
                  exact hj_10 _ hzr.2.symm
                · have c_20 : z = 12 := (nI_eq (a := z) (b := 12) (by omega) (by omega)).mp c_20
                  have hzn : abvN (fun r => roomV (gM E k r)) (11 - i) = -9 := by
                    rcases hz with w | w
                    · exact w.2
                    · exact absurd w.1 (by omega)
                  refine lv_bipush (v := (-9)) hx hb dX1_allRoom_114 (by decide +kernel) ?_
                  refine lv_goto (tgt := 126) hx hb dX1_allRoom_116 (by decide) ?_
                  exact hj_10 _ hzn.symm
              refine lv_if_ge (tgt := 98) hx hb dX1_allRoom_90 (by decide) (fun c_23 => ?_) (fun c_23 => ?_)
              · obtain ⟨q, hq, hyq, hbq⟩ : ∃ q : Nat, q < 12 ∧ y = nI q ∧ belN (fun r => roomV (gM E k r)) i = roomV (gM E k q) := by
                  rcases hy with w | w
                  · exact absurd w.1 (Int32.not_lt.mpr c_23)
                  · exact w
                subst hyq
                refine lv_aload_n hx hb dX1_allRoom_98 rfl (lv_at hl 5 rfl) ?_
                refine lv_iload_n hx hb dX1_allRoom_99 rfl (lv_at hl 6 rfl) ?_
                refine lv_iload hx hb dX1_allRoom_100 (lv_at hl 1 rfl) ?_
                refine y_rV (As := [.int (nI k), .int (nI q)]) (rest := []) (ci := 1) (q0 := 0) ⟨hx, hb, hml, hown, hts⟩ hK hP (metX1_roomOf l G d b J E k q (by omega) (by omega) (hrow _ (by omega))) (cwV 2 hts (lw_V q1044 q1046 qs23 q39 q1047) rfl rfl rfl (by decide +kernel) ⟨Nat.le_of_ble_eq_true rfl, Nat.le_of_ble_eq_true rfl⟩) rfl rfl rfl hl.1 rfl (lv_room (Nat.le_of_ble_eq_true rfl)) dX1_allRoom_102 ⟨Nat.le_of_ble_eq_true rfl, Nat.le_of_ble_eq_true rfl⟩ (fun r_24 hw_25 => ?_)
                rw [hw_25]
                exact hj_9 _ hbq.symm
              · have hbn : belN (fun r => roomV (gM E k r)) i = -9 := by
                  rcases hy with w | ⟨q, hq, hyq, hbq⟩
                  · exact w.2
                  · exact absurd (by rw [hyq]; exact nI_pos' (by omega)) c_23
                refine lv_bipush (v := (-9)) hx hb dX1_allRoom_93 (by decide +kernel) ?_
                refine lv_goto (tgt := 105) hx hb dX1_allRoom_95 (by decide) ?_
                exact hj_9 _ hbn.symm
            have lp_26 : ∀ (fu : Nat) (ab : Nat) (ha1 : i < ab) (ha2 : ab ≤ 12) (hm3 : 12 < ab + fu) (hae : abvN (fun r => roomV (gM E k r)) (11 - i) = abvN (fun r => roomV (gM E k r)) (12 - ab)) (ls : Array Slot) (hl : lv_has ls 10 [(7, .int (nI ab)), (6, .int y), (5, .int (roomV (gM E k i))), (4, .int (nI i)), (3, .int sm), (0, .ref (b 0)), (1, .int (nI k)), (2, .int most)]), W p l e (headSpec (ws_ yX1_allRoom cX1_allRoom 10 (some FieldType.int)) ({ frames := 3, cells := 0, slots := 0, locals := 73 } : Room)).room s m ([.ref (b 0), .int (nI k), .int most] : List Value).toArray below meth c s.heap [] 0 0 (MQ below (vp_Si (fun x => x = allV (fun r => roomV (gM E k r)) most)) ([.ref (b 0), .int (nI k), .int most] : List Value).toArray s 0 0 (fun _ => False)) (F0 m 63 ls []) := by
              intro fu
              induction fu with
              | zero =>
                intro ab ha1 ha2 hm3 hae ls hl
                exfalso; omega
              | succ fu ih_lp_26 =>
                intro ab ha1 ha2 hm3 hae ls hl
                refine lv_iload hx hb dX1_allRoom_63 (lv_at hl 0 rfl) ?_
                refine lv_bipush (v := 12) hx hb dX1_allRoom_65 (by decide +kernel) ?_
                refine lv_icmp_ge (tgt := 88) hx hb dX1_allRoom_67 (by decide) (fun c_27 => ?_) (fun c_27 => ?_)
                · have c_27 : 12 ≤ ab := (nI_leI (a := 12) (b := ab) (by omega) (by omega)).mp c_27
                  have e12 : ab = 12 := by omega
                  exact hj_8 _ (Or.inl ⟨e12, by rw [hae, e12]; rfl⟩) ls (lv_sub hl [0, 1, 2, 3, 4, 5, 6, 7] rfl)
                · have c_27 : ¬ 12 ≤ ab := fun h => c_27 ((nI_leI (a := 12) (b := ab) (by omega) (by omega)).mpr h)
                  refine lv_aload_n hx hb dX1_allRoom_70 rfl (lv_at hl 5 rfl) ?_
                  refine lv_iload_n hx hb dX1_allRoom_71 rfl (lv_at hl 6 rfl) ?_
                  refine lv_iload hx hb dX1_allRoom_72 (lv_at hl 0 rfl) ?_
                  refine y_rV (As := [.int (nI k), .int (nI ab)]) (rest := []) (ci := 1) (q0 := 0) ⟨hx, hb, hml, hown, hts⟩ hK hP (metX1_roomOf l G d b J E k ab (by omega) (by omega) (hrow _ (by omega))) (cwV 2 hts (lw_V q1044 q1046 qs23 q39 q1047) rfl rfl rfl (by decide +kernel) ⟨Nat.le_of_ble_eq_true rfl, Nat.le_of_ble_eq_true rfl⟩) rfl rfl rfl hl.1 rfl (lv_room (Nat.le_of_ble_eq_true rfl)) dX1_allRoom_74 ⟨Nat.le_of_ble_eq_true rfl, Nat.le_of_ble_eq_true rfl⟩ (fun r_28 hw_29 => ?_)
                  rw [hw_29]
                  refine lv_bipush (v := (-9)) hx hb dX1_allRoom_77 (by decide +kernel) ?_
                  refine lv_icmp_ne (tgt := 88) hx hb dX1_allRoom_79 (by decide) (fun c_30 => ?_) (fun c_30 => ?_)
                  · exact hj_8 _ (Or.inr ⟨by omega, by rw [hae, show 12 - ab = (12 - (ab + 1)) + 1 by omega, abvN, show 12 - (12 - (ab + 1) + 1) = ab by omega, if_neg c_30]⟩) ls (lv_sub hl [0, 1, 2, 3, 4, 5, 6, 7] rfl)
                  · refine lv_iinc (v := nI (ab + 1)) (lv' := [(7, .int (nI (ab + 1))), (6, .int y), (5, .int (roomV (gM E k i))), (4, .int (nI i)), (3, .int sm), (0, .ref (b 0)), (1, .int (nI k)), (2, .int most)]) hx hb dX1_allRoom_82 hl (k := 0) rfl (nI_add ab 1) (Nat.le_of_ble_eq_true rfl) rfl (fun ls hl => ?_)
                    refine lv_goto (tgt := 63) hx hb dX1_allRoom_85 (by decide) ?_
                    exact ih_lp_26 (ab + 1) (by omega) (by omega) (by omega) (by rw [hae, show 12 - ab = (12 - (ab + 1)) + 1 by omega, abvN, show 12 - (12 - (ab + 1) + 1) = ab by omega, if_pos c_30]) ls (lv_sub hl [0, 1, 2, 3, 4, 5, 6, 7] rfl)
            exact lp_26 12 (i + 1) (by omega) (by omega) (by omega) (by rw [show 12 - (i + 1) = 11 - i by omega]) ls (lv_sub hl [0, 1, 2, 3, 4, 5, 6, 7] rfl)
          have lp_31 : ∀ (fu : Nat) (bl : Nat) (hbl : bl ≤ i) (hm2 : bl < fu) (hbe : belN (fun r => roomV (gM E k r)) i = belN (fun r => roomV (gM E k r)) bl) (ls : Array Slot) (hl : lv_has ls 10 [(6, .int (nI bl - 1)), (5, .int (roomV (gM E k i))), (4, .int (nI i)), (3, .int sm), (0, .ref (b 0)), (1, .int (nI k)), (2, .int most)]), W p l e (headSpec (ws_ yX1_allRoom cX1_allRoom 10 (some FieldType.int)) ({ frames := 3, cells := 0, slots := 0, locals := 73 } : Room)).room s m ([.ref (b 0), .int (nI k), .int most] : List Value).toArray below meth c s.heap [] 0 0 (MQ below (vp_Si (fun x => x = allV (fun r => roomV (gM E k r)) most)) ([.ref (b 0), .int (nI k), .int most] : List Value).toArray s 0 0 (fun _ => False)) (F0 m 34 ls []) := by
            intro fu
            induction fu with
            | zero =>
              intro bl hbl hm2 hbe ls hl
              exfalso; omega
            | succ fu ih_lp_31 =>
              intro bl hbl hm2 hbe ls hl
              refine lv_iload hx hb dX1_allRoom_34 (lv_at hl 0 rfl) ?_
              refine lv_if_lt (tgt := 57) hx hb dX1_allRoom_36 (by decide) (fun c_32 => ?_) (fun c_32 => ?_)
              · have hb0 : bl = 0 := by
                  rcases Nat.eq_zero_or_pos bl with z | z
                  · exact z
                  · exact absurd c_32 (by rw [show nI bl - 1 = nI (bl - 1) from pk_sub (b := 1) (by omega)]; exact nI_pos (by omega))
                exact hj_7 _ (Or.inl ⟨c_32, by rw [hbe, hb0]; rfl⟩) ls (lv_sub hl [0, 1, 2, 3, 4, 5, 6] rfl)
              · have hb1 : 0 < bl := by
                  rcases Nat.eq_zero_or_pos bl with z | z
                  · subst z; exact absurd (by decide) c_32
                  · exact z
                have eb : nI bl - 1 = nI (bl - 1) := pk_sub (b := 1) (by omega)
                rw [eb] at hl
                refine lv_aload_n hx hb dX1_allRoom_39 rfl (lv_at hl 4 rfl) ?_
                refine lv_iload_n hx hb dX1_allRoom_40 rfl (lv_at hl 5 rfl) ?_
                refine lv_iload hx hb dX1_allRoom_41 (lv_at hl 0 rfl) ?_
                refine y_rV (As := [.int (nI k), .int (nI (bl - 1))]) (rest := []) (ci := 1) (q0 := 0) ⟨hx, hb, hml, hown, hts⟩ hK hP (metX1_roomOf l G d b J E k (bl - 1) (by omega) (by omega) (hrow _ (by omega))) (cwV 2 hts (lw_V q1044 q1046 qs23 q39 q1047) rfl rfl rfl (by decide +kernel) ⟨Nat.le_of_ble_eq_true rfl, Nat.le_of_ble_eq_true rfl⟩) rfl rfl rfl hl.1 rfl (lv_room (Nat.le_of_ble_eq_true rfl)) dX1_allRoom_43 ⟨Nat.le_of_ble_eq_true rfl, Nat.le_of_ble_eq_true rfl⟩ (fun r_33 hw_34 => ?_)
                rw [hw_34]
                refine lv_bipush (v := (-9)) hx hb dX1_allRoom_46 (by decide +kernel) ?_
                refine lv_icmp_ne (tgt := 57) hx hb dX1_allRoom_48 (by decide) (fun c_35 => ?_) (fun c_35 => ?_)
                · exact hj_7 _ (Or.inr ⟨bl - 1, by omega, rfl, by rw [hbe]; conv => lhs; rw [show bl = (bl - 1) + 1 by omega]; rw [belN, if_neg c_35]⟩) ls (lv_sub hl [0, 1, 2, 3, 4, 5, 6] rfl)
                · refine lv_iinc (v := nI (bl - 1) - 1) (lv' := [(6, .int (nI (bl - 1) - 1)), (5, .int (roomV (gM E k i))), (4, .int (nI i)), (3, .int sm), (0, .ref (b 0)), (1, .int (nI k)), (2, .int most)]) hx hb dX1_allRoom_51 hl (k := 0) rfl (iinc_m1 _) (Nat.le_of_ble_eq_true rfl) rfl (fun ls hl => ?_)
                  refine lv_goto (tgt := 34) hx hb dX1_allRoom_54 (by decide) ?_
                  exact ih_lp_31 (bl - 1) (by omega) (by omega) (by rw [hbe, show bl = (bl - 1) + 1 by omega, belN, if_pos c_35]; rfl) ls (lv_sub hl [0, 1, 2, 3, 4, 5, 6] rfl)
          exact lp_31 (i + 1) i (by omega) (by omega) rfl ls (lv_sub hl [0, 1, 2, 3, 4, 5, 6] rfl)
  exact lp_1 13 0 _ (by omega) (by omega) rfl ls (lv_sub hl [0, 1, 2, 3, 4] rfl)
set_option maxHeartbeats 400000 in
set_option maxRecDepth 100000 in
theorem metX1_room (l : Launch) (G : va_G) (d : Nat → Nat) (sz : Nat) (b : Nat → Nat) (J : Nat → Int32) (E : Nat → Nat → Int32) (v most : Int32) (hrow : ∀ k r, k < 4 → r < 12 → ¬ E 3 k = 0 → rOK (gM E k r)) : Met l yX1_room (ws_ yX1_room cX1_room 4 (some FieldType.int)) ({ frames := 4, cells := 0, slots := 0, locals := 102 } : Room) (va_Pc [.ref (b 0), .int v, .int most] (pW G d sz (MW b J E d))) (va_Qi (fun (r : Int32) (u : MS) => (r, u) = mRoom (J, E) v most) (fun (u : MS) t => bW G d (va_A (MW b J E d) sz) (MW b u.1 u.2 d) t) (va_A (MW b J E d) sz)) 0 0 (va_A (MW b J E d) sz) := by
  refine Met.ofW (cc := cX1_room) (maxL := 4) (ret := (some FieldType.int)) (by decide) rfl ?_
  intro p e s m args below meth c s₁ B hml hv
  obtain ⟨rfl, hsz, hP, hK, hD0⟩ := hv
  have hx := B.exec
  have hb := B.bytes
  have hr := B.returns
  have hts := atoms_spec (ws := (ws_ yX1_room cX1_room 4 (some FieldType.int))) B.pre
  have hts : ∀ w ∈ lw_all, w.before _ s = true := fun w h => hts w (List.mem_cons_of_mem _ h)
  have hown : s.vm.findClass RX1 = some m.cls := findClass_of_methodNamed B.named
  have hlocks := B.notSynchronized
  subst hsz
  have hD := hD0.self (sz := s.heap.size)
  generalize hAe : va_A (MW b J E d) s.heap.size = A at hD ⊢
  have hA : ∀ q : Nat, s.heap.size ≤ q → A q := fun q h => by rw [← hAe]; exact Or.inr h
  have hS : va_S A s.heap s.heap [] := va_S.rf
  have hl := lv_entry ([.ref (b 0), .int v, .int most]) (n := 4) (Nat.le_of_ble_eq_true rfl)
  rw [lg_entry_eq]
  generalize (lg_sl ([.ref (b 0), .int v, .int most]) ++ List.replicate (4 - (lg_sl ([.ref (b 0), .int v, .int most])).length) Slot.unset).toArray = ls at hl ⊢
  have hl : lv_has ls 4 [(0, .ref (b 0)), (1, .int v), (2, .int most)] := hl
  have hP : va_P G CLS (MW b J E d) s.heap := hP
  refine lv_aload_n hx hb dX1_room_0 rfl (lv_at hl 0 rfl) ?_
  refine lv_iload_n hx hb dX1_room_1 rfl (lv_at hl 1 rfl) ?_
  refine y_cVi (As := [.int v]) (rest := []) (ci := 1) (q0 := 0) ⟨hx, hb, hml, hown, hts⟩ hK hP hD hS hA (metX1_looked l G d s.heap.size b J E v) (cwV 1 hts (lw_V q1001 q1003 qs18 q39 q1004) rfl rfl rfl (by decide +kernel) ⟨Nat.le_of_ble_eq_true rfl, Nat.le_of_ble_eq_true rfl⟩) rfl rfl rfl hl.1 rfl (lv_room (Nat.le_of_ble_eq_true rfl)) dX1_room_2 ⟨Nat.le_of_ble_eq_true rfl, Nat.le_of_ble_eq_true rfl⟩ (fun r_1 u_3 H locs hw_2 hP hD hS => ?_)
  rcases hw_2 with ⟨ha_4, hr_5, hu_6⟩ | ⟨k, hk, hv_7, he_8, hr_5, hu_6⟩ | ⟨k, hk, hv_7, he_8, hr_5, hu_6⟩
  · subst hr_5; subst hu_6
    have hP : va_P G CLS (MW b J E d) H := hP
    have hD : va_D A (MW b J E d) := hD
    refine lv_istore_n (lv' := [(3, .int (-1)), (0, .ref (b 0)), (1, .int v), (2, .int most)]) hx hb dX1_room_5 rfl hl (Nat.le_of_ble_eq_true rfl) rfl (fun ls hl => ?_)
    refine lv_iload_n hx hb dX1_room_6 rfl (lv_at hl 0 rfl) ?_
    refine lv_if_ge (tgt := 14) hx hb dX1_room_7 (by decide) (fun c_9 => ?_) (fun c_9 => ?_)
    · exact absurd c_9 (by decide)
    · refine lv_iload_n hx hb dX1_room_10 rfl (lv_at hl 0 rfl) ?_
      refine lv_goto (tgt := 20) hx hb dX1_room_11 (by decide) ?_
      exact W.iret (v := (-1)) hx hb hr (fun t ht hW => ⟨⟨(-1), (J, E), rfl, by unfold mRoom lookX; rw [if_pos ha_4], by rw [ht]; exact hP, va_K.moved hW.alike hK, hD⟩, hS.F ht⟩) hS.2.2 dX1_room_20
  · subst hr_5; subst hu_6; subst hv_7
    have hP : va_P G CLS (MW b ((uFind (J, E) 1).1) ((uFind (J, E) 1).2) d) H := hP
    have hD : va_D A (MW b ((uFind (J, E) 1).1) ((uFind (J, E) 1).2) d) := hD
    refine lv_istore_n (lv' := [(3, .int (-3)), (0, .ref (b 0)), (1, .int (nI k)), (2, .int most)]) hx hb dX1_room_5 rfl hl (Nat.le_of_ble_eq_true rfl) rfl (fun ls hl => ?_)
    refine lv_iload_n hx hb dX1_room_6 rfl (lv_at hl 0 rfl) ?_
    refine lv_if_ge (tgt := 14) hx hb dX1_room_7 (by decide) (fun c_10 => ?_) (fun c_10 => ?_)
    · exact absurd c_10 (by decide)
    · refine lv_iload_n hx hb dX1_room_10 rfl (lv_at hl 0 rfl) ?_
      refine lv_goto (tgt := 20) hx hb dX1_room_11 (by decide) ?_
      exact W.iret (v := (-3)) hx hb hr (fun t ht hW => ⟨⟨(-3), (uFind (J, E) 1), rfl, by unfold mRoom lookX; rw [if_neg (not_not_intro (show inR (nI k) 0 3 from nI_inR (n := 3) (by omega) (by decide))), cl_nI (show k < 2 ^ 31 by omega), if_neg (not_not_intro he_8)], by rw [ht]; exact hP, va_K.moved hW.alike hK, hD⟩, hS.F ht⟩) hS.2.2 dX1_room_20
  · subst hr_5; subst hu_6; subst hv_7
    have hP : va_P G CLS (MW b J E d) H := hP
    have hD : va_D A (MW b J E d) := hD
    refine lv_istore_n (lv' := [(3, .int 0), (0, .ref (b 0)), (1, .int (nI k)), (2, .int most)]) hx hb dX1_room_5 rfl hl (Nat.le_of_ble_eq_true rfl) rfl (fun ls hl => ?_)
    refine lv_iload_n hx hb dX1_room_6 rfl (lv_at hl 0 rfl) ?_
    refine lv_if_ge (tgt := 14) hx hb dX1_room_7 (by decide) (fun c_11 => ?_) (fun c_11 => ?_)
    · refine lv_aload_n hx hb dX1_room_14 rfl (lv_at hl 1 rfl) ?_
      refine lv_iload_n hx hb dX1_room_15 rfl (lv_at hl 2 rfl) ?_
      refine lv_iload_n hx hb dX1_room_16 rfl (lv_at hl 3 rfl) ?_
      refine y_rV (As := [.int (nI k), .int most]) (rest := []) (ci := 1) (q0 := 0) ⟨hx, hb, hml, hown, hts⟩ hK hP (metX1_allRoom l G d b J E k most (by omega) (fun r hr9 => hrow _ _ (by omega) hr9 he_8)) (cwV 2 hts (lw_V q1052 q1054 qs24 q39 q1055) rfl rfl rfl (by decide +kernel) ⟨Nat.le_of_ble_eq_true rfl, Nat.le_of_ble_eq_true rfl⟩) rfl rfl rfl hl.1 rfl (lv_room (Nat.le_of_ble_eq_true rfl)) dX1_room_17 ⟨Nat.le_of_ble_eq_true rfl, Nat.le_of_ble_eq_true rfl⟩ (fun r_12 hw_13 => ?_)
      rw [hw_13]
      exact W.iret (v := allV (fun r => roomV (gM E k r)) most) hx hb hr (fun t ht hW => ⟨⟨allV (fun r => roomV (gM E k r)) most, (J, E), rfl, by unfold mRoom lookX; rw [if_neg (not_not_intro (show inR (nI k) 0 3 from nI_inR (n := 3) (by omega) (by decide))), cl_nI (show k < 2 ^ 31 by omega), if_pos he_8], by rw [ht]; exact hP, va_K.moved hW.alike hK, hD⟩, hS.F ht⟩) hS.2.2 dX1_room_20
    · exact absurd c_11 (by decide)
