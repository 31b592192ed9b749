set_option maxHeartbeats 400000 in
set_option maxRecDepth 100000 in
theorem metX1_tear (l : Launch) (G : va_G) (d : Nat → Nat) (sz : Nat) (b : Nat → Nat) (J : Nat → Int32) (E : Nat → Nat → Int32) (v : Int32) : Met l yX1_tear (ws_ yX1_tear cX1_tear 3 (some FieldType.int)) ({ frames := 3, cells := 0, slots := 0, locals := 63 } : Room) (va_Pc [.ref (b 0), .int v] (pW G d sz (MW b J E d))) (va_Qi (fun (r : Int32) (u : MS) => (r, u) = mTear (J, E) v) (fun (u : MS) t => bW G d (va_A (MW b J E d) sz) (MW b u.1 u.2 d) t) (va_A (MW b J E d) sz)) 0 0 (va_A (MW b J E d) sz) := by
  refine Met.ofW (cc := cX1_tear) (maxL := 3) (ret := (some FieldType.int)) (by decide) rfl ?_
  intro p e s m args below meth c s₁ B hml hv
  obtain ⟨rfl, hsz, hP, hK, hD0⟩ := hv
  have hx := B.exec
  have hb := B.bytes
  have hr := B.returns
  have hts := atoms_spec (ws := (ws_ yX1_tear cX1_tear 3 (some FieldType.int))) B.pre
  have hts : ∀ w ∈ lw_all, w.before _ s = true := fun w h => hts w (List.mem_cons_of_mem _ h)
  have hown : s.vm.findClass RX1 = some m.cls := findClass_of_methodNamed B.named
  have hlocks := B.notSynchronized
  subst hsz
  have hD := hD0.self (sz := s.heap.size)
  generalize hAe : va_A (MW b J E d) s.heap.size = A at hD ⊢
  have hA : ∀ q : Nat, s.heap.size ≤ q → A q := fun q h => by rw [← hAe]; exact Or.inr h
  have hS : va_S A s.heap s.heap [] := va_S.rf
  have hl := lv_entry ([.ref (b 0), .int v]) (n := 3) (Nat.le_of_ble_eq_true rfl)
  rw [lg_entry_eq]
  generalize (lg_sl ([.ref (b 0), .int v]) ++ List.replicate (3 - (lg_sl ([.ref (b 0), .int v])).length) Slot.unset).toArray = ls at hl ⊢
  have hl : lv_has ls 3 [(0, .ref (b 0)), (1, .int v)] := hl
  have hP : va_P G CLS (MW b J E d) s.heap := hP
  refine lv_aload_n hx hb dX1_tear_0 rfl (lv_at hl 0 rfl) ?_
  refine lv_iload_n hx hb dX1_tear_1 rfl (lv_at hl 1 rfl) ?_
  refine y_cVi (As := [.int v]) (rest := []) (ci := 1) (q0 := 0) ⟨hx, hb, hml, hown, hts⟩ hK hP hD hS hA (metX1_looked l G d s.heap.size b J E v) (cwV 1 hts (lw_V q1001 q1003 qs18 q39 q1004) rfl rfl rfl (by decide +kernel) ⟨Nat.le_of_ble_eq_true rfl, Nat.le_of_ble_eq_true rfl⟩) rfl rfl rfl hl.1 rfl (lv_room (Nat.le_of_ble_eq_true rfl)) dX1_tear_2 ⟨Nat.le_of_ble_eq_true rfl, Nat.le_of_ble_eq_true rfl⟩ (fun r_1 u_3 H locs hw_2 hP hD hS => ?_)
  rcases hw_2 with ⟨ha_4, hr_5, hu_6⟩ | ⟨k, hk, hv_7, he_8, hr_5, hu_6⟩ | ⟨k, hk, hv_7, he_8, hr_5, hu_6⟩
  · subst hr_5; subst hu_6
    have hP : va_P G CLS (MW b J E d) H := hP
    have hD : va_D A (MW b J E d) := hD
    refine lv_istore_n (lv' := [(2, .int (-1)), (0, .ref (b 0)), (1, .int v)]) hx hb dX1_tear_5 rfl hl (Nat.le_of_ble_eq_true rfl) rfl (fun ls hl => ?_)
    refine lv_iload_n hx hb dX1_tear_6 rfl (lv_at hl 0 rfl) ?_
    refine lv_if_ge (tgt := 12) hx hb dX1_tear_7 (by decide) (fun c_9 => ?_) (fun c_9 => ?_)
    · exact absurd c_9 (by decide)
    · refine lv_iload_n hx hb dX1_tear_10 rfl (lv_at hl 0 rfl) ?_
      exact W.iret (v := (-1)) hx hb hr (fun t ht hW => ⟨⟨(-1), (J, E), rfl, by unfold mTear lookX; rw [if_pos ha_4], by rw [ht]; exact hP, va_K.moved hW.alike hK, hD⟩, hS.F ht⟩) hS.2.2 dX1_tear_11
  · subst hr_5; subst hu_6; subst hv_7
    have hP : va_P G CLS (MW b ((uFind (J, E) 1).1) ((uFind (J, E) 1).2) d) H := hP
    have hD : va_D A (MW b ((uFind (J, E) 1).1) ((uFind (J, E) 1).2) d) := hD
    refine lv_istore_n (lv' := [(2, .int (-3)), (0, .ref (b 0)), (1, .int (nI k))]) hx hb dX1_tear_5 rfl hl (Nat.le_of_ble_eq_true rfl) rfl (fun ls hl => ?_)
    refine lv_iload_n hx hb dX1_tear_6 rfl (lv_at hl 0 rfl) ?_
    refine lv_if_ge (tgt := 12) hx hb dX1_tear_7 (by decide) (fun c_10 => ?_) (fun c_10 => ?_)
    · exact absurd c_10 (by decide)
    · refine lv_iload_n hx hb dX1_tear_10 rfl (lv_at hl 0 rfl) ?_
      exact W.iret (v := (-3)) hx hb hr (fun t ht hW => ⟨⟨(-3), (uFind (J, E) 1), rfl, by unfold mTear lookX; rw [if_neg (not_not_intro (show inR (nI k) 0 3 from nI_inR (n := 3) (by omega) (by decide))), cl_nI (show k < 2 ^ 31 by omega), if_neg (not_not_intro he_8)], by rw [ht]; exact hP, va_K.moved hW.alike hK, hD⟩, hS.F ht⟩) hS.2.2 dX1_tear_11
  · subst hr_5; subst hu_6; subst hv_7
    have hP : va_P G CLS (MW b J E d) H := hP
    have hD : va_D A (MW b J E d) := hD
    refine lv_istore_n (lv' := [(2, .int 0), (0, .ref (b 0)), (1, .int (nI k))]) hx hb dX1_tear_5 rfl hl (Nat.le_of_ble_eq_true rfl) rfl (fun ls hl => ?_)
    refine lv_iload_n hx hb dX1_tear_6 rfl (lv_at hl 0 rfl) ?_
    refine lv_if_ge (tgt := 12) hx hb dX1_tear_7 (by decide) (fun c_11 => ?_) (fun c_11 => ?_)
    · refine lv_aload_n hx hb dX1_tear_12 rfl (lv_at hl 1 rfl) ?_
      refine va_get (D := G) (ci := 1) (v := .ref (b 3)) (C := RX1) (T := TX1) (N := 33) hx hb hts in_X1 hown hK hP 0 rfl rfl 3 (Nat.le_of_ble_eq_true rfl) (hts _ q889) (fun _ h9 => h9) rfl dX1_tear_13 ?_
      refine lv_iload_n hx hb dX1_tear_16 rfl (lv_at hl 2 rfl) ?_
      refine lv_iconst (v := 0) hx hb dX1_tear_17 (by decide) ?_
      refine y_zast (N := k) (f := E 3) hx hb hK hP hD hS 2 1 rfl rfl rfl (by omega) (by decide) (Or.inl rfl) dX1_tear_18 (fun H locs hP hD hS => ?_)
      have hP : va_P G CLS (MW b J (va_up E 3 (upd (E 3) k 0)) d) H := hP
      have hD : va_D A (MW b J (va_up E 3 (upd (E 3) k 0)) d) := hD
      refine lv_iconst (v := 1) hx hb dX1_tear_19 (by decide) ?_
      exact W.iret (v := 1) hx hb hr (fun t ht hW => ⟨⟨1, (J, va_up E 3 (upd (E 3) k 0)), rfl, by unfold mTear lookX; rw [if_neg (not_not_intro (show inR (nI k) 0 3 from nI_inR (n := 3) (by omega) (by decide))), cl_nI (show k < 2 ^ 31 by omega), if_pos he_8], by rw [ht]; exact hP, va_K.moved hW.alike hK, hD⟩, hS.F ht⟩) hS.2.2 dX1_tear_20
    · exact absurd c_11 (by decide)
set_option maxHeartbeats 400000 in
set_option maxRecDepth 100000 in
theorem metX1_roomOf (l : Launch) (G : va_G) (d : Nat → Nat) (b : Nat → Nat) (J : Nat → Int32) (E : Nat → Nat → Int32) (k r : Nat) (hk : k < 4) (h12 : r < 12) (hg : rOK (gM E k r)) : Met l yX1_roomOf (ws_ yX1_roomOf cX1_roomOf 6 (some FieldType.int)) ({ frames := 2, cells := 0, slots := 0, locals := 48 } : Room) (va_Pc [.ref (b 0), .int (nI k), .int (nI r)] (pR G d (MW b J E d))) (vp_Si (fun x => x = roomV (gM E k r))) 0 0 (fun _ => False) := by
  refine Met.ofW (cc := cX1_roomOf) (maxL := 6) (ret := (some FieldType.int)) (by decide) rfl ?_
  intro p e s m args below meth c s₁ B hml hv
  obtain ⟨rfl, hP, hK⟩ := hv
  have hx := B.exec
  have hb := B.bytes
  have hr := B.returns
  have hts := atoms_spec (ws := (ws_ yX1_roomOf cX1_roomOf 6 (some FieldType.int))) B.pre
  have hts : ∀ w ∈ lw_all, w.before _ s = true := fun w h => hts w (List.mem_cons_of_mem _ h)
  have hown : s.vm.findClass RX1 = some m.cls := findClass_of_methodNamed B.named
  have hlocks := B.notSynchronized
  have hl := lv_entry ([.ref (b 0), .int (nI k), .int (nI r)]) (n := 6) (Nat.le_of_ble_eq_true rfl)
  rw [lg_entry_eq]
  generalize (lg_sl ([.ref (b 0), .int (nI k), .int (nI r)]) ++ List.replicate (6 - (lg_sl ([.ref (b 0), .int (nI k), .int (nI r)])).length) Slot.unset).toArray = ls at hl ⊢
  have hl : lv_has ls 6 [(0, .ref (b 0)), (1, .int (nI k)), (2, .int (nI r))] := hl
  refine lv_iconst (v := 0) hx hb dX1_roomOf_0 (by decide) ?_
  refine lv_istore_n (lv' := [(3, .int 0), (0, .ref (b 0)), (1, .int (nI k)), (2, .int (nI r))]) hx hb dX1_roomOf_1 rfl hl (Nat.le_of_ble_eq_true rfl) rfl (fun ls hl => ?_)
  refine lv_iconst (v := 0) hx hb dX1_roomOf_2 (by decide) ?_
  refine lv_istore (lv' := [(4, .int 0), (3, .int 0), (0, .ref (b 0)), (1, .int (nI k)), (2, .int (nI r))]) hx hb dX1_roomOf_3 hl (Nat.le_of_ble_eq_true rfl) rfl (fun ls hl => ?_)
  have lp_1 : ∀ (fu : Nat) (i : Nat) (sm : Int32) (hi : i ≤ 8) (hm : 8 < i + fu) (hs : sm = sumR (fun p => fillV (gM E k r) p * fillV (gM E k r) ((p + 1) % 8)) i) (h0 : 0 < i → ¬ fillV (gM E k r) 0 = -9) (ls : Array Slot) (hl : lv_has ls 6 [(4, .int (nI i)), (3, .int sm), (0, .ref (b 0)), (1, .int (nI k)), (2, .int (nI r))]), W p l e (headSpec (ws_ yX1_roomOf cX1_roomOf 6 (some FieldType.int)) ({ frames := 2, cells := 0, slots := 0, locals := 48 } : Room)).room s m ([.ref (b 0), .int (nI k), .int (nI r)] : List Value).toArray below meth c s.heap [] 0 0 (MQ below (vp_Si (fun x => x = roomV (gM E k r))) ([.ref (b 0), .int (nI k), .int (nI r)] : List Value).toArray s 0 0 (fun _ => False)) (F0 m 5 ls []) := by
    intro fu
    induction fu with
    | zero =>
      intro i sm hi hm hs h0 ls hl
      exfalso; omega
    | succ fu ih_lp_1 =>
      intro i sm hi hm hs h0 ls hl
      refine lv_iload hx hb dX1_roomOf_5 (lv_at hl 0 rfl) ?_
      refine lv_bipush (v := 8) hx hb dX1_roomOf_7 (by decide +kernel) ?_
      refine lv_icmp_ge (tgt := 57) hx hb dX1_roomOf_9 (by decide) (fun c_2 => ?_) (fun c_2 => ?_)
      · have c_2 : 8 ≤ i := (nI_leI (a := 8) (b := i) (by omega) (by omega)).mp c_2
        refine lv_iload_n hx hb dX1_roomOf_57 rfl (lv_at hl 1 rfl) ?_
        exact W.iret (v := sm) hx hb hr (fun t ht hW => ⟨sm, rfl, by rw [roomV, if_neg (h0 (by omega)), hs, show i = 8 by omega], ht⟩) (fun q h => by cases h) dX1_roomOf_58
      · have c_2 : ¬ 8 ≤ i := fun h => c_2 ((nI_leI (a := 8) (b := i) (by omega) (by omega)).mpr h)
        refine lv_aload_n hx hb dX1_roomOf_12 rfl (lv_at hl 2 rfl) ?_
        refine lv_iload_n hx hb dX1_roomOf_13 rfl (lv_at hl 3 rfl) ?_
        refine lv_iload_n hx hb dX1_roomOf_14 rfl (lv_at hl 4 rfl) ?_
        refine lv_iload hx hb dX1_roomOf_15 (lv_at hl 0 rfl) ?_
        refine y_rV (As := [.int (nI k), .int (nI r), .int (nI i)]) (rest := []) (ci := 1) (q0 := 0) ⟨hx, hb, hml, hown, hts⟩ hK hP (metX1_filledAt l G d b J E k r i (by omega) (by omega) (by omega)) (cwV 3 hts (lw_V q1023 q1025 qs21 q39 q1026) rfl rfl rfl (by decide +kernel) ⟨Nat.le_of_ble_eq_true rfl, Nat.le_of_ble_eq_true rfl⟩) rfl rfl rfl hl.1 rfl (lv_room (Nat.le_of_ble_eq_true rfl)) dX1_roomOf_17 ⟨Nat.le_of_ble_eq_true rfl, Nat.le_of_ble_eq_true rfl⟩ (fun r_3 hw_4 => ?_)
        rw [hw_4]
        refine lv_istore (lv' := [(5, .int (fillV (gM E k r) i)), (4, .int (nI i)), (3, .int sm), (0, .ref (b 0)), (1, .int (nI k)), (2, .int (nI r))]) hx hb dX1_roomOf_20 hl (Nat.le_of_ble_eq_true rfl) rfl (fun ls hl => ?_)
        refine lv_iload hx hb dX1_roomOf_22 (lv_at hl 0 rfl) ?_
        refine lv_bipush (v := (-9)) hx hb dX1_roomOf_24 (by decide +kernel) ?_
        refine lv_icmp_ne (tgt := 32) hx hb dX1_roomOf_26 (by decide) (fun c_5 => ?_) (fun c_5 => ?_)
        · refine lv_iload_n hx hb dX1_roomOf_32 rfl (lv_at hl 2 rfl) ?_
          refine lv_iload hx hb dX1_roomOf_33 (lv_at hl 0 rfl) ?_
          refine lv_aload_n hx hb dX1_roomOf_35 rfl (lv_at hl 3 rfl) ?_
          refine lv_iload_n hx hb dX1_roomOf_36 rfl (lv_at hl 4 rfl) ?_
          refine lv_iload_n hx hb dX1_roomOf_37 rfl (lv_at hl 5 rfl) ?_
          refine lv_iload hx hb dX1_roomOf_38 (lv_at hl 1 rfl) ?_
          refine lv_iconst (v := 1) hx hb dX1_roomOf_40 (by decide) ?_
          refine lv_iadd hx hb dX1_roomOf_41 ?_
          refine y_top (y := nI (i + 1)) (nI_add i 1) ?_
          refine lv_bipush (v := 7) hx hb dX1_roomOf_42 (by decide +kernel) ?_
          refine lv_iand hx hb dX1_roomOf_44 ?_
          refine y_top (y := nI ((i + 1) % 8)) (pk_andN (by omega) 3 (by decide)) ?_
          refine y_rV (As := [.int (nI k), .int (nI r), .int (nI ((i + 1) % 8))]) (rest := [.int (fillV (gM E k r) i), .int sm]) (ci := 1) (q0 := 0) ⟨hx, hb, hml, hown, hts⟩ hK hP (metX1_filledAt l G d b J E k r ((i + 1) % 8) (by omega) (by omega) (by omega)) (cwV 3 hts (lw_V q1023 q1025 qs21 q39 q1026) rfl rfl rfl (by decide +kernel) ⟨Nat.le_of_ble_eq_true rfl, Nat.le_of_ble_eq_true rfl⟩) rfl rfl rfl hl.1 rfl (lv_room (Nat.le_of_ble_eq_true rfl)) dX1_roomOf_45 ⟨Nat.le_of_ble_eq_true rfl, Nat.le_of_ble_eq_true rfl⟩ (fun r_6 hw_7 => ?_)
          rw [hw_7]
          refine lv_imul hx hb dX1_roomOf_48 ?_
          refine lv_iadd hx hb dX1_roomOf_49 ?_
          refine lv_istore_n (lv' := [(3, .int (sm + ((fillV (gM E k r) i) * (fillV (gM E k r) ((i + 1) % 8))))), (5, .int (fillV (gM E k r) i)), (4, .int (nI i)), (0, .ref (b 0)), (1, .int (nI k)), (2, .int (nI r))]) hx hb dX1_roomOf_50 rfl hl (Nat.le_of_ble_eq_true rfl) rfl (fun ls hl => ?_)
          refine lv_iinc (v := nI (i + 1)) (lv' := [(4, .int (nI (i + 1))), (3, .int (sm + ((fillV (gM E k r) i) * (fillV (gM E k r) ((i + 1) % 8))))), (5, .int (fillV (gM E k r) i)), (0, .ref (b 0)), (1, .int (nI k)), (2, .int (nI r))]) hx hb dX1_roomOf_51 hl (k := 2) rfl (nI_add i 1) (Nat.le_of_ble_eq_true rfl) rfl (fun ls hl => ?_)
          refine lv_goto (tgt := 5) hx hb dX1_roomOf_54 (by decide) ?_
          exact ih_lp_1 (i + 1) _ (by omega) (by omega) (by rw [hs]; rfl) (fun _ => by
            rcases Nat.eq_zero_or_pos i with z | z
            · subst z; exact c_5
            · exact h0 z) ls (lv_sub hl [0, 1, 3, 4, 5] rfl)
        · refine lv_bipush (v := (-9)) hx hb dX1_roomOf_29 (by decide +kernel) ?_
          exact W.iret (v := (-9)) hx hb hr (fun t ht hW => ⟨(-9), rfl, (roomV_n hg (by omega) c_5).symm, ht⟩) (fun q h => by cases h) dX1_roomOf_31
  exact lp_1 9 0 _ (by omega) (by omega) rfl (fun h => absurd h (Nat.lt_irrefl 0)) ls (lv_sub hl [0, 1, 2, 3, 4] rfl)
set_option maxHeartbeats 400000 in
set_option maxRecDepth 100000 in
theorem metX1_ring (l : Launch) (G : va_G) (d : Nat → Nat) (sz : Nat) (b : Nat → Nat) (J : Nat → Int32) (E : Nat → Nat → Int32) (v ring : Int32) (hrow : ∀ k r, k < 4 → r < 12 → ¬ E 3 k = 0 → rOK (gM E k r)) : Met l yX1_ring (ws_ yX1_ring cX1_ring 4 (some FieldType.int)) ({ frames := 3, cells := 0, slots := 0, locals := 73 } : Room) (va_Pc [.ref (b 0), .int v, .int ring] (pW G d sz (MW b J E d))) (va_Qi (fun (r : Int32) (u : MS) => (r, u) = mRing (J, E) v ring) (fun (u : MS) t => bW G d (va_A (MW b J E d) sz) (MW b u.1 u.2 d) t) (va_A (MW b J E d) sz)) 0 0 (va_A (MW b J E d) sz) := by
  refine Met.ofW (cc := cX1_ring) (maxL := 4) (ret := (some FieldType.int)) (by decide) rfl ?_
  intro p e s m args below meth c s₁ B hml hv
  obtain ⟨rfl, hsz, hP, hK, hD0⟩ := hv
  have hx := B.exec
  have hb := B.bytes
  have hr := B.returns
  have hts := atoms_spec (ws := (ws_ yX1_ring cX1_ring 4 (some FieldType.int))) B.pre
  have hts : ∀ w ∈ lw_all, w.before _ s = true := fun w h => hts w (List.mem_cons_of_mem _ h)
  have hown : s.vm.findClass RX1 = some m.cls := findClass_of_methodNamed B.named
  have hlocks := B.notSynchronized
  subst hsz
  have hD := hD0.self (sz := s.heap.size)
  generalize hAe : va_A (MW b J E d) s.heap.size = A at hD ⊢
  have hA : ∀ q : Nat, s.heap.size ≤ q → A q := fun q h => by rw [← hAe]; exact Or.inr h
  have hS : va_S A s.heap s.heap [] := va_S.rf
  have hl := lv_entry ([.ref (b 0), .int v, .int ring]) (n := 4) (Nat.le_of_ble_eq_true rfl)
  rw [lg_entry_eq]
  generalize (lg_sl ([.ref (b 0), .int v, .int ring]) ++ List.replicate (4 - (lg_sl ([.ref (b 0), .int v, .int ring])).length) Slot.unset).toArray = ls at hl ⊢
  have hl : lv_has ls 4 [(0, .ref (b 0)), (1, .int v), (2, .int ring)] := hl
  have hP : va_P G CLS (MW b J E d) s.heap := hP
  refine lv_aload_n hx hb dX1_ring_0 rfl (lv_at hl 0 rfl) ?_
  refine lv_iload_n hx hb dX1_ring_1 rfl (lv_at hl 1 rfl) ?_
  refine y_cVi (As := [.int v]) (rest := []) (ci := 1) (q0 := 0) ⟨hx, hb, hml, hown, hts⟩ hK hP hD hS hA (metX1_looked l G d s.heap.size b J E v) (cwV 1 hts (lw_V q1001 q1003 qs18 q39 q1004) rfl rfl rfl (by decide +kernel) ⟨Nat.le_of_ble_eq_true rfl, Nat.le_of_ble_eq_true rfl⟩) rfl rfl rfl hl.1 rfl (lv_room (Nat.le_of_ble_eq_true rfl)) dX1_ring_2 ⟨Nat.le_of_ble_eq_true rfl, Nat.le_of_ble_eq_true rfl⟩ (fun r_1 u_3 H locs hw_2 hP hD hS => ?_)
  rcases hw_2 with ⟨ha_4, hr_5, hu_6⟩ | ⟨k, hk, hv_7, he_8, hr_5, hu_6⟩ | ⟨k, hk, hv_7, he_8, hr_5, hu_6⟩
  · subst hr_5; subst hu_6
    have hP : va_P G CLS (MW b J E d) H := hP
    have hD : va_D A (MW b J E d) := hD
    refine lv_istore_n (lv' := [(3, .int (-1)), (0, .ref (b 0)), (1, .int v), (2, .int ring)]) hx hb dX1_ring_5 rfl hl (Nat.le_of_ble_eq_true rfl) rfl (fun ls hl => ?_)
    refine lv_iload_n hx hb dX1_ring_6 rfl (lv_at hl 0 rfl) ?_
    refine lv_if_ge (tgt := 14) hx hb dX1_ring_7 (by decide) (fun c_9 => ?_) (fun c_9 => ?_)
    · exact absurd c_9 (by decide)
    · refine lv_iload_n hx hb dX1_ring_10 rfl (lv_at hl 0 rfl) ?_
      refine lv_goto (tgt := 35) hx hb dX1_ring_11 (by decide) ?_
      exact W.iret (v := (-1)) hx hb hr (fun t ht hW => ⟨⟨(-1), (J, E), rfl, by unfold mRing lookX; rw [if_pos ha_4], by rw [ht]; exact hP, va_K.moved hW.alike hK, hD⟩, hS.F ht⟩) hS.2.2 dX1_ring_35
  · subst hr_5; subst hu_6; subst hv_7
    have hP : va_P G CLS (MW b ((uFind (J, E) 1).1) ((uFind (J, E) 1).2) d) H := hP
    have hD : va_D A (MW b ((uFind (J, E) 1).1) ((uFind (J, E) 1).2) d) := hD
    refine lv_istore_n (lv' := [(3, .int (-3)), (0, .ref (b 0)), (1, .int (nI k)), (2, .int ring)]) hx hb dX1_ring_5 rfl hl (Nat.le_of_ble_eq_true rfl) rfl (fun ls hl => ?_)
    refine lv_iload_n hx hb dX1_ring_6 rfl (lv_at hl 0 rfl) ?_
    refine lv_if_ge (tgt := 14) hx hb dX1_ring_7 (by decide) (fun c_10 => ?_) (fun c_10 => ?_)
    · exact absurd c_10 (by decide)
    · refine lv_iload_n hx hb dX1_ring_10 rfl (lv_at hl 0 rfl) ?_
      refine lv_goto (tgt := 35) hx hb dX1_ring_11 (by decide) ?_
      exact W.iret (v := (-3)) hx hb hr (fun t ht hW => ⟨⟨(-3), (uFind (J, E) 1), rfl, by unfold mRing lookX; rw [if_neg (not_not_intro (show inR (nI k) 0 3 from nI_inR (n := 3) (by omega) (by decide))), cl_nI (show k < 2 ^ 31 by omega), if_neg (not_not_intro he_8)], by rw [ht]; exact hP, va_K.moved hW.alike hK, hD⟩, hS.F ht⟩) hS.2.2 dX1_ring_35
  · subst hr_5; subst hu_6; subst hv_7
    have hP : va_P G CLS (MW b J E d) H := hP
    have hD : va_D A (MW b J E d) := hD
    refine lv_istore_n (lv' := [(3, .int 0), (0, .ref (b 0)), (1, .int (nI k)), (2, .int ring)]) hx hb dX1_ring_5 rfl hl (Nat.le_of_ble_eq_true rfl) rfl (fun ls hl => ?_)
    refine lv_iload_n hx hb dX1_ring_6 rfl (lv_at hl 0 rfl) ?_
    refine lv_if_ge (tgt := 14) hx hb dX1_ring_7 (by decide) (fun c_11 => ?_) (fun c_11 => ?_)
    · refine lv_iload_n hx hb dX1_ring_14 rfl (lv_at hl 3 rfl) ?_
      refine y_rS (As := [.int ring]) (rest := []) ⟨hx, hb, hml, hown, hts⟩ hK (ws := []) (fun _ _ h => by cases h) (metX1_isRing l G d ring) (va_cwS 1 hts (lw_S q1012 q1013 q39 q1014) rfl rfl rfl (by decide +kernel) ⟨Nat.le_of_ble_eq_true rfl, Nat.le_of_ble_eq_true rfl⟩) rfl hl.1 rfl (lv_room (Nat.le_of_ble_eq_true rfl)) dX1_ring_15 ⟨Nat.le_of_ble_eq_true rfl, Nat.le_of_ble_eq_true rfl⟩ (fun r_12 hr_13 => ?_)
      refine lv_if_eq (tgt := 30) hx hb dX1_ring_18 (by decide) (fun c_14 => ?_) (fun c_14 => ?_)
      · have c_14 := bI_eq hr_13 c_14
        refine lv_aload_n hx hb dX1_ring_30 rfl (lv_at hl 1 rfl) ?_
        refine lv_iconst (v := 2) hx hb dX1_ring_31 (by decide) ?_
        refine y_cVi (As := [.int 2]) (rest := []) (ci := 1) (q0 := 0) ⟨hx, hb, hml, hown, hts⟩ hK hP hD hS hA (metX1_meets l G d H.size b J E 2 (by omega)) (cwV 1 hts (lw_V q1005 q1007 qs19 q39 q1008) rfl rfl rfl (by decide +kernel) ⟨Nat.le_of_ble_eq_true rfl, Nat.le_of_ble_eq_true rfl⟩) rfl rfl rfl hl.1 rfl (lv_room (Nat.le_of_ble_eq_true rfl)) dX1_ring_32 ⟨Nat.le_of_ble_eq_true rfl, Nat.le_of_ble_eq_true rfl⟩ (fun r_15 u_17 H locs hw_16 hP hD hS => ?_)
        obtain ⟨rfl, rfl⟩ := hw_16
        exact W.iret (v := (-3)) hx hb hr (fun t ht hW => ⟨⟨(-3), (uFind (J, E) 2), rfl, by unfold mRing lookX; rw [if_neg (not_not_intro (show inR (nI k) 0 3 from nI_inR (n := 3) (by omega) (by decide))), cl_nI (show k < 2 ^ 31 by omega), if_pos he_8, if_neg c_14], by rw [ht]; exact hP, va_K.moved hW.alike hK, hD⟩, hS.F ht⟩) hS.2.2 dX1_ring_35
      · have c_14 := bI_ne hr_13 c_14
        obtain ⟨rr, hrr, rfl⟩ := inR_n (n := 11) (by decide) c_14
        refine lv_aload_n hx hb dX1_ring_21 rfl (lv_at hl 1 rfl) ?_
        refine lv_iload_n hx hb dX1_ring_22 rfl (lv_at hl 2 rfl) ?_
        refine lv_iload_n hx hb dX1_ring_23 rfl (lv_at hl 3 rfl) ?_
        refine y_rV (As := [.int (nI k), .int (nI rr)]) (rest := []) (ci := 1) (q0 := 0) ⟨hx, hb, hml, hown, hts⟩ hK hP (metX1_roomOf l G d b J E k rr (by omega) (by omega) (hrow _ _ (by omega) (by omega) he_8)) (cwV 2 hts (lw_V q1044 q1046 qs23 q39 q1047) rfl rfl rfl (by decide +kernel) ⟨Nat.le_of_ble_eq_true rfl, Nat.le_of_ble_eq_true rfl⟩) rfl rfl rfl hl.1 rfl (lv_room (Nat.le_of_ble_eq_true rfl)) dX1_ring_24 ⟨Nat.le_of_ble_eq_true rfl, Nat.le_of_ble_eq_true rfl⟩ (fun r_18 hw_19 => ?_)
        rw [hw_19]
        refine lv_goto (tgt := 35) hx hb dX1_ring_27 (by decide) ?_
        exact W.iret (v := roomV (gM E k rr)) hx hb hr (fun t ht hW => ⟨⟨roomV (gM E k rr), (J, E), rfl, by unfold mRing lookX; rw [if_neg (not_not_intro (show inR (nI k) 0 3 from nI_inR (n := 3) (by omega) (by decide))), cl_nI (show k < 2 ^ 31 by omega), if_pos he_8, if_pos (show inR (nI rr) 0 11 from nI_inR (n := 11) (by omega) (by decide)), cl_nI (show rr < 2 ^ 31 by omega)], by rw [ht]; exact hP, va_K.moved hW.alike hK, hD⟩, hS.F ht⟩) hS.2.2 dX1_ring_35
    · exact absurd c_11 (by decide)
