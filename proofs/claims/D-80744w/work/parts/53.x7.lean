/-- a leg ends: the best so far is told anew -/
def endsX (u : MS) (k : Nat) (hv pv : Int32) : MS :=
  if ¬ hv < u.1 15 ∧ (u.1 21 = 0 ∨ pv < u.1 22 ∨ (pv = u.1 22 ∧ nI k < u.1 21)) then (upd (upd (upd u.1 21 (nI k)) 22 pv) 23 hv, va_up u.2 20 (va_cpy (u.2 13) (u.2 20) 0 0 k)) else u
set_option maxHeartbeats 400000 in
set_option maxRecDepth 100000 in
theorem metX0_ends (l : Launch) (G : va_G) (d : Nat → Nat) (sz : Nat) (a : Nat → Nat) (I : Nat → Int32) (F : Nat → Nat → Int32) (S : Nat → Nat → Option Nat) (lm : Int32 × Nat × Int32) (LP : List Nat) (fp : Nat → va_E) (k : Nat) (hv pv : Int32) (hk16 : k ≤ 16) : Met l yX0_ends (ws_ yX0_ends cX0_ends 5 none) ({ frames := 1, cells := 0, slots := 0, locals := 40 } : Room) (va_Pc [.ref (a 0), .int (nI k), .int hv, .int pv] (pW G d sz (XW a I F S lm LP fp d))) (va_Qv (fun (u : MS) => u = endsX (I, F) k hv pv) (fun (u : MS) t => bW G d (va_A (XW a I F S lm LP fp d) sz) (XW a u.1 u.2 S lm LP fp d) t) (va_A (XW a I F S lm LP fp d) sz)) 0 0 (va_A (XW a I F S lm LP fp d) sz) := by
  refine Met.ofW (cc := cX0_ends) (maxL := 5) (ret := none) (by decide) rfl ?_
  intro p e s m args below meth c s₁ B hml hv
  obtain ⟨rfl, hsz, hP, hK, hD0⟩ := hv
  have hx := B.exec
  have hb := B.bytes
  have hr := B.returns
  have hts := atoms_spec (ws := (ws_ yX0_ends cX0_ends 5 none)) B.pre
  have hts : ∀ w ∈ lw_all, w.before _ s = true := fun w h => hts w (List.mem_cons_of_mem _ h)
  have hown : s.vm.findClass RX0 = some m.cls := findClass_of_methodNamed B.named
  have hlocks := B.notSynchronized
  subst hsz
  have hD := hD0.self (sz := s.heap.size)
  generalize hAe : va_A (XW a I F S lm LP fp d) s.heap.size = A at hD ⊢
  have hA : ∀ q : Nat, s.heap.size ≤ q → A q := fun q h => by rw [← hAe]; exact Or.inr h
  have hS : va_S A s.heap s.heap [] := va_S.rf
  have hl := lv_entry ([.ref (a 0), .int (nI k), .int hv, .int pv]) (n := 5) (Nat.le_of_ble_eq_true rfl)
  rw [lg_entry_eq]
  generalize (lg_sl ([.ref (a 0), .int (nI k), .int hv, .int pv]) ++ List.replicate (5 - (lg_sl ([.ref (a 0), .int (nI k), .int hv, .int pv])).length) Slot.unset).toArray = ls at hl ⊢
  have hl : lv_has ls 5 [(0, .ref (a 0)), (1, .int (nI k)), (2, .int hv), (3, .int pv)] := hl
  have hP : va_P G CLS (XW a I F S lm LP fp d) s.heap := hP
  have hj_1 : ∀ (x : Int32) (hxx : x = bI (¬ hv < I 15 ∧ (I 21 = 0 ∨ pv < I 22 ∨ (pv = I 22 ∧ nI k < I 21)))), W p l e (headSpec (ws_ yX0_ends cX0_ends 5 none) ({ frames := 1, cells := 0, slots := 0, locals := 40 } : Room)).room s m ([.ref (a 0), .int (nI k), .int hv, .int pv] : List Value).toArray below meth c s.heap [] 0 0 (MQ below (va_Qv (fun (u : MS) => u = endsX (I, F) k hv pv) (fun (u : MS) t => bW G d A (XW a u.1 u.2 S lm LP fp d) t) A) ([.ref (a 0), .int (nI k), .int hv, .int pv] : List Value).toArray s 0 0 A) (F0 m 44 ls [.int x]) := by
    intro x hxx
    refine lv_istore (lv' := [(4, .int x), (0, .ref (a 0)), (1, .int (nI k)), (2, .int hv), (3, .int pv)]) hx hb dX0_ends_44 hl (Nat.le_of_ble_eq_true rfl) rfl (fun ls hl => ?_)
    refine lv_iload hx hb dX0_ends_46 (lv_at hl 0 rfl) ?_
    refine lv_if_eq (tgt := 80) hx hb dX0_ends_48 (by decide) (fun c_2 => ?_) (fun c_2 => ?_)
    · have c_2 := bI_eq hxx c_2
      exact W.vret hx hb hr (fun t ht hW => ⟨⟨(I, F), rfl, (if_neg c_2).symm, by rw [ht]; exact hP, va_K.moved hW.alike hK, hD⟩, hS.F ht⟩) hS.2.2 dX0_ends_80
    · have c_2 := bI_ne hxx c_2
      refine lv_aload_n hx hb dX0_ends_51 rfl (lv_at hl 1 rfl) ?_
      refine lv_iload_n hx hb dX0_ends_52 rfl (lv_at hl 2 rfl) ?_
      refine va_put (D := G) (ci := 0) (v := .int (nI k)) (ty := .int) (C := RX0) (T := TX0) (N := 29) hx hb hts in_X0 tyX0 tyX0_ok nmX0 hown hK hP hD hS 0 rfl rfl 21 (Nat.le_of_ble_eq_true rfl) (hts _ q130) (fun _ h9 => h9) rfl (by decide +kernel) rfl rfl (Nat.le_of_ble_eq_true rfl) dX0_ends_53 (fun H locs hP hD hS => ?_)
      have hP : va_P G CLS (XW a (upd I 21 (nI k)) F S lm LP fp d) H := hP
      have hD : va_D A (XW a (upd I 21 (nI k)) F S lm LP fp d) := hD
      refine lv_aload_n hx hb dX0_ends_56 rfl (lv_at hl 1 rfl) ?_
      refine lv_iload_n hx hb dX0_ends_57 rfl (lv_at hl 4 rfl) ?_
      refine va_put (D := G) (ci := 0) (v := .int pv) (ty := .int) (C := RX0) (T := TX0) (N := 29) hx hb hts in_X0 tyX0 tyX0_ok nmX0 hown hK hP hD hS 0 rfl rfl 22 (Nat.le_of_ble_eq_true rfl) (hts _ q131) (fun _ h9 => h9) rfl (by decide +kernel) rfl rfl (Nat.le_of_ble_eq_true rfl) dX0_ends_58 (fun H locs hP hD hS => ?_)
      have hP : va_P G CLS (XW a (upd (upd I 21 (nI k)) 22 pv) F S lm LP fp d) H := hP
      have hD : va_D A (XW a (upd (upd I 21 (nI k)) 22 pv) F S lm LP fp d) := hD
      refine lv_aload_n hx hb dX0_ends_61 rfl (lv_at hl 1 rfl) ?_
      refine lv_iload_n hx hb dX0_ends_62 rfl (lv_at hl 3 rfl) ?_
      refine va_put (D := G) (ci := 0) (v := .int hv) (ty := .int) (C := RX0) (T := TX0) (N := 29) hx hb hts in_X0 tyX0 tyX0_ok nmX0 hown hK hP hD hS 0 rfl rfl 23 (Nat.le_of_ble_eq_true rfl) (hts _ q132) (fun _ h9 => h9) rfl (by decide +kernel) rfl rfl (Nat.le_of_ble_eq_true rfl) dX0_ends_63 (fun H locs hP hD hS => ?_)
      have hP : va_P G CLS (XW a (upd (upd (upd I 21 (nI k)) 22 pv) 23 hv) F S lm LP fp d) H := hP
      have hD : va_D A (XW a (upd (upd (upd I 21 (nI k)) 22 pv) 23 hv) F S lm LP fp d) := hD
      refine lv_aload_n hx hb dX0_ends_66 rfl (lv_at hl 1 rfl) ?_
      refine va_get (D := G) (ci := 0) (v := .ref (a 13)) (C := RX0) (T := TX0) (N := 29) hx hb hts in_X0 hown hK hP 0 rfl rfl 13 (Nat.le_of_ble_eq_true rfl) (hts _ q122) (fun _ h9 => h9) rfl dX0_ends_67 ?_
      refine lv_iconst (v := 0) hx hb dX0_ends_70 (by decide) ?_
      refine lv_aload_n hx hb dX0_ends_71 rfl (lv_at hl 1 rfl) ?_
      refine va_get (D := G) (ci := 0) (v := .ref (a 20)) (C := RX0) (T := TX0) (N := 29) hx hb hts in_X0 hown hK hP 0 rfl rfl 20 (Nat.le_of_ble_eq_true rfl) (hts _ q129) (fun _ h9 => h9) rfl dX0_ends_72 ?_
      refine lv_iconst (v := 0) hx hb dX0_ends_75 (by decide) ?_
      refine lv_iload_n hx hb dX0_ends_76 rfl (lv_at hl 2 rfl) ?_
      refine va_copyi (ls := ls) (f := F 13) (g := F 20) hx hb (by rw [hml, hl.1]) hown (hts _ q365) (hts _ q367) (hts _ q366) (hts _ q48) hK hP hD hS 9 10 0 0 rfl rfl rfl rfl rfl (by decide) (by decide) (nI_pos (by omega)) (by rw [nI_clamp (by omega)]; show 0 + k ≤ 16; omega) (by rw [nI_clamp (by omega)]; show 0 + k ≤ 16; omega) (fun i _ => rfl) (Nat.le_of_ble_eq_true rfl) (Nat.le_of_ble_eq_true rfl) dX0_ends_77 (fun H locs hP hD hS => ?_)
      rw [nI_clamp (show k < 2 ^ 31 by omega)] at hP hD
      have hP : va_P G CLS (XW a (upd (upd (upd I 21 (nI k)) 22 pv) 23 hv) (va_up F 20 (va_cpy (F 13) (F 20) 0 0 k)) S lm LP fp d) H := hP
      have hD : va_D A (XW a (upd (upd (upd I 21 (nI k)) 22 pv) 23 hv) (va_up F 20 (va_cpy (F 13) (F 20) 0 0 k)) S lm LP fp d) := hD
      exact W.vret hx hb hr (fun t ht hW => ⟨⟨(upd (upd (upd I 21 (nI k)) 22 pv) 23 hv, va_up F 20 (va_cpy (F 13) (F 20) 0 0 k)), rfl, (if_pos c_2).symm, by rw [ht]; exact hP, va_K.moved hW.alike hK, hD⟩, hS.F ht⟩) hS.2.2 dX0_ends_80
  refine lv_iload_n hx hb dX0_ends_0 rfl (lv_at hl 2 rfl) ?_
  refine lv_aload_n hx hb dX0_ends_1 rfl (lv_at hl 0 rfl) ?_
  refine va_get (D := G) (ci := 0) (v := .int (I 15)) (C := RX0) (T := TX0) (N := 29) hx hb hts in_X0 hown hK hP 0 rfl rfl 15 (Nat.le_of_ble_eq_true rfl) (hts _ q124) (fun _ h9 => h9) rfl dX0_ends_2 ?_
  refine lv_icmp_lt (tgt := 43) hx hb dX0_ends_5 (by decide) (fun c_3 => ?_) (fun c_3 => ?_)
  · refine lv_iconst (v := 0) hx hb dX0_ends_43 (by decide) ?_
    exact hj_1 0 (bI_f (fun h => h.1 c_3)).symm
  · refine lv_aload_n hx hb dX0_ends_8 rfl (lv_at hl 0 rfl) ?_
    refine va_get (D := G) (ci := 0) (v := .int (I 21)) (C := RX0) (T := TX0) (N := 29) hx hb hts in_X0 hown hK hP 0 rfl rfl 21 (Nat.le_of_ble_eq_true rfl) (hts _ q130) (fun _ h9 => h9) rfl dX0_ends_9 ?_
    refine lv_if_eq (tgt := 39) hx hb dX0_ends_12 (by decide) (fun c_4 => ?_) (fun c_4 => ?_)
    · refine lv_iconst (v := 1) hx hb dX0_ends_39 (by decide) ?_
      refine lv_goto (tgt := 44) hx hb dX0_ends_40 (by decide) ?_
      exact hj_1 1 (bI_t ⟨c_3, Or.inl c_4⟩).symm
    · refine lv_iload_n hx hb dX0_ends_15 rfl (lv_at hl 3 rfl) ?_
      refine lv_aload_n hx hb dX0_ends_16 rfl (lv_at hl 0 rfl) ?_
      refine va_get (D := G) (ci := 0) (v := .int (I 22)) (C := RX0) (T := TX0) (N := 29) hx hb hts in_X0 hown hK hP 0 rfl rfl 22 (Nat.le_of_ble_eq_true rfl) (hts _ q131) (fun _ h9 => h9) rfl dX0_ends_17 ?_
      refine lv_icmp_lt (tgt := 39) hx hb dX0_ends_20 (by decide) (fun c_5 => ?_) (fun c_5 => ?_)
      · refine lv_iconst (v := 1) hx hb dX0_ends_39 (by decide) ?_
        refine lv_goto (tgt := 44) hx hb dX0_ends_40 (by decide) ?_
        exact hj_1 1 (bI_t ⟨c_3, Or.inr (Or.inl c_5)⟩).symm
      · refine lv_iload_n hx hb dX0_ends_23 rfl (lv_at hl 3 rfl) ?_
        refine lv_aload_n hx hb dX0_ends_24 rfl (lv_at hl 0 rfl) ?_
        refine va_get (D := G) (ci := 0) (v := .int (I 22)) (C := RX0) (T := TX0) (N := 29) hx hb hts in_X0 hown hK hP 0 rfl rfl 22 (Nat.le_of_ble_eq_true rfl) (hts _ q131) (fun _ h9 => h9) rfl dX0_ends_25 ?_
        refine lv_icmp_ne (tgt := 43) hx hb dX0_ends_28 (by decide) (fun c_6 => ?_) (fun c_6 => ?_)
        · refine lv_iconst (v := 0) hx hb dX0_ends_43 (by decide) ?_
          exact hj_1 0 (bI_f (fun h => h.2.elim c_4 (fun z => z.elim c_5 (fun y => c_6 y.1)))).symm
        · refine lv_iload_n hx hb dX0_ends_31 rfl (lv_at hl 1 rfl) ?_
          refine lv_aload_n hx hb dX0_ends_32 rfl (lv_at hl 0 rfl) ?_
          refine va_get (D := G) (ci := 0) (v := .int (I 21)) (C := RX0) (T := TX0) (N := 29) hx hb hts in_X0 hown hK hP 0 rfl rfl 21 (Nat.le_of_ble_eq_true rfl) (hts _ q130) (fun _ h9 => h9) rfl dX0_ends_33 ?_
          refine lv_icmp_ge (tgt := 43) hx hb dX0_ends_36 (by decide) (fun c_7 => ?_) (fun c_7 => ?_)
          · refine lv_iconst (v := 0) hx hb dX0_ends_43 (by decide) ?_
            exact hj_1 0 (bI_f (fun h => h.2.elim c_4 (fun z => z.elim c_5 (fun y => absurd c_7 (Int32.not_le.mpr y.2))))).symm
          · refine lv_iconst (v := 1) hx hb dX0_ends_39 (by decide) ?_
            refine lv_goto (tgt := 44) hx hb dX0_ends_40 (by decide) ?_
            exact hj_1 1 (bI_t ⟨c_3, Or.inr (Or.inr ⟨c_6, Int32.not_le.mp c_7⟩)⟩).symm
