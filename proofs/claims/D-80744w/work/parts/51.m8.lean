set_option maxHeartbeats 400000 in
set_option maxRecDepth 100000 in
theorem metX1_mayCome (l : Launch) (G : va_G) (d : Nat → Nat) (b : Nat → Nat) (J : Nat → Int32) (E : Nat → Nat → Int32) (k q : Nat) (hd wt : Int32) (r : Nat → Nat) (hk16 : k ≤ 16) (hr22 : ∀ i, i < k → r i < 16 ∧ E 22 i = nI (r i)) (hq : q < 16) : Met l yX1_mayCome (ws_ yX1_mayCome cX1_mayCome 8 (some FieldType.boolean)) ({ frames := 1, cells := 0, slots := 0, locals := 22 } : Room) (va_Pc [.ref (b 0), .int (nI k), .int (nI q), .int hd, .int wt] (pR G d (MW b J E d))) (vp_Si (fun x => x = bI (mayM (pM E) hd wt r k q))) 0 0 (fun _ => False) := by
  refine Met.ofW (cc := cX1_mayCome) (maxL := 8) (ret := (some FieldType.boolean)) (by decide) rfl ?_
  intro p e s m args below meth c s₁ B hml hv
  obtain ⟨rfl, hP, hK⟩ := hv
  have hx := B.exec
  have hb := B.bytes
  have hr := B.returns
  have hts := atoms_spec (ws := (ws_ yX1_mayCome cX1_mayCome 8 (some FieldType.boolean))) B.pre
  have hts : ∀ w ∈ lw_all, w.before _ s = true := fun w h => hts w (List.mem_cons_of_mem _ h)
  have hown : s.vm.findClass RX1 = some m.cls := findClass_of_methodNamed B.named
  have hlocks := B.notSynchronized
  have hl := lv_entry ([.ref (b 0), .int (nI k), .int (nI q), .int hd, .int wt]) (n := 8) (Nat.le_of_ble_eq_true rfl)
  rw [lg_entry_eq]
  generalize (lg_sl ([.ref (b 0), .int (nI k), .int (nI q), .int hd, .int wt]) ++ List.replicate (8 - (lg_sl ([.ref (b 0), .int (nI k), .int (nI q), .int hd, .int wt])).length) Slot.unset).toArray = ls at hl ⊢
  have hl : lv_has ls 8 [(0, .ref (b 0)), (1, .int (nI k)), (2, .int (nI q)), (3, .int hd), (4, .int wt)] := hl
  have hj_1 : ∀ (x0 : Int32) (hx0 : x0 = bI (may0 (pM E) wt r k q)), W p l e (headSpec (ws_ yX1_mayCome cX1_mayCome 8 (some FieldType.boolean)) ({ frames := 1, cells := 0, slots := 0, locals := 22 } : Room)).room s m ([.ref (b 0), .int (nI k), .int (nI q), .int hd, .int wt] : List Value).toArray below meth c s.heap [] 0 0 (MQ below (vp_Si (fun x => x = bI (mayM (pM E) hd wt r k q))) ([.ref (b 0), .int (nI k), .int (nI q), .int hd, .int wt] : List Value).toArray s 0 0 (fun _ => False)) (F0 m 58 ls [.int x0]) := by
    intro x0 hx0
    refine lv_istore (lv' := [(5, .int x0), (0, .ref (b 0)), (1, .int (nI k)), (2, .int (nI q)), (3, .int hd), (4, .int wt)]) hx hb dX1_mayCome_58 hl (Nat.le_of_ble_eq_true rfl) rfl (fun ls hl => ?_)
    refine lv_aload_n hx hb dX1_mayCome_60 rfl (lv_at hl 1 rfl) ?_
    refine va_get (D := G) (ci := 1) (v := .ref (b 15)) (C := RX1) (T := TX1) (N := 33) hx hb hts in_X1 hown hK hP 0 rfl rfl 15 (Nat.le_of_ble_eq_true rfl) (hts _ q901) (fun _ h9 => h9) rfl dX1_mayCome_61 ?_
    refine lv_iload_n hx hb dX1_mayCome_64 rfl (lv_at hl 3 rfl) ?_
    refine y_iald (N := q) (f := E 15) hx hb hK hP 11 0 rfl rfl rfl (by omega) (by decide) dX1_mayCome_65 ?_
    refine lv_aload_n hx hb dX1_mayCome_66 rfl (lv_at hl 1 rfl) ?_
    refine va_get (D := G) (ci := 1) (v := .ref (b 20)) (C := RX1) (T := TX1) (N := 33) hx hb hts in_X1 hown hK hP 0 rfl rfl 20 (Nat.le_of_ble_eq_true rfl) (hts _ q906) (fun _ h9 => h9) rfl dX1_mayCome_67 ?_
    refine lv_iload_n hx hb dX1_mayCome_70 rfl (lv_at hl 3 rfl) ?_
    refine y_iald (N := q) (f := E 20) hx hb hK hP 16 0 rfl rfl rfl (by omega) (by decide) dX1_mayCome_71 ?_
    refine lv_isub hx hb dX1_mayCome_72 ?_
    refine lv_istore (lv' := [(6, .int (((E 15) q) - ((E 20) q))), (5, .int x0), (0, .ref (b 0)), (1, .int (nI k)), (2, .int (nI q)), (3, .int hd), (4, .int wt)]) hx hb dX1_mayCome_73 hl (Nat.le_of_ble_eq_true rfl) rfl (fun ls hl => ?_)
    refine lv_iconst (v := 0) hx hb dX1_mayCome_75 (by decide) ?_
    refine lv_istore (lv' := [(7, .int 0), (6, .int (((E 15) q) - ((E 20) q))), (5, .int x0), (0, .ref (b 0)), (1, .int (nI k)), (2, .int (nI q)), (3, .int hd), (4, .int wt)]) hx hb dX1_mayCome_76 hl (Nat.le_of_ble_eq_true rfl) rfl (fun ls hl => ?_)
    have lp_2 : ∀ (fu : Nat) (i : Nat) (x sm : Int32) (hi : i ≤ k) (hm : k < i + fu) (hx5 : x = bI (mayN (pM E) wt r k q i)) (hs : sm = mayW (pM E) r q i) (ls : Array Slot) (hl : lv_has ls 8 [(7, .int (nI i)), (6, .int sm), (5, .int x), (0, .ref (b 0)), (1, .int (nI k)), (2, .int (nI q)), (3, .int hd), (4, .int wt)]), W p l e (headSpec (ws_ yX1_mayCome cX1_mayCome 8 (some FieldType.boolean)) ({ frames := 1, cells := 0, slots := 0, locals := 22 } : Room)).room s m ([.ref (b 0), .int (nI k), .int (nI q), .int hd, .int wt] : List Value).toArray below meth c s.heap [] 0 0 (MQ below (vp_Si (fun x => x = bI (mayM (pM E) hd wt r k q))) ([.ref (b 0), .int (nI k), .int (nI q), .int hd, .int wt] : List Value).toArray s 0 0 (fun _ => False)) (F0 m 78 ls []) := by
      intro fu
      induction fu with
      | zero =>
        intro i x sm hi hm hx5 hs ls hl
        exfalso; omega
      | succ fu ih_lp_2 =>
        intro i x sm hi hm hx5 hs ls hl
        have hri : i < k → r i < 16 ∧ E 22 i = nI (r i) := hr22 i
        refine lv_iload hx hb dX1_mayCome_78 (lv_at hl 0 rfl) ?_
        refine lv_iload_n hx hb dX1_mayCome_80 rfl (lv_at hl 4 rfl) ?_
        refine lv_icmp_ge (tgt := 169) hx hb dX1_mayCome_81 (by decide) (fun c_3 => ?_) (fun c_3 => ?_)
        · have c_3 : k ≤ i := (nI_leI (a := k) (b := i) (by omega) (by omega)).mp c_3
          refine lv_iload hx hb dX1_mayCome_169 (lv_at hl 2 rfl) ?_
          refine lv_if_eq (tgt := 184) hx hb dX1_mayCome_171 (by decide) (fun c_4 => ?_) (fun c_4 => ?_)
          · have c_4 := bI_eq hx5 c_4
            refine lv_iconst (v := 0) hx hb dX1_mayCome_184 (by decide) ?_
            exact W.zret (v := 0) hx hb hr rfl (fun t ht hW => ⟨0, rfl, by
              have ek : i = k := by omega
              subst ek
              exact (bI_f (fun h => c_4 h.1)).symm, ht⟩) (fun q h => by cases h) dX1_mayCome_185
          · have c_4 := bI_ne hx5 c_4
            refine lv_iload hx hb dX1_mayCome_174 (lv_at hl 1 rfl) ?_
            refine lv_iload_n hx hb dX1_mayCome_176 rfl (lv_at hl 6 rfl) ?_
            refine lv_icmp_gt (tgt := 184) hx hb dX1_mayCome_177 (by decide) (fun c_5 => ?_) (fun c_5 => ?_)
            · refine lv_iconst (v := 0) hx hb dX1_mayCome_184 (by decide) ?_
              exact W.zret (v := 0) hx hb hr rfl (fun t ht hW => ⟨0, rfl, by
                have ek : i = k := by omega
                subst ek
                exact (bI_f (fun h => absurd c_5 (Int32.not_lt.mpr (by rw [hs]; exact h.2)))).symm, ht⟩) (fun q h => by cases h) dX1_mayCome_185
            · refine lv_iconst (v := 1) hx hb dX1_mayCome_180 (by decide) ?_
              refine lv_goto (tgt := 185) hx hb dX1_mayCome_181 (by decide) ?_
              exact W.zret (v := 1) hx hb hr rfl (fun t ht hW => ⟨1, rfl, by
                have ek : i = k := by omega
                subst ek
                exact (bI_t ⟨c_4, by rw [← hs]; exact Int32.not_lt.mp c_5⟩).symm, ht⟩) (fun q h => by cases h) dX1_mayCome_185
        · have c_3 : ¬ k ≤ i := fun h => c_3 ((nI_leI (a := k) (b := i) (by omega) (by omega)).mpr h)
          have hri := hri (by omega)
          have hj_6 : ∀ (y5 : Int32) (hy5 : y5 = bI (mayN (pM E) wt r k q (i + 1))), W p l e (headSpec (ws_ yX1_mayCome cX1_mayCome 8 (some FieldType.boolean)) ({ frames := 1, cells := 0, slots := 0, locals := 22 } : Room)).room s m ([.ref (b 0), .int (nI k), .int (nI q), .int hd, .int wt] : List Value).toArray below meth c s.heap [] 0 0 (MQ below (vp_Si (fun x => x = bI (mayM (pM E) hd wt r k q))) ([.ref (b 0), .int (nI k), .int (nI q), .int hd, .int wt] : List Value).toArray s 0 0 (fun _ => False)) (F0 m 131 ls [.int y5]) := by
            intro y5 hy5
            refine lv_istore (lv' := [(5, .int y5), (7, .int (nI i)), (6, .int sm), (0, .ref (b 0)), (1, .int (nI k)), (2, .int (nI q)), (3, .int hd), (4, .int wt)]) hx hb dX1_mayCome_131 hl (Nat.le_of_ble_eq_true rfl) rfl (fun ls hl => ?_)
            refine lv_iload hx hb dX1_mayCome_133 (lv_at hl 2 rfl) ?_
            refine lv_aload_n hx hb dX1_mayCome_135 rfl (lv_at hl 3 rfl) ?_
            refine va_get (D := G) (ci := 1) (v := .ref (b 15)) (C := RX1) (T := TX1) (N := 33) hx hb hts in_X1 hown hK hP 0 rfl rfl 15 (Nat.le_of_ble_eq_true rfl) (hts _ q901) (fun _ h9 => h9) rfl dX1_mayCome_136 ?_
            refine lv_aload_n hx hb dX1_mayCome_139 rfl (lv_at hl 3 rfl) ?_
            refine va_get (D := G) (ci := 1) (v := .ref (b 22)) (C := RX1) (T := TX1) (N := 33) hx hb hts in_X1 hown hK hP 0 rfl rfl 22 (Nat.le_of_ble_eq_true rfl) (hts _ q908) (fun _ h9 => h9) rfl dX1_mayCome_140 ?_
            refine lv_iload hx hb dX1_mayCome_143 (lv_at hl 1 rfl) ?_
            refine y_iald (N := i) (f := E 22) hx hb hK hP 18 0 rfl rfl rfl (by omega) (by decide) dX1_mayCome_145 ?_
            refine y_top (y := nI (r i)) hri.2 ?_
            refine y_iald (N := r i) (f := E 15) hx hb hK hP 11 0 rfl rfl rfl (by omega) (by decide) dX1_mayCome_146 ?_
            refine lv_aload_n hx hb dX1_mayCome_147 rfl (lv_at hl 3 rfl) ?_
            refine va_get (D := G) (ci := 1) (v := .ref (b 20)) (C := RX1) (T := TX1) (N := 33) hx hb hts in_X1 hown hK hP 0 rfl rfl 20 (Nat.le_of_ble_eq_true rfl) (hts _ q906) (fun _ h9 => h9) rfl dX1_mayCome_148 ?_
            refine lv_aload_n hx hb dX1_mayCome_151 rfl (lv_at hl 3 rfl) ?_
            refine va_get (D := G) (ci := 1) (v := .ref (b 22)) (C := RX1) (T := TX1) (N := 33) hx hb hts in_X1 hown hK hP 0 rfl rfl 22 (Nat.le_of_ble_eq_true rfl) (hts _ q908) (fun _ h9 => h9) rfl dX1_mayCome_152 ?_
            refine lv_iload hx hb dX1_mayCome_155 (lv_at hl 1 rfl) ?_
            refine y_iald (N := i) (f := E 22) hx hb hK hP 18 0 rfl rfl rfl (by omega) (by decide) dX1_mayCome_157 ?_
            refine y_top (y := nI (r i)) hri.2 ?_
            refine y_iald (N := r i) (f := E 20) hx hb hK hP 16 0 rfl rfl rfl (by omega) (by decide) dX1_mayCome_158 ?_
            refine lv_isub hx hb dX1_mayCome_159 ?_
            refine lv_iadd hx hb dX1_mayCome_160 ?_
            refine lv_istore (lv' := [(6, .int (sm + (((E 15) (r i)) - ((E 20) (r i))))), (5, .int y5), (7, .int (nI i)), (0, .ref (b 0)), (1, .int (nI k)), (2, .int (nI q)), (3, .int hd), (4, .int wt)]) hx hb dX1_mayCome_161 hl (Nat.le_of_ble_eq_true rfl) rfl (fun ls hl => ?_)
            refine lv_iinc (v := nI (i + 1)) (lv' := [(7, .int (nI (i + 1))), (6, .int (sm + (((E 15) (r i)) - ((E 20) (r i))))), (5, .int y5), (0, .ref (b 0)), (1, .int (nI k)), (2, .int (nI q)), (3, .int hd), (4, .int wt)]) hx hb dX1_mayCome_163 hl (k := 2) rfl (nI_add i 1) (Nat.le_of_ble_eq_true rfl) rfl (fun ls hl => ?_)
            refine lv_goto (tgt := 78) hx hb dX1_mayCome_166 (by decide) ?_
            exact ih_lp_2 (i + 1) _ _ (by omega) (by omega) hy5 (by rw [hs]; rfl) ls (lv_sub hl [0, 1, 2, 3, 4, 5, 6, 7] rfl)
          refine lv_iload hx hb dX1_mayCome_84 (lv_at hl 2 rfl) ?_
          refine lv_if_eq (tgt := 130) hx hb dX1_mayCome_86 (by decide) (fun c_7 => ?_) (fun c_7 => ?_)
          · have c_7 := bI_eq hx5 c_7
            refine lv_iconst (v := 0) hx hb dX1_mayCome_130 (by decide) ?_
            exact hj_6 0 (bI_f (fun h => c_7 (mayN_p h).1)).symm
          · have c_7 := bI_ne hx5 c_7
            refine lv_aload_n hx hb dX1_mayCome_89 rfl (lv_at hl 3 rfl) ?_
            refine va_get (D := G) (ci := 1) (v := .ref (b 22)) (C := RX1) (T := TX1) (N := 33) hx hb hts in_X1 hown hK hP 0 rfl rfl 22 (Nat.le_of_ble_eq_true rfl) (hts _ q908) (fun _ h9 => h9) rfl dX1_mayCome_90 ?_
            refine lv_iload hx hb dX1_mayCome_93 (lv_at hl 0 rfl) ?_
            refine y_iald (N := i) (f := E 22) hx hb hK hP 18 0 rfl rfl rfl (by omega) (by decide) dX1_mayCome_95 ?_
            refine y_top (y := nI (r i)) hri.2 ?_
            refine lv_iload_n hx hb dX1_mayCome_96 rfl (lv_at hl 5 rfl) ?_
            refine lv_icmp_eq (tgt := 130) hx hb dX1_mayCome_97 (by decide) (fun c_8 => ?_) (fun c_8 => ?_)
            · have c_8 : (r i) = q := (nI_eq (a := (r i)) (b := q) (by omega) (by omega)).mp c_8
              refine lv_iconst (v := 0) hx hb dX1_mayCome_130 (by decide) ?_
              exact hj_6 0 (bI_f (fun h => (mayN_p h).2.1 c_8)).symm
            · have c_8 : ¬ (r i) = q := fun h => c_8 ((nI_eq (a := (r i)) (b := q) (by omega) (by omega)).mpr h)
              refine lv_aload_n hx hb dX1_mayCome_100 rfl (lv_at hl 3 rfl) ?_
              refine va_get (D := G) (ci := 1) (v := .ref (b 14)) (C := RX1) (T := TX1) (N := 33) hx hb hts in_X1 hown hK hP 0 rfl rfl 14 (Nat.le_of_ble_eq_true rfl) (hts _ q900) (fun _ h9 => h9) rfl dX1_mayCome_101 ?_
              refine lv_aload_n hx hb dX1_mayCome_104 rfl (lv_at hl 3 rfl) ?_
              refine va_get (D := G) (ci := 1) (v := .ref (b 22)) (C := RX1) (T := TX1) (N := 33) hx hb hts in_X1 hown hK hP 0 rfl rfl 22 (Nat.le_of_ble_eq_true rfl) (hts _ q908) (fun _ h9 => h9) rfl dX1_mayCome_105 ?_
              refine lv_iload hx hb dX1_mayCome_108 (lv_at hl 0 rfl) ?_
              refine y_iald (N := i) (f := E 22) hx hb hK hP 18 0 rfl rfl rfl (by omega) (by decide) dX1_mayCome_110 ?_
              refine y_top (y := nI (r i)) hri.2 ?_
              refine y_iald (N := r i) (f := E 14) hx hb hK hP 10 0 rfl rfl rfl (by omega) (by decide) dX1_mayCome_111 ?_
              refine lv_iconst (v := 2) hx hb dX1_mayCome_112 (by decide) ?_
              refine lv_icmp_ne (tgt := 126) hx hb dX1_mayCome_113 (by decide) (fun c_9 => ?_) (fun c_9 => ?_)
              · refine lv_iconst (v := 1) hx hb dX1_mayCome_126 (by decide) ?_
                refine lv_goto (tgt := 131) hx hb dX1_mayCome_127 (by decide) ?_
                exact hj_6 1 (bI_t (mayN_s c_7 ⟨c_8, fun h => c_9 h.1⟩)).symm
              · refine lv_aload_n hx hb dX1_mayCome_116 rfl (lv_at hl 3 rfl) ?_
                refine va_get (D := G) (ci := 1) (v := .ref (b 14)) (C := RX1) (T := TX1) (N := 33) hx hb hts in_X1 hown hK hP 0 rfl rfl 14 (Nat.le_of_ble_eq_true rfl) (hts _ q900) (fun _ h9 => h9) rfl dX1_mayCome_117 ?_
                refine lv_iload_n hx hb dX1_mayCome_120 rfl (lv_at hl 5 rfl) ?_
                refine y_iald (N := q) (f := E 14) hx hb hK hP 10 0 rfl rfl rfl (by omega) (by decide) dX1_mayCome_121 ?_
                refine lv_iconst (v := 2) hx hb dX1_mayCome_122 (by decide) ?_
                refine lv_icmp_eq (tgt := 130) hx hb dX1_mayCome_123 (by decide) (fun c_10 => ?_) (fun c_10 => ?_)
                · refine lv_iconst (v := 0) hx hb dX1_mayCome_130 (by decide) ?_
                  exact hj_6 0 (bI_f (fun h => (mayN_p h).2.2 ⟨c_9, c_10⟩)).symm
                · refine lv_iconst (v := 1) hx hb dX1_mayCome_126 (by decide) ?_
                  refine lv_goto (tgt := 131) hx hb dX1_mayCome_127 (by decide) ?_
                  exact hj_6 1 (bI_t (mayN_s c_7 ⟨c_8, fun h => c_10 h.2⟩)).symm
    exact lp_2 18 0 x0 _ (by omega) (by omega) (hx0.trans (bI_not ⟨fun h => ⟨h, fun i hi => absurd hi (Nat.not_lt_zero i)⟩, fun h => h.1⟩)) rfl ls (lv_sub hl [0, 1, 2, 3, 4, 5, 6, 7] rfl)
  refine lv_aload_n hx hb dX1_mayCome_0 rfl (lv_at hl 0 rfl) ?_
  refine va_get (D := G) (ci := 1) (v := .ref (b 16)) (C := RX1) (T := TX1) (N := 33) hx hb hts in_X1 hown hK hP 0 rfl rfl 16 (Nat.le_of_ble_eq_true rfl) (hts _ q902) (fun _ h9 => h9) rfl dX1_mayCome_1 ?_
  refine lv_iload_n hx hb dX1_mayCome_4 rfl (lv_at hl 2 rfl) ?_
  refine y_iald (N := q) (f := E 16) hx hb hK hP 12 0 rfl rfl rfl (by omega) (by decide) dX1_mayCome_5 ?_
  refine lv_iload hx hb dX1_mayCome_6 (lv_at hl 4 rfl) ?_
  refine lv_icmp_lt (tgt := 57) hx hb dX1_mayCome_8 (by decide) (fun c_11 => ?_) (fun c_11 => ?_)
  · refine lv_iconst (v := 0) hx hb dX1_mayCome_57 (by decide) ?_
    exact hj_1 0 (bI_f (fun h => h.1 c_11)).symm
  · refine lv_aload_n hx hb dX1_mayCome_11 rfl (lv_at hl 0 rfl) ?_
    refine va_get (D := G) (ci := 1) (v := .ref (b 21)) (C := RX1) (T := TX1) (N := 33) hx hb hts in_X1 hown hK hP 0 rfl rfl 21 (Nat.le_of_ble_eq_true rfl) (hts _ q907) (fun _ h9 => h9) rfl dX1_mayCome_12 ?_
    refine lv_iload_n hx hb dX1_mayCome_15 rfl (lv_at hl 2 rfl) ?_
    refine y_zald (N := q) (f := E 21) hx hb hK hP 17 1 rfl rfl rfl (by omega) (by decide) dX1_mayCome_16 ?_
    refine lv_if_ne (tgt := 57) hx hb dX1_mayCome_17 (by decide) (fun c_12 => ?_) (fun c_12 => ?_)
    · refine lv_iconst (v := 0) hx hb dX1_mayCome_57 (by decide) ?_
      exact hj_1 0 (bI_f (fun h => c_12 h.2.1)).symm
    · refine lv_iload_n hx hb dX1_mayCome_20 rfl (lv_at hl 1 rfl) ?_
      refine lv_if_ne (tgt := 37) hx hb dX1_mayCome_21 (by decide) (fun c_13 => ?_) (fun c_13 => ?_)
      · have c_13 : ¬ k = 0 := fun h => c_13 ((nI_eq (a := k) (b := 0) (by omega) (by omega)).mpr h)
        have hk1 := hr22 (k - 1) (by omega)
        refine lv_aload_n hx hb dX1_mayCome_37 rfl (lv_at hl 0 rfl) ?_
        refine lv_aload_n hx hb dX1_mayCome_38 rfl (lv_at hl 0 rfl) ?_
        refine va_get (D := G) (ci := 1) (v := .ref (b 22)) (C := RX1) (T := TX1) (N := 33) hx hb hts in_X1 hown hK hP 0 rfl rfl 22 (Nat.le_of_ble_eq_true rfl) (hts _ q908) (fun _ h9 => h9) rfl dX1_mayCome_39 ?_
        refine lv_iload_n hx hb dX1_mayCome_42 rfl (lv_at hl 1 rfl) ?_
        refine lv_iconst (v := 1) hx hb dX1_mayCome_43 (by decide) ?_
        refine lv_isub hx hb dX1_mayCome_44 ?_
        refine y_top (y := nI (k - 1)) (pk_sub (a := k) (b := 1) (by omega)) ?_
        refine y_iald (N := k - 1) (f := E 22) hx hb hK hP 18 0 rfl rfl rfl (by omega) (by decide) dX1_mayCome_45 ?_
        refine y_top (y := nI (r (k - 1))) hk1.2 ?_
        refine lv_iload_n hx hb dX1_mayCome_46 rfl (lv_at hl 2 rfl) ?_
        refine y_rV (As := [.int (nI (r (k - 1))), .int (nI q)]) (rest := []) (ci := 1) (q0 := 0) ⟨hx, hb, hml, hown, hts⟩ hK hP (metX1_barsBelow l G d b J E (r (k - 1)) q (by omega) (by omega)) (cwV 2 hts (lw_V q1101 q1103 qs27 q39 q1104) rfl rfl rfl (by decide +kernel) ⟨Nat.le_of_ble_eq_true rfl, Nat.le_of_ble_eq_true rfl⟩) rfl rfl rfl hl.1 rfl (lv_room (Nat.le_of_ble_eq_true rfl)) dX1_mayCome_47 ⟨Nat.le_of_ble_eq_true rfl, Nat.le_of_ble_eq_true rfl⟩ (fun r_14 hw_15 => ?_)
        rw [hw_15]
        refine lv_if_ne (tgt := 57) hx hb dX1_mayCome_50 (by decide) (fun c_16 => ?_) (fun c_16 => ?_)
        · refine lv_iconst (v := 0) hx hb dX1_mayCome_57 (by decide) ?_
          exact hj_1 0 (bI_f (fun h => c_16 (cast (if_neg c_13) h.2.2))).symm
        · refine lv_iconst (v := 1) hx hb dX1_mayCome_53 (by decide) ?_
          refine lv_goto (tgt := 58) hx hb dX1_mayCome_54 (by decide) ?_
          exact hj_1 1 (bI_t ⟨c_11, c_12, cast (if_neg c_13).symm c_16⟩).symm
      · have c_13 : k = 0 := (nI_eq (a := k) (b := 0) (by omega) (by omega)).mp c_13
        refine lv_aload_n hx hb dX1_mayCome_24 rfl (lv_at hl 0 rfl) ?_
        refine va_get (D := G) (ci := 1) (v := .ref (b 14)) (C := RX1) (T := TX1) (N := 33) hx hb hts in_X1 hown hK hP 0 rfl rfl 14 (Nat.le_of_ble_eq_true rfl) (hts _ q900) (fun _ h9 => h9) rfl dX1_mayCome_25 ?_
        refine lv_iload_n hx hb dX1_mayCome_28 rfl (lv_at hl 2 rfl) ?_
        refine y_iald (N := q) (f := E 14) hx hb hK hP 10 0 rfl rfl rfl (by omega) (by decide) dX1_mayCome_29 ?_
        refine lv_iconst (v := 1) hx hb dX1_mayCome_30 (by decide) ?_
        refine lv_icmp_ne (tgt := 57) hx hb dX1_mayCome_31 (by decide) (fun c_17 => ?_) (fun c_17 => ?_)
        · refine lv_iconst (v := 0) hx hb dX1_mayCome_57 (by decide) ?_
          exact hj_1 0 (bI_f (fun h => c_17 (cast (if_pos c_13) h.2.2))).symm
        · refine lv_goto (tgt := 53) hx hb dX1_mayCome_34 (by decide) ?_
          refine lv_iconst (v := 1) hx hb dX1_mayCome_53 (by decide) ?_
          refine lv_goto (tgt := 58) hx hb dX1_mayCome_54 (by decide) ?_
          exact hj_1 1 (bI_t ⟨c_11, c_12, cast (if_pos c_13).symm c_17⟩).symm
set_option maxHeartbeats 400000 in
set_option maxRecDepth 100000 in
theorem metX1_sumH (l : Launch) (G : va_G) (d : Nat → Nat) (b : Nat → Nat) (J : Nat → Int32) (E : Nat → Nat → Int32) (k : Nat) (r : Nat → Nat) (hk17 : k ≤ 17) (hr22 : ∀ i, i < k → r i < 16 ∧ E 22 i = nI (r i)) : Met l yX1_sumOf (ws_ yX1_sumOf cX1_sumOf 5 (some FieldType.int)) ({ frames := 0, cells := 0, slots := 0, locals := 0 } : Room) (va_Pc [.ref (b 0), .int (nI k), .int 0] (pR G d (MW b J E d))) (vp_Si (fun x => x = hiV (pM E) r k)) 0 0 (fun _ => False) := by
  refine Met.ofW (cc := cX1_sumOf) (maxL := 5) (ret := (some FieldType.int)) (by decide) rfl ?_
  intro p e s m args below meth c s₁ B hml hv
  obtain ⟨rfl, hP, hK⟩ := hv
  have hx := B.exec
  have hb := B.bytes
  have hr := B.returns
  have hts := atoms_spec (ws := (ws_ yX1_sumOf cX1_sumOf 5 (some FieldType.int))) B.pre
  have hts : ∀ w ∈ lw_all, w.before _ s = true := fun w h => hts w (List.mem_cons_of_mem _ h)
  have hown : s.vm.findClass RX1 = some m.cls := findClass_of_methodNamed B.named
  have hlocks := B.notSynchronized
  have hl := lv_entry ([.ref (b 0), .int (nI k), .int 0]) (n := 5) (Nat.le_of_ble_eq_true rfl)
  rw [lg_entry_eq]
  generalize (lg_sl ([.ref (b 0), .int (nI k), .int 0]) ++ List.replicate (5 - (lg_sl ([.ref (b 0), .int (nI k), .int 0])).length) Slot.unset).toArray = ls at hl ⊢
  have hl : lv_has ls 5 [(0, .ref (b 0)), (1, .int (nI k)), (2, .int 0)] := hl
  refine lv_iconst (v := 0) hx hb dX1_sumOf_0 (by decide) ?_
  refine lv_istore_n (lv' := [(3, .int 0), (0, .ref (b 0)), (1, .int (nI k)), (2, .int 0)]) hx hb dX1_sumOf_1 rfl hl (Nat.le_of_ble_eq_true rfl) rfl (fun ls hl => ?_)
  refine lv_iconst (v := 0) hx hb dX1_sumOf_2 (by decide) ?_
  refine lv_istore (lv' := [(4, .int 0), (3, .int 0), (0, .ref (b 0)), (1, .int (nI k)), (2, .int 0)]) hx hb dX1_sumOf_3 hl (Nat.le_of_ble_eq_true rfl) rfl (fun ls hl => ?_)
  have lp_1 : ∀ (fu : Nat) (i : Nat) (sm : Int32) (hi : i ≤ k) (hm : k < i + fu) (hs : sm = hiV (pM E) r i) (ls : Array Slot) (hl : lv_has ls 5 [(4, .int (nI i)), (3, .int sm), (0, .ref (b 0)), (1, .int (nI k)), (2, .int 0)]), W p l e (headSpec (ws_ yX1_sumOf cX1_sumOf 5 (some FieldType.int)) ({ frames := 0, cells := 0, slots := 0, locals := 0 } : Room)).room s m ([.ref (b 0), .int (nI k), .int 0] : List Value).toArray below meth c s.heap [] 0 0 (MQ below (vp_Si (fun x => x = hiV (pM E) r k)) ([.ref (b 0), .int (nI k), .int 0] : List Value).toArray s 0 0 (fun _ => False)) (F0 m 5 ls []) := by
    intro fu
    induction fu with
    | zero =>
      intro i sm hi hm hs ls hl
      exfalso; omega
    | succ fu ih_lp_1 =>
      intro i sm hi hm hs ls hl
      refine lv_iload hx hb dX1_sumOf_5 (lv_at hl 0 rfl) ?_
      refine lv_iload_n hx hb dX1_sumOf_7 rfl (lv_at hl 3 rfl) ?_
      refine lv_icmp_ge (tgt := 51) hx hb dX1_sumOf_8 (by decide) (fun c_2 => ?_) (fun c_2 => ?_)
      · have c_2 : k ≤ i := (nI_leI (a := k) (b := i) (by omega) (by omega)).mp c_2
        refine lv_iload_n hx hb dX1_sumOf_51 rfl (lv_at hl 1 rfl) ?_
        exact W.iret (v := sm) hx hb hr (fun t ht hW => ⟨sm, rfl, by rw [hs, show i = k by omega], ht⟩) (fun q h => by cases h) dX1_sumOf_52
      · have c_2 : ¬ k ≤ i := fun h => c_2 ((nI_leI (a := k) (b := i) (by omega) (by omega)).mpr h)
        have hri := hr22 i (by omega)
        refine lv_iload_n hx hb dX1_sumOf_11 rfl (lv_at hl 1 rfl) ?_
        refine lv_iload_n hx hb dX1_sumOf_12 rfl (lv_at hl 4 rfl) ?_
        refine lv_if_eq (tgt := 31) hx hb dX1_sumOf_13 (by decide) (fun c_3 => ?_) (fun c_3 => ?_)
        · refine lv_aload_n hx hb dX1_sumOf_31 rfl (lv_at hl 2 rfl) ?_
          refine va_get (D := G) (ci := 1) (v := .ref (b 15)) (C := RX1) (T := TX1) (N := 33) hx hb hts in_X1 hown hK hP 0 rfl rfl 15 (Nat.le_of_ble_eq_true rfl) (hts _ q901) (fun _ h9 => h9) rfl dX1_sumOf_32 ?_
          refine lv_aload_n hx hb dX1_sumOf_35 rfl (lv_at hl 2 rfl) ?_
          refine va_get (D := G) (ci := 1) (v := .ref (b 22)) (C := RX1) (T := TX1) (N := 33) hx hb hts in_X1 hown hK hP 0 rfl rfl 22 (Nat.le_of_ble_eq_true rfl) (hts _ q908) (fun _ h9 => h9) rfl dX1_sumOf_36 ?_
          refine lv_iload hx hb dX1_sumOf_39 (lv_at hl 0 rfl) ?_
          refine y_iald (N := i) (f := E 22) hx hb hK hP 18 0 rfl rfl rfl (by omega) (by decide) dX1_sumOf_41 ?_
          refine y_top (y := nI (r i)) hri.2 ?_
          refine y_iald (N := r i) (f := E 15) hx hb hK hP 11 0 rfl rfl rfl (by omega) (by decide) dX1_sumOf_42 ?_
          refine lv_iadd hx hb dX1_sumOf_43 ?_
          refine lv_istore_n (lv' := [(3, .int (sm + ((E 15) (r i)))), (4, .int (nI i)), (0, .ref (b 0)), (1, .int (nI k)), (2, .int 0)]) hx hb dX1_sumOf_44 rfl hl (Nat.le_of_ble_eq_true rfl) rfl (fun ls hl => ?_)
          refine lv_iinc (v := nI (i + 1)) (lv' := [(4, .int (nI (i + 1))), (3, .int (sm + ((E 15) (r i)))), (0, .ref (b 0)), (1, .int (nI k)), (2, .int 0)]) hx hb dX1_sumOf_45 hl (k := 1) rfl (nI_add i 1) (Nat.le_of_ble_eq_true rfl) rfl (fun ls hl => ?_)
          refine lv_goto (tgt := 5) hx hb dX1_sumOf_48 (by decide) ?_
          exact ih_lp_1 (i + 1) _ (by omega) (by omega) (by rw [hs]; rfl) ls (lv_sub hl [0, 1, 2, 3, 4] rfl)
        · exact absurd c_3 (by decide)
  exact lp_1 18 0 _ (by omega) (by omega) rfl ls (lv_sub hl [0, 1, 2, 3, 4] rfl)
set_option maxHeartbeats 400000 in
set_option maxRecDepth 100000 in
theorem metX1_sumP (l : Launch) (G : va_G) (d : Nat → Nat) (b : Nat → Nat) (J : Nat → Int32) (E : Nat → Nat → Int32) (k : Nat) (r : Nat → Nat) (hk17 : k ≤ 17) (hr22 : ∀ i, i < k → r i < 16 ∧ E 22 i = nI (r i)) : Met l yX1_sumOf (ws_ yX1_sumOf cX1_sumOf 5 (some FieldType.int)) ({ frames := 0, cells := 0, slots := 0, locals := 0 } : Room) (va_Pc [.ref (b 0), .int (nI k), .int 1] (pR G d (MW b J E d))) (vp_Si (fun x => x = prV (pM E) r k)) 0 0 (fun _ => False) := by
  refine Met.ofW (cc := cX1_sumOf) (maxL := 5) (ret := (some FieldType.int)) (by decide) rfl ?_
  intro p e s m args below meth c s₁ B hml hv
  obtain ⟨rfl, hP, hK⟩ := hv
  have hx := B.exec
  have hb := B.bytes
  have hr := B.returns
  have hts := atoms_spec (ws := (ws_ yX1_sumOf cX1_sumOf 5 (some FieldType.int))) B.pre
  have hts : ∀ w ∈ lw_all, w.before _ s = true := fun w h => hts w (List.mem_cons_of_mem _ h)
  have hown : s.vm.findClass RX1 = some m.cls := findClass_of_methodNamed B.named
  have hlocks := B.notSynchronized
  have hl := lv_entry ([.ref (b 0), .int (nI k), .int 1]) (n := 5) (Nat.le_of_ble_eq_true rfl)
  rw [lg_entry_eq]
  generalize (lg_sl ([.ref (b 0), .int (nI k), .int 1]) ++ List.replicate (5 - (lg_sl ([.ref (b 0), .int (nI k), .int 1])).length) Slot.unset).toArray = ls at hl ⊢
  have hl : lv_has ls 5 [(0, .ref (b 0)), (1, .int (nI k)), (2, .int 1)] := hl
  refine lv_iconst (v := 0) hx hb dX1_sumOf_0 (by decide) ?_
  refine lv_istore_n (lv' := [(3, .int 0), (0, .ref (b 0)), (1, .int (nI k)), (2, .int 1)]) hx hb dX1_sumOf_1 rfl hl (Nat.le_of_ble_eq_true rfl) rfl (fun ls hl => ?_)
  refine lv_iconst (v := 0) hx hb dX1_sumOf_2 (by decide) ?_
  refine lv_istore (lv' := [(4, .int 0), (3, .int 0), (0, .ref (b 0)), (1, .int (nI k)), (2, .int 1)]) hx hb dX1_sumOf_3 hl (Nat.le_of_ble_eq_true rfl) rfl (fun ls hl => ?_)
  have lp_1 : ∀ (fu : Nat) (i : Nat) (sm : Int32) (hi : i ≤ k) (hm : k < i + fu) (hs : sm = prV (pM E) r i) (ls : Array Slot) (hl : lv_has ls 5 [(4, .int (nI i)), (3, .int sm), (0, .ref (b 0)), (1, .int (nI k)), (2, .int 1)]), W p l e (headSpec (ws_ yX1_sumOf cX1_sumOf 5 (some FieldType.int)) ({ frames := 0, cells := 0, slots := 0, locals := 0 } : Room)).room s m ([.ref (b 0), .int (nI k), .int 1] : List Value).toArray below meth c s.heap [] 0 0 (MQ below (vp_Si (fun x => x = prV (pM E) r k)) ([.ref (b 0), .int (nI k), .int 1] : List Value).toArray s 0 0 (fun _ => False)) (F0 m 5 ls []) := by
    intro fu
    induction fu with
    | zero =>
      intro i sm hi hm hs ls hl
      exfalso; omega
    | succ fu ih_lp_1 =>
      intro i sm hi hm hs ls hl
      refine lv_iload hx hb dX1_sumOf_5 (lv_at hl 0 rfl) ?_
      refine lv_iload_n hx hb dX1_sumOf_7 rfl (lv_at hl 3 rfl) ?_
      refine lv_icmp_ge (tgt := 51) hx hb dX1_sumOf_8 (by decide) (fun c_2 => ?_) (fun c_2 => ?_)
      · have c_2 : k ≤ i := (nI_leI (a := k) (b := i) (by omega) (by omega)).mp c_2
        refine lv_iload_n hx hb dX1_sumOf_51 rfl (lv_at hl 1 rfl) ?_
        exact W.iret (v := sm) hx hb hr (fun t ht hW => ⟨sm, rfl, by rw [hs, show i = k by omega], ht⟩) (fun q h => by cases h) dX1_sumOf_52
      · have c_2 : ¬ k ≤ i := fun h => c_2 ((nI_leI (a := k) (b := i) (by omega) (by omega)).mpr h)
        have hri := hr22 i (by omega)
        refine lv_iload_n hx hb dX1_sumOf_11 rfl (lv_at hl 1 rfl) ?_
        refine lv_iload_n hx hb dX1_sumOf_12 rfl (lv_at hl 4 rfl) ?_
        refine lv_if_eq (tgt := 31) hx hb dX1_sumOf_13 (by decide) (fun c_3 => ?_) (fun c_3 => ?_)
        · exact absurd c_3 (by decide)
        · refine lv_aload_n hx hb dX1_sumOf_16 rfl (lv_at hl 2 rfl) ?_
          refine va_get (D := G) (ci := 1) (v := .ref (b 17)) (C := RX1) (T := TX1) (N := 33) hx hb hts in_X1 hown hK hP 0 rfl rfl 17 (Nat.le_of_ble_eq_true rfl) (hts _ q903) (fun _ h9 => h9) rfl dX1_sumOf_17 ?_
          refine lv_aload_n hx hb dX1_sumOf_20 rfl (lv_at hl 2 rfl) ?_
          refine va_get (D := G) (ci := 1) (v := .ref (b 22)) (C := RX1) (T := TX1) (N := 33) hx hb hts in_X1 hown hK hP 0 rfl rfl 22 (Nat.le_of_ble_eq_true rfl) (hts _ q908) (fun _ h9 => h9) rfl dX1_sumOf_21 ?_
          refine lv_iload hx hb dX1_sumOf_24 (lv_at hl 0 rfl) ?_
          refine y_iald (N := i) (f := E 22) hx hb hK hP 18 0 rfl rfl rfl (by omega) (by decide) dX1_sumOf_26 ?_
          refine y_top (y := nI (r i)) hri.2 ?_
          refine y_iald (N := r i) (f := E 17) hx hb hK hP 13 0 rfl rfl rfl (by omega) (by decide) dX1_sumOf_27 ?_
          refine lv_goto (tgt := 43) hx hb dX1_sumOf_28 (by decide) ?_
          refine lv_iadd hx hb dX1_sumOf_43 ?_
          refine lv_istore_n (lv' := [(3, .int (sm + ((E 17) (r i)))), (4, .int (nI i)), (0, .ref (b 0)), (1, .int (nI k)), (2, .int 1)]) hx hb dX1_sumOf_44 rfl hl (Nat.le_of_ble_eq_true rfl) rfl (fun ls hl => ?_)
          refine lv_iinc (v := nI (i + 1)) (lv' := [(4, .int (nI (i + 1))), (3, .int (sm + ((E 17) (r i)))), (0, .ref (b 0)), (1, .int (nI k)), (2, .int 1)]) hx hb dX1_sumOf_45 hl (k := 1) rfl (nI_add i 1) (Nat.le_of_ble_eq_true rfl) rfl (fun ls hl => ?_)
          refine lv_goto (tgt := 5) hx hb dX1_sumOf_48 (by decide) ?_
          exact ih_lp_1 (i + 1) _ (by omega) (by omega) (by rw [hs]; rfl) ls (lv_sub hl [0, 1, 2, 3, 4] rfl)
  exact lp_1 18 0 _ (by omega) (by omega) rfl ls (lv_sub hl [0, 1, 2, 3, 4] rfl)
