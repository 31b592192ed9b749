set_option maxHeartbeats 400000 in
set_option maxRecDepth 100000 in
theorem metX1_go (l : Launch) (G : va_G) (d : Nat → Nat) (sz : Nat) (b : Nat → Nat) (J : Nat → Int32) (E : Nat → Nat → Int32) (n : Nat) (x y z : Int32) (hn20 : n ≤ 20) (hn : J 27 = nI n) (hax : ∀ k, k < n → ¬ E 28 k = 0 → ∃ a : Nat, a < 3 ∧ E 29 (3 * k) = nI a) : Met l yX1_go (ws_ yX1_go cX1_go 9 none) ({ frames := 0, cells := 0, slots := 0, locals := 0 } : Room) (va_Pc [.ref (b 0), .int x, .int y, .int z] (pW G d sz (MW b J E d))) (va_Qv (fun (u : MS) => u = (J, va_up E 30 (goS (E 28) (E 29) (pt0 (E 30) x y z) n))) (fun (u : MS) t => bW G d (va_A (MW b J E d) sz) (MW b u.1 u.2 d) t) (va_A (MW b J E d) sz)) 0 0 (va_A (MW b J E d) sz) := by
  refine Met.ofW (cc := cX1_go) (maxL := 9) (ret := none) (by decide) rfl ?_
  intro p e s m args below meth c s₁ B hml hv
  obtain ⟨rfl, hsz, hP, hK, hD0⟩ := hv
  have hx := B.exec
  have hb := B.bytes
  have hr := B.returns
  have hts := atoms_spec (ws := (ws_ yX1_go cX1_go 9 none)) B.pre
  have hts : ∀ w ∈ lw_all, w.before _ s = true := fun w h => hts w (List.mem_cons_of_mem _ h)
  have hown : s.vm.findClass RX1 = some m.cls := findClass_of_methodNamed B.named
  have hlocks := B.notSynchronized
  subst hsz
  have hD := hD0.self (sz := s.heap.size)
  generalize hAe : va_A (MW b J E d) s.heap.size = A at hD ⊢
  have hA : ∀ q : Nat, s.heap.size ≤ q → A q := fun q h => by rw [← hAe]; exact Or.inr h
  have hS : va_S A s.heap s.heap [] := va_S.rf
  have hl := lv_entry ([.ref (b 0), .int x, .int y, .int z]) (n := 9) (Nat.le_of_ble_eq_true rfl)
  rw [lg_entry_eq]
  generalize (lg_sl ([.ref (b 0), .int x, .int y, .int z]) ++ List.replicate (9 - (lg_sl ([.ref (b 0), .int x, .int y, .int z])).length) Slot.unset).toArray = ls at hl ⊢
  have hl : lv_has ls 9 [(0, .ref (b 0)), (1, .int x), (2, .int y), (3, .int z)] := hl
  have hP : va_P G CLS (MW b J E d) s.heap := hP
  refine lv_aload_n hx hb dX1_go_0 rfl (lv_at hl 0 rfl) ?_
  refine va_get (D := G) (ci := 1) (v := .ref (b 30)) (C := RX1) (T := TX1) (N := 33) hx hb hts in_X1 hown hK hP 0 rfl rfl 30 (Nat.le_of_ble_eq_true rfl) (hts _ q916) (fun _ h9 => h9) rfl dX1_go_1 ?_
  refine lv_iconst (v := 0) hx hb dX1_go_4 (by decide) ?_
  refine lv_iload_n hx hb dX1_go_5 rfl (lv_at hl 1 rfl) ?_
  refine y_iast (N := 0) (f := E 30) hx hb hK hP hD hS 22 0 rfl rfl rfl (by omega) (by decide) dX1_go_6 (fun H locs hP hD hS => ?_)
  have hP : va_P G CLS (MW b J (va_up E 30 (upd (E 30) 0 x)) d) H := hP
  have hD : va_D A (MW b J (va_up E 30 (upd (E 30) 0 x)) d) := hD
  refine lv_aload_n hx hb dX1_go_7 rfl (lv_at hl 0 rfl) ?_
  refine va_get (D := G) (ci := 1) (v := .ref (b 30)) (C := RX1) (T := TX1) (N := 33) hx hb hts in_X1 hown hK hP 0 rfl rfl 30 (Nat.le_of_ble_eq_true rfl) (hts _ q916) (fun _ h9 => h9) rfl dX1_go_8 ?_
  refine lv_iconst (v := 1) hx hb dX1_go_11 (by decide) ?_
  refine lv_iload_n hx hb dX1_go_12 rfl (lv_at hl 2 rfl) ?_
  refine y_iast (N := 1) (f := (upd (E 30) 0 x)) hx hb hK hP hD hS 22 0 rfl rfl rfl (by omega) (by decide) dX1_go_13 (fun H locs hP hD hS => ?_)
  have hP : va_P G CLS (MW b J (va_up (va_up E 30 (upd (E 30) 0 x)) 30 (upd (upd (E 30) 0 x) 1 y)) d) H := hP
  have hD : va_D A (MW b J (va_up (va_up E 30 (upd (E 30) 0 x)) 30 (upd (upd (E 30) 0 x) 1 y)) d) := hD
  refine lv_aload_n hx hb dX1_go_14 rfl (lv_at hl 0 rfl) ?_
  refine va_get (D := G) (ci := 1) (v := .ref (b 30)) (C := RX1) (T := TX1) (N := 33) hx hb hts in_X1 hown hK hP 0 rfl rfl 30 (Nat.le_of_ble_eq_true rfl) (hts _ q916) (fun _ h9 => h9) rfl dX1_go_15 ?_
  refine lv_iconst (v := 2) hx hb dX1_go_18 (by decide) ?_
  refine lv_iload_n hx hb dX1_go_19 rfl (lv_at hl 3 rfl) ?_
  refine y_iast (N := 2) (f := (upd (upd (E 30) 0 x) 1 y)) hx hb hK hP hD hS 22 0 rfl rfl rfl (by omega) (by decide) dX1_go_20 (fun H locs hP hD hS => ?_)
  have hP : va_P G CLS (MW b J (va_up (va_up (va_up E 30 (upd (E 30) 0 x)) 30 (upd (upd (E 30) 0 x) 1 y)) 30 (upd (upd (upd (E 30) 0 x) 1 y) 2 z)) d) H := hP
  have hD : va_D A (MW b J (va_up (va_up (va_up E 30 (upd (E 30) 0 x)) 30 (upd (upd (E 30) 0 x) 1 y)) 30 (upd (upd (upd (E 30) 0 x) 1 y) 2 z)) d) := hD
  refine lv_iconst (v := 0) hx hb dX1_go_21 (by decide) ?_
  refine lv_istore (lv' := [(4, .int 0), (0, .ref (b 0)), (1, .int x), (2, .int y), (3, .int z)]) hx hb dX1_go_22 hl (Nat.le_of_ble_eq_true rfl) rfl (fun ls hl => ?_)
  have hP : va_P G CLS (MW b J (va_up E 30 (pt0 (E 30) x y z)) d) H := hP
  have hD : va_D A (MW b J (va_up E 30 (pt0 (E 30) x y z)) d) := hD
  have lp_1 : ∀ (fu : Nat) (i : Nat) (f : Nat → Int32) (hi : i ≤ n) (hm : n < i + fu) (hf : f = goS (E 28) (E 29) (pt0 (E 30) x y z) i) (H : Heap) (locs : List Loc) (hP : va_P G CLS (MW b J (va_up E 30 f) d) H) (hD : va_D A (MW b J (va_up E 30 f) d)) (hS : va_S A s.heap H locs) (ls : Array Slot) (hl : lv_has ls 9 [(4, .int (nI i)), (0, .ref (b 0)), (1, .int x), (2, .int y), (3, .int z)]), W p l e (headSpec (ws_ yX1_go cX1_go 9 none) ({ frames := 0, cells := 0, slots := 0, locals := 0 } : Room)).room s m ([.ref (b 0), .int x, .int y, .int z] : List Value).toArray below meth c H locs 0 0 (MQ below (va_Qv (fun (u : MS) => u = (J, va_up E 30 (goS (E 28) (E 29) (pt0 (E 30) x y z) n))) (fun (u : MS) t => bW G d A (MW b u.1 u.2 d) t) A) ([.ref (b 0), .int x, .int y, .int z] : List Value).toArray s 0 0 A) (F0 m 24 ls []) := by
    intro fu
    induction fu with
    | zero =>
      intro i f hi hm hf H locs hP hD hS ls hl
      exfalso; omega
    | succ fu ih_lp_1 =>
      intro i f hi hm hf H locs hP hD hS ls hl
      refine lv_iload hx hb dX1_go_24 (lv_at hl 0 rfl) ?_
      refine lv_aload_n hx hb dX1_go_26 rfl (lv_at hl 1 rfl) ?_
      refine va_get (D := G) (ci := 1) (v := .int (J 27)) (C := RX1) (T := TX1) (N := 33) hx hb hts in_X1 hown hK hP 0 rfl rfl 27 (Nat.le_of_ble_eq_true rfl) (hts _ q913) (fun _ h9 => h9) rfl dX1_go_27 ?_
      refine y_top (y := nI n) hn ?_
      refine lv_icmp_ge (tgt := 171) hx hb dX1_go_30 (by decide) (fun c_2 => ?_) (fun c_2 => ?_)
      · have c_2 : n ≤ i := (nI_leI (a := n) (b := i) (by omega) (by omega)).mp c_2
        exact W.vret hx hb hr (fun t ht hW => ⟨⟨(J, va_up E 30 f), rfl, (by rw [hf, show i = n by omega]), by rw [ht]; exact hP, va_K.moved hW.alike hK, hD⟩, hS.F ht⟩) hS.2.2 dX1_go_171
      · have c_2 : ¬ n ≤ i := fun h => c_2 ((nI_leI (a := n) (b := i) (by omega) (by omega)).mpr h)
        refine lv_aload_n hx hb dX1_go_33 rfl (lv_at hl 1 rfl) ?_
        refine va_get (D := G) (ci := 1) (v := .ref (b 28)) (C := RX1) (T := TX1) (N := 33) hx hb hts in_X1 hown hK hP 0 rfl rfl 28 (Nat.le_of_ble_eq_true rfl) (hts _ q914) (fun _ h9 => h9) rfl dX1_go_34 ?_
        refine lv_iload hx hb dX1_go_37 (lv_at hl 0 rfl) ?_
        refine y_zald (N := i) (f := E 28) hx hb hK hP 20 1 rfl rfl rfl (by omega) (by decide) dX1_go_39 ?_
        refine lv_if_eq (tgt := 128) hx hb dX1_go_40 (by decide) (fun c_3 => ?_) (fun c_3 => ?_)
        · refine lv_iconst (v := 0) hx hb dX1_go_128 (by decide) ?_
          refine lv_istore (lv' := [(5, .int 0), (4, .int (nI i)), (0, .ref (b 0)), (1, .int x), (2, .int y), (3, .int z)]) hx hb dX1_go_129 hl (Nat.le_of_ble_eq_true rfl) rfl (fun ls hl => ?_)
          refine lv_iload hx hb dX1_go_131 (lv_at hl 0 rfl) ?_
          refine lv_iconst (v := 3) hx hb dX1_go_133 (by decide) ?_
          refine lv_icmp_ge (tgt := 165) hx hb dX1_go_134 (by decide) (fun c_4 => ?_) (fun c_4 => ?_)
          · exact absurd c_4 (by decide)
          · have c_4 : ¬ 3 ≤ 0 := fun h => c_4 ((nI_leI (a := 3) (b := 0) (by omega) (by omega)).mpr h)
            refine lv_aload_n hx hb dX1_go_137 rfl (lv_at hl 2 rfl) ?_
            refine va_get (D := G) (ci := 1) (v := .ref (b 30)) (C := RX1) (T := TX1) (N := 33) hx hb hts in_X1 hown hK hP 0 rfl rfl 30 (Nat.le_of_ble_eq_true rfl) (hts _ q916) (fun _ h9 => h9) rfl dX1_go_138 ?_
            refine lv_iload hx hb dX1_go_141 (lv_at hl 0 rfl) ?_
            refine lv_dup2_11 hx hb dX1_go_143 rfl rfl ?_
            refine y_iald (N := 0) (f := f) hx hb hK hP 22 0 rfl rfl rfl (by omega) (by decide) dX1_go_144 ?_
            refine lv_aload_n hx hb dX1_go_145 rfl (lv_at hl 2 rfl) ?_
            refine va_get (D := G) (ci := 1) (v := .ref (b 29)) (C := RX1) (T := TX1) (N := 33) hx hb hts in_X1 hown hK hP 0 rfl rfl 29 (Nat.le_of_ble_eq_true rfl) (hts _ q915) (fun _ h9 => h9) rfl dX1_go_146 ?_
            refine lv_iconst (v := 3) hx hb dX1_go_149 (by decide) ?_
            refine lv_iload hx hb dX1_go_150 (lv_at hl 1 rfl) ?_
            refine lv_imul hx hb dX1_go_152 ?_
            refine y_top (y := nI (3 * i)) (pk_mul 3 i) ?_
            refine lv_iload hx hb dX1_go_153 (lv_at hl 0 rfl) ?_
            refine lv_iadd hx hb dX1_go_155 ?_
            refine y_top (y := nI ((3 * i) + 0)) (nI_add (3 * i) 0) ?_
            refine y_iald (N := (3 * i) + 0) (f := E 29) hx hb hK hP 21 0 rfl rfl rfl (by omega) (by decide) dX1_go_156 ?_
            refine lv_iadd hx hb dX1_go_157 ?_
            refine y_iast (N := 0) (f := f) hx hb hK hP hD hS 22 0 rfl rfl rfl (by omega) (by decide) dX1_go_158 (fun H locs hP hD hS => ?_)
            have hP : va_P G CLS (MW b J (va_up (va_up E 30 f) 30 (upd f 0 ((f 0) + ((E 29) ((3 * i) + 0))))) d) H := hP
            have hD : va_D A (MW b J (va_up (va_up E 30 f) 30 (upd f 0 ((f 0) + ((E 29) ((3 * i) + 0))))) d) := hD
            refine lv_iinc (v := 1) (lv' := [(5, .int 1), (4, .int (nI i)), (0, .ref (b 0)), (1, .int x), (2, .int y), (3, .int z)]) hx hb dX1_go_159 hl (k := 0) rfl (by decide) (Nat.le_of_ble_eq_true rfl) rfl (fun ls hl => ?_)
            refine lv_goto (tgt := 131) hx hb dX1_go_162 (by decide) ?_
            refine lv_iload hx hb dX1_go_131 (lv_at hl 0 rfl) ?_
            refine lv_iconst (v := 3) hx hb dX1_go_133 (by decide) ?_
            refine lv_icmp_ge (tgt := 165) hx hb dX1_go_134 (by decide) (fun c_5 => ?_) (fun c_5 => ?_)
            · exact absurd c_5 (by decide)
            · have c_5 : ¬ 3 ≤ 1 := fun h => c_5 ((nI_leI (a := 3) (b := 1) (by omega) (by omega)).mpr h)
              refine lv_aload_n hx hb dX1_go_137 rfl (lv_at hl 2 rfl) ?_
              refine va_get (D := G) (ci := 1) (v := .ref (b 30)) (C := RX1) (T := TX1) (N := 33) hx hb hts in_X1 hown hK hP 0 rfl rfl 30 (Nat.le_of_ble_eq_true rfl) (hts _ q916) (fun _ h9 => h9) rfl dX1_go_138 ?_
              refine lv_iload hx hb dX1_go_141 (lv_at hl 0 rfl) ?_
              refine lv_dup2_11 hx hb dX1_go_143 rfl rfl ?_
              refine y_iald (N := 1) (f := (upd f 0 ((f 0) + ((E 29) ((3 * i) + 0))))) hx hb hK hP 22 0 rfl rfl rfl (by omega) (by decide) dX1_go_144 ?_
              refine lv_aload_n hx hb dX1_go_145 rfl (lv_at hl 2 rfl) ?_
              refine va_get (D := G) (ci := 1) (v := .ref (b 29)) (C := RX1) (T := TX1) (N := 33) hx hb hts in_X1 hown hK hP 0 rfl rfl 29 (Nat.le_of_ble_eq_true rfl) (hts _ q915) (fun _ h9 => h9) rfl dX1_go_146 ?_
              refine lv_iconst (v := 3) hx hb dX1_go_149 (by decide) ?_
              refine lv_iload hx hb dX1_go_150 (lv_at hl 1 rfl) ?_
              refine lv_imul hx hb dX1_go_152 ?_
              refine y_top (y := nI (3 * i)) (pk_mul 3 i) ?_
              refine lv_iload hx hb dX1_go_153 (lv_at hl 0 rfl) ?_
              refine lv_iadd hx hb dX1_go_155 ?_
              refine y_top (y := nI ((3 * i) + 1)) (nI_add (3 * i) 1) ?_
              refine y_iald (N := (3 * i) + 1) (f := E 29) hx hb hK hP 21 0 rfl rfl rfl (by omega) (by decide) dX1_go_156 ?_
              refine lv_iadd hx hb dX1_go_157 ?_
              refine y_iast (N := 1) (f := (upd f 0 ((f 0) + ((E 29) ((3 * i) + 0))))) hx hb hK hP hD hS 22 0 rfl rfl rfl (by omega) (by decide) dX1_go_158 (fun H locs hP hD hS => ?_)
              have hP : va_P G CLS (MW b J (va_up (va_up (va_up E 30 f) 30 (upd f 0 ((f 0) + ((E 29) ((3 * i) + 0))))) 30 (upd (upd f 0 ((f 0) + ((E 29) ((3 * i) + 0)))) 1 (((upd f 0 ((f 0) + ((E 29) ((3 * i) + 0)))) 1) + ((E 29) ((3 * i) + 1))))) d) H := hP
              have hD : va_D A (MW b J (va_up (va_up (va_up E 30 f) 30 (upd f 0 ((f 0) + ((E 29) ((3 * i) + 0))))) 30 (upd (upd f 0 ((f 0) + ((E 29) ((3 * i) + 0)))) 1 (((upd f 0 ((f 0) + ((E 29) ((3 * i) + 0)))) 1) + ((E 29) ((3 * i) + 1))))) d) := hD
              refine lv_iinc (v := 2) (lv' := [(5, .int 2), (4, .int (nI i)), (0, .ref (b 0)), (1, .int x), (2, .int y), (3, .int z)]) hx hb dX1_go_159 hl (k := 0) rfl (by decide) (Nat.le_of_ble_eq_true rfl) rfl (fun ls hl => ?_)
              refine lv_goto (tgt := 131) hx hb dX1_go_162 (by decide) ?_
              refine lv_iload hx hb dX1_go_131 (lv_at hl 0 rfl) ?_
              refine lv_iconst (v := 3) hx hb dX1_go_133 (by decide) ?_
              refine lv_icmp_ge (tgt := 165) hx hb dX1_go_134 (by decide) (fun c_6 => ?_) (fun c_6 => ?_)
              · exact absurd c_6 (by decide)
              · have c_6 : ¬ 3 ≤ 2 := fun h => c_6 ((nI_leI (a := 3) (b := 2) (by omega) (by omega)).mpr h)
                refine lv_aload_n hx hb dX1_go_137 rfl (lv_at hl 2 rfl) ?_
                refine va_get (D := G) (ci := 1) (v := .ref (b 30)) (C := RX1) (T := TX1) (N := 33) hx hb hts in_X1 hown hK hP 0 rfl rfl 30 (Nat.le_of_ble_eq_true rfl) (hts _ q916) (fun _ h9 => h9) rfl dX1_go_138 ?_
                refine lv_iload hx hb dX1_go_141 (lv_at hl 0 rfl) ?_
                refine lv_dup2_11 hx hb dX1_go_143 rfl rfl ?_
                refine y_iald (N := 2) (f := (upd (upd f 0 ((f 0) + ((E 29) ((3 * i) + 0)))) 1 (((upd f 0 ((f 0) + ((E 29) ((3 * i) + 0)))) 1) + ((E 29) ((3 * i) + 1))))) hx hb hK hP 22 0 rfl rfl rfl (by omega) (by decide) dX1_go_144 ?_
                refine lv_aload_n hx hb dX1_go_145 rfl (lv_at hl 2 rfl) ?_
                refine va_get (D := G) (ci := 1) (v := .ref (b 29)) (C := RX1) (T := TX1) (N := 33) hx hb hts in_X1 hown hK hP 0 rfl rfl 29 (Nat.le_of_ble_eq_true rfl) (hts _ q915) (fun _ h9 => h9) rfl dX1_go_146 ?_
                refine lv_iconst (v := 3) hx hb dX1_go_149 (by decide) ?_
                refine lv_iload hx hb dX1_go_150 (lv_at hl 1 rfl) ?_
                refine lv_imul hx hb dX1_go_152 ?_
                refine y_top (y := nI (3 * i)) (pk_mul 3 i) ?_
                refine lv_iload hx hb dX1_go_153 (lv_at hl 0 rfl) ?_
                refine lv_iadd hx hb dX1_go_155 ?_
                refine y_top (y := nI ((3 * i) + 2)) (nI_add (3 * i) 2) ?_
                refine y_iald (N := (3 * i) + 2) (f := E 29) hx hb hK hP 21 0 rfl rfl rfl (by omega) (by decide) dX1_go_156 ?_
                refine lv_iadd hx hb dX1_go_157 ?_
                refine y_iast (N := 2) (f := (upd (upd f 0 ((f 0) + ((E 29) ((3 * i) + 0)))) 1 (((upd f 0 ((f 0) + ((E 29) ((3 * i) + 0)))) 1) + ((E 29) ((3 * i) + 1))))) hx hb hK hP hD hS 22 0 rfl rfl rfl (by omega) (by decide) dX1_go_158 (fun H locs hP hD hS => ?_)
                have hP : va_P G CLS (MW b J (va_up (va_up (va_up (va_up E 30 f) 30 (upd f 0 ((f 0) + ((E 29) ((3 * i) + 0))))) 30 (upd (upd f 0 ((f 0) + ((E 29) ((3 * i) + 0)))) 1 (((upd f 0 ((f 0) + ((E 29) ((3 * i) + 0)))) 1) + ((E 29) ((3 * i) + 1))))) 30 (upd (upd (upd f 0 ((f 0) + ((E 29) ((3 * i) + 0)))) 1 (((upd f 0 ((f 0) + ((E 29) ((3 * i) + 0)))) 1) + ((E 29) ((3 * i) + 1)))) 2 (((upd (upd f 0 ((f 0) + ((E 29) ((3 * i) + 0)))) 1 (((upd f 0 ((f 0) + ((E 29) ((3 * i) + 0)))) 1) + ((E 29) ((3 * i) + 1)))) 2) + ((E 29) ((3 * i) + 2))))) d) H := hP
                have hD : va_D A (MW b J (va_up (va_up (va_up (va_up E 30 f) 30 (upd f 0 ((f 0) + ((E 29) ((3 * i) + 0))))) 30 (upd (upd f 0 ((f 0) + ((E 29) ((3 * i) + 0)))) 1 (((upd f 0 ((f 0) + ((E 29) ((3 * i) + 0)))) 1) + ((E 29) ((3 * i) + 1))))) 30 (upd (upd (upd f 0 ((f 0) + ((E 29) ((3 * i) + 0)))) 1 (((upd f 0 ((f 0) + ((E 29) ((3 * i) + 0)))) 1) + ((E 29) ((3 * i) + 1)))) 2 (((upd (upd f 0 ((f 0) + ((E 29) ((3 * i) + 0)))) 1 (((upd f 0 ((f 0) + ((E 29) ((3 * i) + 0)))) 1) + ((E 29) ((3 * i) + 1)))) 2) + ((E 29) ((3 * i) + 2))))) d) := hD
                refine lv_iinc (v := 3) (lv' := [(5, .int 3), (4, .int (nI i)), (0, .ref (b 0)), (1, .int x), (2, .int y), (3, .int z)]) hx hb dX1_go_159 hl (k := 0) rfl (by decide) (Nat.le_of_ble_eq_true rfl) rfl (fun ls hl => ?_)
                refine lv_goto (tgt := 131) hx hb dX1_go_162 (by decide) ?_
                refine lv_iload hx hb dX1_go_131 (lv_at hl 0 rfl) ?_
                refine lv_iconst (v := 3) hx hb dX1_go_133 (by decide) ?_
                refine lv_icmp_ge (tgt := 165) hx hb dX1_go_134 (by decide) (fun c_7 => ?_) (fun c_7 => ?_)
                · have c_7 : 3 ≤ 3 := (nI_leI (a := 3) (b := 3) (by omega) (by omega)).mp c_7
                  refine lv_iinc (v := nI (i + 1)) (lv' := [(4, .int (nI (i + 1))), (5, .int 3), (0, .ref (b 0)), (1, .int x), (2, .int y), (3, .int z)]) hx hb dX1_go_165 hl (k := 1) rfl (nI_add i 1) (Nat.le_of_ble_eq_true rfl) rfl (fun ls hl => ?_)
                  refine lv_goto (tgt := 24) hx hb dX1_go_168 (by decide) ?_
                  exact ih_lp_1 (i + 1) (upd (upd (upd f 0 ((f 0) + ((E 29) ((3 * i) + 0)))) 1 (((upd f 0 ((f 0) + ((E 29) ((3 * i) + 0)))) 1) + ((E 29) ((3 * i) + 1)))) 2 (((upd (upd f 0 ((f 0) + ((E 29) ((3 * i) + 0)))) 1 (((upd f 0 ((f 0) + ((E 29) ((3 * i) + 0)))) 1) + ((E 29) ((3 * i) + 1)))) 2) + ((E 29) ((3 * i) + 2)))) (by omega) (by omega) (by subst hf; exact (if_pos c_3).symm) _ _ hP hD hS ls (lv_sub hl [0, 2, 3, 4, 5] rfl)
                · exact absurd c_7 (by decide)
        · obtain ⟨ax, hax3, hax9⟩ := hax i (by omega) c_3
          refine lv_aload_n hx hb dX1_go_43 rfl (lv_at hl 1 rfl) ?_
          refine va_get (D := G) (ci := 1) (v := .ref (b 29)) (C := RX1) (T := TX1) (N := 33) hx hb hts in_X1 hown hK hP 0 rfl rfl 29 (Nat.le_of_ble_eq_true rfl) (hts _ q915) (fun _ h9 => h9) rfl dX1_go_44 ?_
          refine lv_iconst (v := 3) hx hb dX1_go_47 (by decide) ?_
          refine lv_iload hx hb dX1_go_48 (lv_at hl 0 rfl) ?_
          refine lv_imul hx hb dX1_go_50 ?_
          refine y_top (y := nI (3 * i)) (pk_mul 3 i) ?_
          refine y_iald (N := 3 * i) (f := E 29) hx hb hK hP 21 0 rfl rfl rfl (by omega) (by decide) dX1_go_51 ?_
          refine y_top (y := nI ax) hax9 ?_
          refine lv_iconst (v := 1) hx hb dX1_go_52 (by decide) ?_
          refine lv_iadd hx hb dX1_go_53 ?_
          refine y_top (y := nI (ax + 1)) (nI_add ax 1) ?_
          refine lv_iconst (v := 3) hx hb dX1_go_54 (by decide) ?_
          refine lv_irem hx hb dX1_go_55 (by decide) ?_
          refine y_top (y := nI ((ax + 1) % 3)) (pk_rem (a := ax + 1) (d := 3) (by omega) (by omega) (by omega)) ?_
          refine lv_istore (lv' := [(5, .int (nI ((ax + 1) % 3))), (4, .int (nI i)), (0, .ref (b 0)), (1, .int x), (2, .int y), (3, .int z)]) hx hb dX1_go_56 hl (Nat.le_of_ble_eq_true rfl) rfl (fun ls hl => ?_)
          refine lv_aload_n hx hb dX1_go_58 rfl (lv_at hl 2 rfl) ?_
          refine va_get (D := G) (ci := 1) (v := .ref (b 29)) (C := RX1) (T := TX1) (N := 33) hx hb hts in_X1 hown hK hP 0 rfl rfl 29 (Nat.le_of_ble_eq_true rfl) (hts _ q915) (fun _ h9 => h9) rfl dX1_go_59 ?_
          refine lv_iconst (v := 3) hx hb dX1_go_62 (by decide) ?_
          refine lv_iload hx hb dX1_go_63 (lv_at hl 1 rfl) ?_
          refine lv_imul hx hb dX1_go_65 ?_
          refine y_top (y := nI (3 * i)) (pk_mul 3 i) ?_
          refine y_iald (N := 3 * i) (f := E 29) hx hb hK hP 21 0 rfl rfl rfl (by omega) (by decide) dX1_go_66 ?_
          refine y_top (y := nI ax) hax9 ?_
          refine lv_iconst (v := 2) hx hb dX1_go_67 (by decide) ?_
          refine lv_iadd hx hb dX1_go_68 ?_
          refine y_top (y := nI (ax + 2)) (nI_add ax 2) ?_
          refine lv_iconst (v := 3) hx hb dX1_go_69 (by decide) ?_
          refine lv_irem hx hb dX1_go_70 (by decide) ?_
          refine y_top (y := nI ((ax + 2) % 3)) (pk_rem (a := ax + 2) (d := 3) (by omega) (by omega) (by omega)) ?_
          refine lv_istore (lv' := [(6, .int (nI ((ax + 2) % 3))), (5, .int (nI ((ax + 1) % 3))), (4, .int (nI i)), (0, .ref (b 0)), (1, .int x), (2, .int y), (3, .int z)]) hx hb dX1_go_71 hl (Nat.le_of_ble_eq_true rfl) rfl (fun ls hl => ?_)
          refine lv_aload_n hx hb dX1_go_73 rfl (lv_at hl 3 rfl) ?_
          refine va_get (D := G) (ci := 1) (v := .ref (b 29)) (C := RX1) (T := TX1) (N := 33) hx hb hts in_X1 hown hK hP 0 rfl rfl 29 (Nat.le_of_ble_eq_true rfl) (hts _ q915) (fun _ h9 => h9) rfl dX1_go_74 ?_
          refine lv_iconst (v := 3) hx hb dX1_go_77 (by decide) ?_
          refine lv_iload hx hb dX1_go_78 (lv_at hl 2 rfl) ?_
          refine lv_imul hx hb dX1_go_80 ?_
          refine y_top (y := nI (3 * i)) (pk_mul 3 i) ?_
          refine lv_iconst (v := 1) hx hb dX1_go_81 (by decide) ?_
          refine lv_iadd hx hb dX1_go_82 ?_
          refine y_top (y := nI ((3 * i) + 1)) (nI_add (3 * i) 1) ?_
          refine y_iald (N := (3 * i) + 1) (f := E 29) hx hb hK hP 21 0 rfl rfl rfl (by omega) (by decide) dX1_go_83 ?_
          refine lv_istore (lv' := [(7, .int ((E 29) ((3 * i) + 1))), (6, .int (nI ((ax + 2) % 3))), (5, .int (nI ((ax + 1) % 3))), (4, .int (nI i)), (0, .ref (b 0)), (1, .int x), (2, .int y), (3, .int z)]) hx hb dX1_go_84 hl (Nat.le_of_ble_eq_true rfl) rfl (fun ls hl => ?_)
          refine lv_aload_n hx hb dX1_go_86 rfl (lv_at hl 4 rfl) ?_
          refine va_get (D := G) (ci := 1) (v := .ref (b 30)) (C := RX1) (T := TX1) (N := 33) hx hb hts in_X1 hown hK hP 0 rfl rfl 30 (Nat.le_of_ble_eq_true rfl) (hts _ q916) (fun _ h9 => h9) rfl dX1_go_87 ?_
          refine lv_iload hx hb dX1_go_90 (lv_at hl 2 rfl) ?_
          refine y_iald (N := (ax + 1) % 3) (f := f) hx hb hK hP 22 0 rfl rfl rfl (by omega) (by decide) dX1_go_92 ?_
          refine lv_istore (lv' := [(8, .int (f ((ax + 1) % 3))), (7, .int ((E 29) ((3 * i) + 1))), (6, .int (nI ((ax + 2) % 3))), (5, .int (nI ((ax + 1) % 3))), (4, .int (nI i)), (0, .ref (b 0)), (1, .int x), (2, .int y), (3, .int z)]) hx hb dX1_go_93 hl (Nat.le_of_ble_eq_true rfl) rfl (fun ls hl => ?_)
          refine lv_aload_n hx hb dX1_go_95 rfl (lv_at hl 5 rfl) ?_
          refine va_get (D := G) (ci := 1) (v := .ref (b 30)) (C := RX1) (T := TX1) (N := 33) hx hb hts in_X1 hown hK hP 0 rfl rfl 30 (Nat.le_of_ble_eq_true rfl) (hts _ q916) (fun _ h9 => h9) rfl dX1_go_96 ?_
          refine lv_iload hx hb dX1_go_99 (lv_at hl 3 rfl) ?_
          refine lv_iload hx hb dX1_go_101 (lv_at hl 1 rfl) ?_
          refine lv_ineg hx hb dX1_go_103 ?_
          refine lv_aload_n hx hb dX1_go_104 rfl (lv_at hl 5 rfl) ?_
          refine va_get (D := G) (ci := 1) (v := .ref (b 30)) (C := RX1) (T := TX1) (N := 33) hx hb hts in_X1 hown hK hP 0 rfl rfl 30 (Nat.le_of_ble_eq_true rfl) (hts _ q916) (fun _ h9 => h9) rfl dX1_go_105 ?_
          refine lv_iload hx hb dX1_go_108 (lv_at hl 2 rfl) ?_
          refine y_iald (N := (ax + 2) % 3) (f := f) hx hb hK hP 22 0 rfl rfl rfl (by omega) (by decide) dX1_go_110 ?_
          refine lv_imul hx hb dX1_go_111 ?_
          refine y_iast (N := (ax + 1) % 3) (f := f) hx hb hK hP hD hS 22 0 rfl rfl rfl (by omega) (by decide) dX1_go_112 (fun H locs hP hD hS => ?_)
          have hP : va_P G CLS (MW b J (va_up (va_up E 30 f) 30 (upd f ((ax + 1) % 3) ((-((E 29) ((3 * i) + 1))) * (f ((ax + 2) % 3))))) d) H := hP
          have hD : va_D A (MW b J (va_up (va_up E 30 f) 30 (upd f ((ax + 1) % 3) ((-((E 29) ((3 * i) + 1))) * (f ((ax + 2) % 3))))) d) := hD
          refine lv_aload_n hx hb dX1_go_113 rfl (lv_at hl 5 rfl) ?_
          refine va_get (D := G) (ci := 1) (v := .ref (b 30)) (C := RX1) (T := TX1) (N := 33) hx hb hts in_X1 hown hK hP 0 rfl rfl 30 (Nat.le_of_ble_eq_true rfl) (hts _ q916) (fun _ h9 => h9) rfl dX1_go_114 ?_
          refine lv_iload hx hb dX1_go_117 (lv_at hl 2 rfl) ?_
          refine lv_iload hx hb dX1_go_119 (lv_at hl 1 rfl) ?_
          refine lv_iload hx hb dX1_go_121 (lv_at hl 0 rfl) ?_
          refine lv_imul hx hb dX1_go_123 ?_
          refine y_iast (N := (ax + 2) % 3) (f := (upd f ((ax + 1) % 3) ((-((E 29) ((3 * i) + 1))) * (f ((ax + 2) % 3))))) hx hb hK hP hD hS 22 0 rfl rfl rfl (by omega) (by decide) dX1_go_124 (fun H locs hP hD hS => ?_)
          have hP : va_P G CLS (MW b J (va_up (va_up (va_up E 30 f) 30 (upd f ((ax + 1) % 3) ((-((E 29) ((3 * i) + 1))) * (f ((ax + 2) % 3))))) 30 (upd (upd f ((ax + 1) % 3) ((-((E 29) ((3 * i) + 1))) * (f ((ax + 2) % 3)))) ((ax + 2) % 3) (((E 29) ((3 * i) + 1)) * (f ((ax + 1) % 3))))) d) H := hP
          have hD : va_D A (MW b J (va_up (va_up (va_up E 30 f) 30 (upd f ((ax + 1) % 3) ((-((E 29) ((3 * i) + 1))) * (f ((ax + 2) % 3))))) 30 (upd (upd f ((ax + 1) % 3) ((-((E 29) ((3 * i) + 1))) * (f ((ax + 2) % 3)))) ((ax + 2) % 3) (((E 29) ((3 * i) + 1)) * (f ((ax + 1) % 3))))) d) := hD
          refine lv_goto (tgt := 165) hx hb dX1_go_125 (by decide) ?_
          refine lv_iinc (v := nI (i + 1)) (lv' := [(4, .int (nI (i + 1))), (8, .int (f ((ax + 1) % 3))), (7, .int ((E 29) ((3 * i) + 1))), (6, .int (nI ((ax + 2) % 3))), (5, .int (nI ((ax + 1) % 3))), (0, .ref (b 0)), (1, .int x), (2, .int y), (3, .int z)]) hx hb dX1_go_165 hl (k := 4) rfl (nI_add i 1) (Nat.le_of_ble_eq_true rfl) rfl (fun ls hl => ?_)
          refine lv_goto (tgt := 24) hx hb dX1_go_168 (by decide) ?_
          exact ih_lp_1 (i + 1) (upd (upd f ((ax + 1) % 3) ((-((E 29) ((3 * i) + 1))) * (f ((ax + 2) % 3)))) ((ax + 2) % 3) (((E 29) ((3 * i) + 1)) * (f ((ax + 1) % 3)))) (by omega) (by omega) (by show _ = actS _ _ _ _ (goS (E 28) (E 29) (pt0 (E 30) x y z) i); rw [← hf, actS, if_neg c_3, hax9, cl_nI (show ax < 2 ^ 31 by omega)]) _ _ hP hD hS ls (lv_sub hl [0, 5, 6, 7, 8] rfl)
  exact lp_1 21 0 _ (by omega) (by omega) rfl _ _ hP hD hS ls (lv_sub hl [0, 1, 2, 3, 4] rfl)
set_option maxHeartbeats 400000 in
set_option maxRecDepth 100000 in
theorem metX1_whereOf (l : Launch) (G : va_G) (d : Nat → Nat) (sz : Nat) (b : Nat → Nat) (J : Nat → Int32) (E : Nat → Nat → Int32) (n w a : Nat) (hn20 : n ≤ 20) (hn : J 27 = nI n) (hax : ∀ k, k < n → ¬ E 28 k = 0 → ∃ a : Nat, a < 3 ∧ E 29 (3 * k) = nI a) (hw3 : w ≤ 3) (ha : a < 3) : Met l yX1_whereOf (ws_ yX1_whereOf cX1_whereOf 4 (some FieldType.int)) ({ frames := 1, cells := 0, slots := 0, locals := 28 } : Room) (va_Pc [.ref (b 0), .int (nI w), .int (nI a)] (pW G d sz (MW b J E d))) (va_Qi (fun (r : Int32) (u : MS) => r = whereV (E 28) (E 29) n w a ∧ ∃ f, u = (J, va_up E 30 f)) (fun (u : MS) t => bW G d (va_A (MW b J E d) sz) (MW b u.1 u.2 d) t) (va_A (MW b J E d) sz)) 0 0 (va_A (MW b J E d) sz) := by
  refine Met.ofW (cc := cX1_whereOf) (maxL := 4) (ret := (some FieldType.int)) (by decide) rfl ?_
  intro p e s m args below meth c s₁ B hml hv
  obtain ⟨rfl, hsz, hP, hK, hD0⟩ := hv
  have hx := B.exec
  have hb := B.bytes
  have hr := B.returns
  have hts := atoms_spec (ws := (ws_ yX1_whereOf cX1_whereOf 4 (some FieldType.int))) B.pre
  have hts : ∀ w ∈ lw_all, w.before _ s = true := fun w h => hts w (List.mem_cons_of_mem _ h)
  have hown : s.vm.findClass RX1 = some m.cls := findClass_of_methodNamed B.named
  have hlocks := B.notSynchronized
  subst hsz
  have hD := hD0.self (sz := s.heap.size)
  generalize hAe : va_A (MW b J E d) s.heap.size = A at hD ⊢
  have hA : ∀ q : Nat, s.heap.size ≤ q → A q := fun q h => by rw [← hAe]; exact Or.inr h
  have hS : va_S A s.heap s.heap [] := va_S.rf
  have hl := lv_entry ([.ref (b 0), .int (nI w), .int (nI a)]) (n := 4) (Nat.le_of_ble_eq_true rfl)
  rw [lg_entry_eq]
  generalize (lg_sl ([.ref (b 0), .int (nI w), .int (nI a)]) ++ List.replicate (4 - (lg_sl ([.ref (b 0), .int (nI w), .int (nI a)])).length) Slot.unset).toArray = ls at hl ⊢
  have hl : lv_has ls 4 [(0, .ref (b 0)), (1, .int (nI w)), (2, .int (nI a))] := hl
  have hP : va_P G CLS (MW b J E d) s.heap := hP
  refine lv_aload_n hx hb dX1_whereOf_0 rfl (lv_at hl 0 rfl) ?_
  refine lv_iconst (v := 0) hx hb dX1_whereOf_1 (by decide) ?_
  refine lv_iconst (v := 0) hx hb dX1_whereOf_2 (by decide) ?_
  refine lv_iconst (v := 0) hx hb dX1_whereOf_3 (by decide) ?_
  refine y_cVv (As := [.int 0, .int 0, .int 0]) (rest := []) (ci := 1) (q0 := 0) ⟨hx, hb, hml, hown, hts⟩ hK hP hD hS hA (metX1_go l G d s.heap.size b J E n 0 0 0 hn20 hn hax) (cwV 3 hts (lw_V q1149 q1151 qs31 q39 q1152) rfl rfl rfl (by decide +kernel) ⟨Nat.le_of_ble_eq_true rfl, Nat.le_of_ble_eq_true rfl⟩) rfl rfl rfl hl.1 rfl (lv_room (Nat.le_of_ble_eq_true rfl)) dX1_whereOf_4 ⟨Nat.le_of_ble_eq_true rfl, Nat.le_of_ble_eq_true rfl⟩ (fun u_3 H locs hw_2 hP hD hS => ?_)
  subst hw_2
  have hP : va_P G CLS (MW b J (va_up E 30 (goS (E 28) (E 29) (pt0 (E 30) 0 0 0) n)) d) H := hP
  have hD : va_D A (MW b J (va_up E 30 (goS (E 28) (E 29) (pt0 (E 30) 0 0 0) n)) d) := hD
  refine lv_aload_n hx hb dX1_whereOf_7 rfl (lv_at hl 0 rfl) ?_
  refine va_get (D := G) (ci := 1) (v := .ref (b 30)) (C := RX1) (T := TX1) (N := 33) hx hb hts in_X1 hown hK hP 0 rfl rfl 30 (Nat.le_of_ble_eq_true rfl) (hts _ q916) (fun _ h9 => h9) rfl dX1_whereOf_8 ?_
  refine lv_iload_n hx hb dX1_whereOf_11 rfl (lv_at hl 2 rfl) ?_
  refine y_iald (N := a) (f := (goS (E 28) (E 29) (pt0 (E 30) 0 0 0) n)) hx hb hK hP 22 0 rfl rfl rfl (by omega) (by decide) dX1_whereOf_12 ?_
  refine lv_istore_n (lv' := [(3, .int ((goS (E 28) (E 29) (pt0 (E 30) 0 0 0) n) a)), (0, .ref (b 0)), (1, .int (nI w)), (2, .int (nI a))]) hx hb dX1_whereOf_13 rfl hl (Nat.le_of_ble_eq_true rfl) rfl (fun ls hl => ?_)
  refine lv_iload_n hx hb dX1_whereOf_14 rfl (lv_at hl 2 rfl) ?_
  refine lv_if_ne (tgt := 20) hx hb dX1_whereOf_15 (by decide) (fun c_4 => ?_) (fun c_4 => ?_)
  · have c_4 : ¬ w = 0 := fun h => c_4 ((nI_eq (a := w) (b := 0) (by omega) (by omega)).mpr h)
    refine lv_aload_n hx hb dX1_whereOf_20 rfl (lv_at hl 1 rfl) ?_
    have hj_5 : ∀ (x0 : Int32) (y0 : x0 = if w = 1 then 1 else 0), W p l e (headSpec (ws_ yX1_whereOf cX1_whereOf 4 (some FieldType.int)) ({ frames := 1, cells := 0, slots := 0, locals := 28 } : Room)).room s m ([.ref (b 0), .int (nI w), .int (nI a)] : List Value).toArray below meth c H locs 0 0 (MQ below (va_Qi (fun (r : Int32) (u : MS) => r = whereV (E 28) (E 29) n w a ∧ ∃ f, u = (J, va_up E 30 f)) (fun (u : MS) t => bW G d A (MW b u.1 u.2 d) t) A) ([.ref (b 0), .int (nI w), .int (nI a)] : List Value).toArray s 0 0 A) (F0 m 31 ls [.int x0, .ref (b 0)]) := by
      intro x0 y0
      refine lv_iload_n hx hb dX1_whereOf_31 rfl (lv_at hl 2 rfl) ?_
      have hj_6 : ∀ (x1 : Int32) (y1 : x1 = if w = 2 then 1 else 0), W p l e (headSpec (ws_ yX1_whereOf cX1_whereOf 4 (some FieldType.int)) ({ frames := 1, cells := 0, slots := 0, locals := 28 } : Room)).room s m ([.ref (b 0), .int (nI w), .int (nI a)] : List Value).toArray below meth c H locs 0 0 (MQ below (va_Qi (fun (r : Int32) (u : MS) => r = whereV (E 28) (E 29) n w a ∧ ∃ f, u = (J, va_up E 30 f)) (fun (u : MS) t => bW G d A (MW b u.1 u.2 d) t) A) ([.ref (b 0), .int (nI w), .int (nI a)] : List Value).toArray s 0 0 A) (F0 m 41 ls [.int x1, .int x0, .ref (b 0)]) := by
        intro x1 y1
        refine lv_iload_n hx hb dX1_whereOf_41 rfl (lv_at hl 2 rfl) ?_
        have hj_7 : ∀ (x2 : Int32) (y2 : x2 = if w = 3 then 1 else 0), W p l e (headSpec (ws_ yX1_whereOf cX1_whereOf 4 (some FieldType.int)) ({ frames := 1, cells := 0, slots := 0, locals := 28 } : Room)).room s m ([.ref (b 0), .int (nI w), .int (nI a)] : List Value).toArray below meth c H locs 0 0 (MQ below (va_Qi (fun (r : Int32) (u : MS) => r = whereV (E 28) (E 29) n w a ∧ ∃ f, u = (J, va_up E 30 f)) (fun (u : MS) t => bW G d A (MW b u.1 u.2 d) t) A) ([.ref (b 0), .int (nI w), .int (nI a)] : List Value).toArray s 0 0 A) (F0 m 51 ls [.int x2, .int x1, .int x0, .ref (b 0)]) := by
          intro x2 y2
          refine y_cVv (As := [.int x0, .int x1, .int x2]) (rest := []) (ci := 1) (q0 := 0) ⟨hx, hb, hml, hown, hts⟩ hK hP hD hS hA (metX1_go l G d H.size b J (va_up E 30 (goS (E 28) (E 29) (pt0 (E 30) 0 0 0) n)) n x0 x1 x2 hn20 hn hax) (cwV 3 hts (lw_V q1149 q1151 qs31 q39 q1152) rfl rfl rfl (by decide +kernel) ⟨Nat.le_of_ble_eq_true rfl, Nat.le_of_ble_eq_true rfl⟩) rfl rfl rfl hl.1 rfl (lv_room (Nat.le_of_ble_eq_true rfl)) dX1_whereOf_51 ⟨Nat.le_of_ble_eq_true rfl, Nat.le_of_ble_eq_true rfl⟩ (fun u_10 H locs hw_9 hP hD hS => ?_)
          subst hw_9
          have hP : va_P G CLS (MW b J (va_up E 30 (goS (E 28) (E 29) (pt0 (goS (E 28) (E 29) (pt0 (E 30) 0 0 0) n) x0 x1 x2) n)) d) H := hP
          have hD : va_D A (MW b J (va_up E 30 (goS (E 28) (E 29) (pt0 (goS (E 28) (E 29) (pt0 (E 30) 0 0 0) n) x0 x1 x2) n)) d) := hD
          refine lv_aload_n hx hb dX1_whereOf_54 rfl (lv_at hl 1 rfl) ?_
          refine va_get (D := G) (ci := 1) (v := .ref (b 30)) (C := RX1) (T := TX1) (N := 33) hx hb hts in_X1 hown hK hP 0 rfl rfl 30 (Nat.le_of_ble_eq_true rfl) (hts _ q916) (fun _ h9 => h9) rfl dX1_whereOf_55 ?_
          refine lv_iload_n hx hb dX1_whereOf_58 rfl (lv_at hl 3 rfl) ?_
          refine y_iald (N := a) (f := (goS (E 28) (E 29) (pt0 (goS (E 28) (E 29) (pt0 (E 30) 0 0 0) n) x0 x1 x2) n)) hx hb hK hP 22 0 rfl rfl rfl (by omega) (by decide) dX1_whereOf_59 ?_
          refine lv_iload_n hx hb dX1_whereOf_60 rfl (lv_at hl 0 rfl) ?_
          refine lv_isub hx hb dX1_whereOf_61 ?_
          exact W.iret (v := ((goS (E 28) (E 29) (pt0 (goS (E 28) (E 29) (pt0 (E 30) 0 0 0) n) x0 x1 x2) n) a) - ((goS (E 28) (E 29) (pt0 (E 30) 0 0 0) n) a)) hx hb hr (fun t ht hW => ⟨⟨((goS (E 28) (E 29) (pt0 (goS (E 28) (E 29) (pt0 (E 30) 0 0 0) n) x0 x1 x2) n) a) - ((goS (E 28) (E 29) (pt0 (E 30) 0 0 0) n) a), (J, va_up E 30 (goS (E 28) (E 29) (pt0 (goS (E 28) (E 29) (pt0 (E 30) 0 0 0) n) x0 x1 x2) n)), rfl, ⟨by rw [whereV, if_neg c_4, ← y0, ← y1, ← y2, ← (goS_ext (pt0_ext (E 30) zF 0 0 0) n a ha)]; exact congrArg (· - _) (goS_ext (pt0_ext _ zF x0 x1 x2) n a ha), _, rfl⟩, by rw [ht]; exact hP, va_K.moved hW.alike hK, hD⟩, hS.F ht⟩) hS.2.2 dX1_whereOf_62
        refine lv_iconst (v := 3) hx hb dX1_whereOf_42 (by decide) ?_
        refine lv_icmp_ne (tgt := 50) hx hb dX1_whereOf_43 (by decide) (fun c_11 => ?_) (fun c_11 => ?_)
        · have c_11 : ¬ w = 3 := fun h => c_11 ((nI_eq (a := w) (b := 3) (by omega) (by omega)).mpr h)
          refine lv_iconst (v := 0) hx hb dX1_whereOf_50 (by decide) ?_
          exact hj_7 _ (if_neg c_11).symm
        · have c_11 : w = 3 := (nI_eq (a := w) (b := 3) (by omega) (by omega)).mp c_11
          refine lv_iconst (v := 1) hx hb dX1_whereOf_46 (by decide) ?_
          refine lv_goto (tgt := 51) hx hb dX1_whereOf_47 (by decide) ?_
          exact hj_7 _ (if_pos c_11).symm
      refine lv_iconst (v := 2) hx hb dX1_whereOf_32 (by decide) ?_
      refine lv_icmp_ne (tgt := 40) hx hb dX1_whereOf_33 (by decide) (fun c_12 => ?_) (fun c_12 => ?_)
      · have c_12 : ¬ w = 2 := fun h => c_12 ((nI_eq (a := w) (b := 2) (by omega) (by omega)).mpr h)
        refine lv_iconst (v := 0) hx hb dX1_whereOf_40 (by decide) ?_
        exact hj_6 _ (if_neg c_12).symm
      · have c_12 : w = 2 := (nI_eq (a := w) (b := 2) (by omega) (by omega)).mp c_12
        refine lv_iconst (v := 1) hx hb dX1_whereOf_36 (by decide) ?_
        refine lv_goto (tgt := 41) hx hb dX1_whereOf_37 (by decide) ?_
        exact hj_6 _ (if_pos c_12).symm
    refine lv_iload_n hx hb dX1_whereOf_21 rfl (lv_at hl 2 rfl) ?_
    refine lv_iconst (v := 1) hx hb dX1_whereOf_22 (by decide) ?_
    refine lv_icmp_ne (tgt := 30) hx hb dX1_whereOf_23 (by decide) (fun c_13 => ?_) (fun c_13 => ?_)
    · have c_13 : ¬ w = 1 := fun h => c_13 ((nI_eq (a := w) (b := 1) (by omega) (by omega)).mpr h)
      refine lv_iconst (v := 0) hx hb dX1_whereOf_30 (by decide) ?_
      exact hj_5 _ (if_neg c_13).symm
    · have c_13 : w = 1 := (nI_eq (a := w) (b := 1) (by omega) (by omega)).mp c_13
      refine lv_iconst (v := 1) hx hb dX1_whereOf_26 (by decide) ?_
      refine lv_goto (tgt := 31) hx hb dX1_whereOf_27 (by decide) ?_
      exact hj_5 _ (if_pos c_13).symm
  · have c_4 : w = 0 := (nI_eq (a := w) (b := 0) (by omega) (by omega)).mp c_4
    refine lv_iload_n hx hb dX1_whereOf_18 rfl (lv_at hl 0 rfl) ?_
    exact W.iret (v := (goS (E 28) (E 29) (pt0 (E 30) 0 0 0) n) a) hx hb hr (fun t ht hW => ⟨⟨(goS (E 28) (E 29) (pt0 (E 30) 0 0 0) n) a, (J, va_up E 30 (goS (E 28) (E 29) (pt0 (E 30) 0 0 0) n)), rfl, ⟨by rw [whereV, if_pos c_4]; exact (goS_ext (pt0_ext (E 30) zF 0 0 0) n a ha), _, rfl⟩, by rw [ht]; exact hP, va_K.moved hW.alike hK, hD⟩, hS.F ht⟩) hS.2.2 dX1_whereOf_19
set_option maxHeartbeats 400000 in
set_option maxRecDepth 100000 in
theorem metX1_where (l : Launch) (G : va_G) (d : Nat → Nat) (sz : Nat) (b : Nat → Nat) (J : Nat → Int32) (E : Nat → Nat → Int32) (n : Nat) (w a : Int32) (hn20 : n ≤ 20) (hn : J 27 = nI n) (hax : ∀ k, k < n → ¬ E 28 k = 0 → ∃ a : Nat, a < 3 ∧ E 29 (3 * k) = nI a) : Met l yX1_where (ws_ yX1_where cX1_where 3 (some FieldType.int)) ({ frames := 2, cells := 0, slots := 0, locals := 51 } : Room) (va_Pc [.ref (b 0), .int w, .int a] (pW G d sz (MW b J E d))) (va_Qi (fun (r : Int32) (u : MS) => ∃ f, (r, u) = mWhere n f (J, E) w a) (fun (u : MS) t => bW G d (va_A (MW b J E d) sz) (MW b u.1 u.2 d) t) (va_A (MW b J E d) sz)) 0 0 (va_A (MW b J E d) sz) := by
  refine Met.ofW (cc := cX1_where) (maxL := 3) (ret := (some FieldType.int)) (by decide) rfl ?_
  intro p e s m args below meth c s₁ B hml hv
  obtain ⟨rfl, hsz, hP, hK, hD0⟩ := hv
  have hx := B.exec
  have hb := B.bytes
  have hr := B.returns
  have hts := atoms_spec (ws := (ws_ yX1_where cX1_where 3 (some FieldType.int))) B.pre
  have hts : ∀ w ∈ lw_all, w.before _ s = true := fun w h => hts w (List.mem_cons_of_mem _ h)
  have hown : s.vm.findClass RX1 = some m.cls := findClass_of_methodNamed B.named
  have hlocks := B.notSynchronized
  subst hsz
  have hD := hD0.self (sz := s.heap.size)
  generalize hAe : va_A (MW b J E d) s.heap.size = A at hD ⊢
  have hA : ∀ q : Nat, s.heap.size ≤ q → A q := fun q h => by rw [← hAe]; exact Or.inr h
  have hS : va_S A s.heap s.heap [] := va_S.rf
  have hl := lv_entry ([.ref (b 0), .int w, .int a]) (n := 3) (Nat.le_of_ble_eq_true rfl)
  rw [lg_entry_eq]
  generalize (lg_sl ([.ref (b 0), .int w, .int a]) ++ List.replicate (3 - (lg_sl ([.ref (b 0), .int w, .int a])).length) Slot.unset).toArray = ls at hl ⊢
  have hl : lv_has ls 3 [(0, .ref (b 0)), (1, .int w), (2, .int a)] := hl
  have hP : va_P G CLS (MW b J E d) s.heap := hP
  refine lv_iload_n hx hb dX1_where_0 rfl (lv_at hl 1 rfl) ?_
  refine lv_iconst (v := 0) hx hb dX1_where_1 (by decide) ?_
  refine lv_iconst (v := 3) hx hb dX1_where_2 (by decide) ?_
  refine y_rS (As := [.int w, .int 0, .int 3]) (rest := []) ⟨hx, hb, hml, hown, hts⟩ hK (ws := []) (fun _ _ h => by cases h) (metX1_in l G d w 0 3) (va_cwS 3 hts (lw_S q994 q995 q39 q996) rfl rfl rfl (by decide +kernel) ⟨Nat.le_of_ble_eq_true rfl, Nat.le_of_ble_eq_true rfl⟩) rfl hl.1 rfl (lv_room (Nat.le_of_ble_eq_true rfl)) dX1_where_3 ⟨Nat.le_of_ble_eq_true rfl, Nat.le_of_ble_eq_true rfl⟩ (fun r_1 hr_2 => ?_)
  refine lv_if_eq (tgt := 32) hx hb dX1_where_6 (by decide) (fun c_3 => ?_) (fun c_3 => ?_)
  · have c_3 := bI_eq hr_2 c_3
    refine lv_iconst (v := (-1)) hx hb dX1_where_32 (by decide) ?_
    exact W.iret (v := (-1)) hx hb hr (fun t ht hW => ⟨⟨(-1), (J, E), rfl, ⟨zF, (if_neg (fun h => c_3 (h.1))).symm⟩, by rw [ht]; exact hP, va_K.moved hW.alike hK, hD⟩, hS.F ht⟩) hS.2.2 dX1_where_33
  · have c_3 := bI_ne hr_2 c_3
    refine lv_iload_n hx hb dX1_where_9 rfl (lv_at hl 2 rfl) ?_
    refine lv_iconst (v := 0) hx hb dX1_where_10 (by decide) ?_
    refine lv_iconst (v := 2) hx hb dX1_where_11 (by decide) ?_
    refine y_rS (As := [.int a, .int 0, .int 2]) (rest := []) ⟨hx, hb, hml, hown, hts⟩ hK (ws := []) (fun _ _ h => by cases h) (metX1_in l G d a 0 2) (va_cwS 3 hts (lw_S q994 q995 q39 q996) rfl rfl rfl (by decide +kernel) ⟨Nat.le_of_ble_eq_true rfl, Nat.le_of_ble_eq_true rfl⟩) rfl hl.1 rfl (lv_room (Nat.le_of_ble_eq_true rfl)) dX1_where_12 ⟨Nat.le_of_ble_eq_true rfl, Nat.le_of_ble_eq_true rfl⟩ (fun r_4 hr_5 => ?_)
    refine lv_if_eq (tgt := 32) hx hb dX1_where_15 (by decide) (fun c_6 => ?_) (fun c_6 => ?_)
    · have c_6 := bI_eq hr_5 c_6
      refine lv_iconst (v := (-1)) hx hb dX1_where_32 (by decide) ?_
      exact W.iret (v := (-1)) hx hb hr (fun t ht hW => ⟨⟨(-1), (J, E), rfl, ⟨zF, (if_neg (fun h => c_6 (h.2))).symm⟩, by rw [ht]; exact hP, va_K.moved hW.alike hK, hD⟩, hS.F ht⟩) hS.2.2 dX1_where_33
    · have c_6 := bI_ne hr_5 c_6
      obtain ⟨q, hq, rfl⟩ := inR_n (n := 3) (by decide) c_3
      obtain ⟨z, hz, rfl⟩ := inR_n (n := 2) (by decide) c_6
      refine lv_aload_n hx hb dX1_where_18 rfl (lv_at hl 0 rfl) ?_
      refine lv_aload_n hx hb dX1_where_19 rfl (lv_at hl 0 rfl) ?_
      refine lv_iload_n hx hb dX1_where_20 rfl (lv_at hl 1 rfl) ?_
      refine lv_iload_n hx hb dX1_where_21 rfl (lv_at hl 2 rfl) ?_
      refine y_cVi (As := [.int (nI q), .int (nI z)]) (rest := [.ref (b 0)]) (ci := 1) (q0 := 0) ⟨hx, hb, hml, hown, hts⟩ hK hP hD hS hA (metX1_whereOf l G d s.heap.size b J E n q z hn20 hn hax (by omega) (by omega)) (cwV 2 hts (lw_V q1145 q1147 qs30 q39 q1148) rfl rfl rfl (by decide +kernel) ⟨Nat.le_of_ble_eq_true rfl, Nat.le_of_ble_eq_true rfl⟩) rfl rfl rfl hl.1 rfl (lv_room (Nat.le_of_ble_eq_true rfl)) dX1_where_22 ⟨Nat.le_of_ble_eq_true rfl, Nat.le_of_ble_eq_true rfl⟩ (fun r_7 u_9 H locs hw_8 hP hD hS => ?_)
      obtain ⟨hr_10, pf_11, pf_11_⟩ := hw_8
      subst pf_11_
      have hP : va_P G CLS (MW b J (va_up E 30 pf_11) d) H := hP
      have hD : va_D A (MW b J (va_up E 30 pf_11) d) := hD
      refine lv_iconst (v := 1) hx hb dX1_where_25 (by decide) ?_
      refine y_cVi (As := [.int r_7, .int 1]) (rest := []) (ci := 1) (q0 := 0) ⟨hx, hb, hml, hown, hts⟩ hK hP hD hS hA (metX1_tell l G d H.size b J (va_up E 30 pf_11) r_7 1) (cwV 2 hts (lw_V q1153 q1155 qs32 q39 q1156) rfl rfl rfl (by decide +kernel) ⟨Nat.le_of_ble_eq_true rfl, Nat.le_of_ble_eq_true rfl⟩) rfl rfl rfl hl.1 rfl (lv_room (Nat.le_of_ble_eq_true rfl)) dX1_where_26 ⟨Nat.le_of_ble_eq_true rfl, Nat.le_of_ble_eq_true rfl⟩ (fun r_12 u_14 H locs hw_13 hP hD hS => ?_)
      obtain ⟨r_12_, u_14_⟩ := hw_13
      rw [r_12_]; subst u_14_
      have hP : va_P G CLS (MW b (upd J 2 r_7) (va_up E 30 pf_11) d) H := hP
      have hD : va_D A (MW b (upd J 2 r_7) (va_up E 30 pf_11) d) := hD
      refine lv_goto (tgt := 33) hx hb dX1_where_29 (by decide) ?_
      exact W.iret (v := 1) hx hb hr (fun t ht hW => ⟨⟨1, (upd J 2 r_7, va_up E 30 pf_11), rfl, ⟨_, by unfold mWhere; rw [if_pos ⟨c_3, c_6⟩, cl_nI (show q < 2 ^ 31 by omega), cl_nI (show z < 2 ^ 31 by omega), ← hr_10]⟩, by rw [ht]; exact hP, va_K.moved hW.alike hK, hD⟩, hS.F ht⟩) hS.2.2 dX1_where_33
set_option maxHeartbeats 400000 in
set_option maxRecDepth 100000 in
theorem metX1_even (l : Launch) (G : va_G) (d : Nat → Nat) (sz : Nat) (b : Nat → Nat) (J : Nat → Int32) (E : Nat → Nat → Int32) (n z : Nat) (hn40 : n ≤ 40) (hn0 : E 31 0 = nI n) (hz40 : z ≤ 40) (hz1 : E 31 1 = nI z) : Met l yX1_even (ws_ yX1_even cX1_even 8 (some FieldType.int)) ({ frames := 1, cells := 0, slots := 0, locals := 22 } : Room) (va_Pc [.ref (b 0)] (pW G d sz (MW b J E d))) (va_Qi (fun (r : Int32) (u : MS) => (r, u) = evenOp 31 32 n (J, E)) (fun (u : MS) t => bW G d (va_A (MW b J E d) sz) (MW b u.1 u.2 d) t) (va_A (MW b J E d) sz)) 0 0 (va_A (MW b J E d) sz) := by
  refine Met.ofW (cc := cX1_even) (maxL := 8) (ret := (some FieldType.int)) (by decide) rfl ?_
  intro p e s m args below meth c s₁ B hml hv
  obtain ⟨rfl, hsz, hP, hK, hD0⟩ := hv
  have hx := B.exec
  have hb := B.bytes
  have hr := B.returns
  have hts := atoms_spec (ws := (ws_ yX1_even cX1_even 8 (some FieldType.int))) B.pre
  have hts : ∀ w ∈ lw_all, w.before _ s = true := fun w h => hts w (List.mem_cons_of_mem _ h)
  have hown : s.vm.findClass RX1 = some m.cls := findClass_of_methodNamed B.named
  have hlocks := B.notSynchronized
  subst hsz
  have hD := hD0.self (sz := s.heap.size)
  generalize hAe : va_A (MW b J E d) s.heap.size = A at hD ⊢
  have hA : ∀ q : Nat, s.heap.size ≤ q → A q := fun q h => by rw [← hAe]; exact Or.inr h
  have hS : va_S A s.heap s.heap [] := va_S.rf
  have hl := lv_entry ([.ref (b 0)]) (n := 8) (Nat.le_of_ble_eq_true rfl)
  rw [lg_entry_eq]
  generalize (lg_sl ([.ref (b 0)]) ++ List.replicate (8 - (lg_sl ([.ref (b 0)])).length) Slot.unset).toArray = ls at hl ⊢
  have hl : lv_has ls 8 [(0, .ref (b 0))] := hl
  have hP : va_P G CLS (MW b J E d) s.heap := hP
  refine lv_aload_n hx hb dX1_even_0 rfl (lv_at hl 0 rfl) ?_
  refine va_get (D := G) (ci := 1) (v := .ref (b 31)) (C := RX1) (T := TX1) (N := 33) hx hb hts in_X1 hown hK hP 0 rfl rfl 31 (Nat.le_of_ble_eq_true rfl) (hts _ q917) (fun _ h9 => h9) rfl dX1_even_1 ?_
  refine lv_iconst (v := 0) hx hb dX1_even_4 (by decide) ?_
  refine y_iald (N := 0) (f := E 31) hx hb hK hP 23 0 rfl rfl rfl (by omega) (by decide) dX1_even_5 ?_
  refine y_top (y := nI n) hn0 ?_
  refine lv_istore_n (lv' := [(1, .int (nI n)), (0, .ref (b 0))]) hx hb dX1_even_6 rfl hl (Nat.le_of_ble_eq_true rfl) rfl (fun ls hl => ?_)
  refine lv_iload_n hx hb dX1_even_7 rfl (lv_at hl 0 rfl) ?_
  refine lv_if_eq (tgt := 21) hx hb dX1_even_8 (by decide) (fun c_1 => ?_) (fun c_1 => ?_)
  · have c_1 : n = 0 := (nI_eq (a := n) (b := 0) (by omega) (by omega)).mp c_1
    refine lv_bipush (v := (-4)) hx hb dX1_even_21 (by decide +kernel) ?_
    exact W.iret (v := (-4)) hx hb hr (fun t ht hW => ⟨⟨(-4), (J, E), rfl, (if_pos (Or.inl c_1)).symm, by rw [ht]; exact hP, va_K.moved hW.alike hK, hD⟩, hS.F ht⟩) hS.2.2 dX1_even_23
  · have c_1 : ¬ n = 0 := fun h => c_1 ((nI_eq (a := n) (b := 0) (by omega) (by omega)).mpr h)
    refine lv_iload_n hx hb dX1_even_11 rfl (lv_at hl 0 rfl) ?_
    refine lv_aload_n hx hb dX1_even_12 rfl (lv_at hl 1 rfl) ?_
    refine va_get (D := G) (ci := 1) (v := .ref (b 31)) (C := RX1) (T := TX1) (N := 33) hx hb hts in_X1 hown hK hP 0 rfl rfl 31 (Nat.le_of_ble_eq_true rfl) (hts _ q917) (fun _ h9 => h9) rfl dX1_even_13 ?_
    refine lv_iconst (v := 1) hx hb dX1_even_16 (by decide) ?_
    refine y_iald (N := 1) (f := E 31) hx hb hK hP 23 0 rfl rfl rfl (by omega) (by decide) dX1_even_17 ?_
    refine y_top (y := nI z) hz1 ?_
    refine lv_icmp_eq (tgt := 24) hx hb dX1_even_18 (by decide) (fun c_2 => ?_) (fun c_2 => ?_)
    · have c_2 : n = z := (nI_eq (a := n) (b := z) (by omega) (by omega)).mp c_2
      refine lv_bipush (v := (-9)) hx hb dX1_even_24 (by decide +kernel) ?_
      refine lv_istore_n (lv' := [(2, .int (-9)), (1, .int (nI n)), (0, .ref (b 0))]) hx hb dX1_even_26 rfl hl (Nat.le_of_ble_eq_true rfl) rfl (fun ls hl => ?_)
      refine lv_iconst (v := 0) hx hb dX1_even_27 (by decide) ?_
      refine lv_istore_n (lv' := [(3, .int 0), (2, .int (-9)), (1, .int (nI n)), (0, .ref (b 0))]) hx hb dX1_even_28 rfl hl (Nat.le_of_ble_eq_true rfl) rfl (fun ls hl => ?_)
      refine lv_iconst (v := 0) hx hb dX1_even_29 (by decide) ?_
      refine lv_istore (lv' := [(4, .int 0), (3, .int 0), (2, .int (-9)), (1, .int (nI n)), (0, .ref (b 0))]) hx hb dX1_even_30 hl (Nat.le_of_ble_eq_true rfl) rfl (fun ls hl => ?_)
      have n0 : 0 < n := by omega
      have lp_3 : ∀ (fu : Nat) (i : Nat) (be le : Int32) (hi : i ≤ n) (hm : n < i + fu) (hbl : (be, le) = bstV (E 32) n i) (ls : Array Slot) (hl : lv_has ls 8 [(4, .int (nI i)), (3, .int le), (2, .int be), (1, .int (nI n)), (0, .ref (b 0))]), W p l e (headSpec (ws_ yX1_even cX1_even 8 (some FieldType.int)) ({ frames := 1, cells := 0, slots := 0, locals := 22 } : Room)).room s m ([.ref (b 0)] : List Value).toArray below meth c s.heap [] 0 0 (MQ below (va_Qi (fun (r : Int32) (u : MS) => (r, u) = evenOp 31 32 n (J, E)) (fun (u : MS) t => bW G d A (MW b u.1 u.2 d) t) A) ([.ref (b 0)] : List Value).toArray s 0 0 A) (F0 m 32 ls []) := by
        intro fu
        induction fu with
        | zero =>
          intro i be le hi hm hbl ls hl
          exfalso; omega
        | succ fu ih_lp_3 =>
          intro i be le hi hm hbl ls hl
          refine lv_iload hx hb dX1_even_32 (lv_at hl 0 rfl) ?_
          refine lv_iload_n hx hb dX1_even_34 rfl (lv_at hl 3 rfl) ?_
          refine lv_icmp_ge (tgt := 121) hx hb dX1_even_35 (by decide) (fun c_4 => ?_) (fun c_4 => ?_)
          · have c_4 : n ≤ i := (nI_leI (a := n) (b := i) (by omega) (by omega)).mp c_4
            refine lv_aload_n hx hb dX1_even_121 rfl (lv_at hl 4 rfl) ?_
            refine lv_iload_n hx hb dX1_even_122 rfl (lv_at hl 1 rfl) ?_
            refine lv_iload_n hx hb dX1_even_123 rfl (lv_at hl 2 rfl) ?_
            refine y_cVi (As := [.int le, .int be]) (rest := []) (ci := 1) (q0 := 0) ⟨hx, hb, hml, hown, hts⟩ hK hP hD hS hA (metX1_tell l G d s.heap.size b J E le be) (cwV 2 hts (lw_V q1153 q1155 qs32 q39 q1156) rfl rfl rfl (by decide +kernel) ⟨Nat.le_of_ble_eq_true rfl, Nat.le_of_ble_eq_true rfl⟩) rfl rfl rfl hl.1 rfl (lv_room (Nat.le_of_ble_eq_true rfl)) dX1_even_124 ⟨Nat.le_of_ble_eq_true rfl, Nat.le_of_ble_eq_true rfl⟩ (fun r_5 u_7 H locs hw_6 hP hD hS => ?_)
            obtain ⟨r_5_, u_7_⟩ := hw_6
            rw [r_5_]; subst u_7_
            have hP : va_P G CLS (MW b (upd J 2 le) E d) H := hP
            have hD : va_D A (MW b (upd J 2 le) E d) := hD
            have e9 : i = n := by omega
            rw [e9] at hbl
            exact W.iret (v := be) hx hb hr (fun t ht hW => ⟨⟨be, (upd J 2 le, E), rfl, by unfold evenOp; rw [if_neg (fun h => h.elim (by omega) (fun q => q (by show nI n = E 31 1; rw [hz1, show z = n by omega]))), ← hbl], by rw [ht]; exact hP, va_K.moved hW.alike hK, hD⟩, hS.F ht⟩) hS.2.2 dX1_even_127
          · have c_4 : ¬ n ≤ i := fun h => c_4 ((nI_leI (a := n) (b := i) (by omega) (by omega)).mpr h)
            refine lv_iconst (v := 0) hx hb dX1_even_38 (by decide) ?_
            refine lv_istore (lv' := [(5, .int 0), (4, .int (nI i)), (3, .int le), (2, .int be), (1, .int (nI n)), (0, .ref (b 0))]) hx hb dX1_even_39 hl (Nat.le_of_ble_eq_true rfl) rfl (fun ls hl => ?_)
            refine lv_iconst (v := 0) hx hb dX1_even_41 (by decide) ?_
            refine lv_istore (lv' := [(6, .int 0), (5, .int 0), (4, .int (nI i)), (3, .int le), (2, .int be), (1, .int (nI n)), (0, .ref (b 0))]) hx hb dX1_even_42 hl (Nat.le_of_ble_eq_true rfl) rfl (fun ls hl => ?_)
            have lp_8 : ∀ (fu : Nat) (q : Nat) (sm : Int32) (hq : q ≤ n) (hm2 : n < q + fu) (hs : sm = sumR (fun q => absI (E 32 q - E 32 (40 + (q + i) % n))) q) (ls : Array Slot) (hl : lv_has ls 8 [(6, .int (nI q)), (5, .int sm), (4, .int (nI i)), (3, .int le), (2, .int be), (1, .int (nI n)), (0, .ref (b 0))]), W p l e (headSpec (ws_ yX1_even cX1_even 8 (some FieldType.int)) ({ frames := 1, cells := 0, slots := 0, locals := 22 } : Room)).room s m ([.ref (b 0)] : List Value).toArray below meth c s.heap [] 0 0 (MQ below (va_Qi (fun (r : Int32) (u : MS) => (r, u) = evenOp 31 32 n (J, E)) (fun (u : MS) t => bW G d A (MW b u.1 u.2 d) t) A) ([.ref (b 0)] : List Value).toArray s 0 0 A) (F0 m 44 ls []) := by
              intro fu
              induction fu with
              | zero =>
                intro q sm hq hm2 hs ls hl
                exfalso; omega
              | succ fu ih_lp_8 =>
                intro q sm hq hm2 hs ls hl
                refine lv_iload hx hb dX1_even_44 (lv_at hl 0 rfl) ?_
                refine lv_iload_n hx hb dX1_even_46 rfl (lv_at hl 5 rfl) ?_
                refine lv_icmp_ge (tgt := 99) hx hb dX1_even_47 (by decide) (fun c_9 => ?_) (fun c_9 => ?_)
                · have c_9 : n ≤ q := (nI_leI (a := n) (b := q) (by omega) (by omega)).mp c_9
                  have hd : sm = difV (E 32) n i := by rw [hs, difV, show q = n by omega]
                  refine lv_iload_n hx hb dX1_even_99 rfl (lv_at hl 4 rfl) ?_
                  refine lv_if_lt (tgt := 109) hx hb dX1_even_100 (by decide) (fun c_10 => ?_) (fun c_10 => ?_)
                  · refine lv_iload hx hb dX1_even_109 (lv_at hl 2 rfl) ?_
                    refine lv_istore_n (lv' := [(2, .int (nI i)), (6, .int (nI q)), (5, .int sm), (4, .int (nI i)), (3, .int le), (1, .int (nI n)), (0, .ref (b 0))]) hx hb dX1_even_111 rfl hl (Nat.le_of_ble_eq_true rfl) rfl (fun ls hl => ?_)
                    refine lv_iload hx hb dX1_even_112 (lv_at hl 2 rfl) ?_
                    refine lv_istore_n (lv' := [(3, .int sm), (2, .int (nI i)), (6, .int (nI q)), (5, .int sm), (4, .int (nI i)), (1, .int (nI n)), (0, .ref (b 0))]) hx hb dX1_even_114 rfl hl (Nat.le_of_ble_eq_true rfl) rfl (fun ls hl => ?_)
                    refine lv_iinc (v := nI (i + 1)) (lv' := [(4, .int (nI (i + 1))), (3, .int sm), (2, .int (nI i)), (6, .int (nI q)), (5, .int sm), (1, .int (nI n)), (0, .ref (b 0))]) hx hb dX1_even_115 hl (k := 4) rfl (nI_add i 1) (Nat.le_of_ble_eq_true rfl) rfl (fun ls hl => ?_)
                    refine lv_goto (tgt := 32) hx hb dX1_even_118 (by decide) ?_
                    exact ih_lp_3 (i + 1) _ _ (by omega) (by omega) (by rw [bstV, ← hbl, if_pos (Or.inl c_10), hd]) ls (lv_sub hl [0, 1, 2, 5, 6] rfl)
                  · refine lv_iload hx hb dX1_even_103 (lv_at hl 1 rfl) ?_
                    refine lv_iload_n hx hb dX1_even_105 rfl (lv_at hl 3 rfl) ?_
                    refine lv_icmp_ge (tgt := 115) hx hb dX1_even_106 (by decide) (fun c_11 => ?_) (fun c_11 => ?_)
                    · refine lv_iinc (v := nI (i + 1)) (lv' := [(4, .int (nI (i + 1))), (6, .int (nI q)), (5, .int sm), (3, .int le), (2, .int be), (1, .int (nI n)), (0, .ref (b 0))]) hx hb dX1_even_115 hl (k := 2) rfl (nI_add i 1) (Nat.le_of_ble_eq_true rfl) rfl (fun ls hl => ?_)
                      refine lv_goto (tgt := 32) hx hb dX1_even_118 (by decide) ?_
                      exact ih_lp_3 (i + 1) _ _ (by omega) (by omega) (by rw [bstV, ← hbl, if_neg (fun h => h.elim c_10 (fun q => Int32.not_lt.mpr c_11 (by rw [hd]; exact q)))]) ls (lv_sub hl [0, 3, 4, 5, 6] rfl)
                    · refine lv_iload hx hb dX1_even_109 (lv_at hl 2 rfl) ?_
                      refine lv_istore_n (lv' := [(2, .int (nI i)), (6, .int (nI q)), (5, .int sm), (4, .int (nI i)), (3, .int le), (1, .int (nI n)), (0, .ref (b 0))]) hx hb dX1_even_111 rfl hl (Nat.le_of_ble_eq_true rfl) rfl (fun ls hl => ?_)
                      refine lv_iload hx hb dX1_even_112 (lv_at hl 2 rfl) ?_
                      refine lv_istore_n (lv' := [(3, .int sm), (2, .int (nI i)), (6, .int (nI q)), (5, .int sm), (4, .int (nI i)), (1, .int (nI n)), (0, .ref (b 0))]) hx hb dX1_even_114 rfl hl (Nat.le_of_ble_eq_true rfl) rfl (fun ls hl => ?_)
                      refine lv_iinc (v := nI (i + 1)) (lv' := [(4, .int (nI (i + 1))), (3, .int sm), (2, .int (nI i)), (6, .int (nI q)), (5, .int sm), (1, .int (nI n)), (0, .ref (b 0))]) hx hb dX1_even_115 hl (k := 4) rfl (nI_add i 1) (Nat.le_of_ble_eq_true rfl) rfl (fun ls hl => ?_)
                      refine lv_goto (tgt := 32) hx hb dX1_even_118 (by decide) ?_
                      exact ih_lp_3 (i + 1) _ _ (by omega) (by omega) (by rw [bstV, ← hbl, ← hd, if_pos (Or.inr (Int32.not_le.mp c_11))]) ls (lv_sub hl [0, 1, 2, 5, 6] rfl)
                · have c_9 : ¬ n ≤ q := fun h => c_9 ((nI_leI (a := n) (b := q) (by omega) (by omega)).mpr h)
                  refine lv_aload_n hx hb dX1_even_50 rfl (lv_at hl 6 rfl) ?_
                  refine va_get (D := G) (ci := 1) (v := .ref (b 32)) (C := RX1) (T := TX1) (N := 33) hx hb hts in_X1 hown hK hP 0 rfl rfl 32 (Nat.le_of_ble_eq_true rfl) (hts _ q918) (fun _ h9 => h9) rfl dX1_even_51 ?_
                  refine lv_iload hx hb dX1_even_54 (lv_at hl 0 rfl) ?_
                  refine y_iald (N := q) (f := E 32) hx hb hK hP 24 0 rfl rfl rfl (by omega) (by decide) dX1_even_56 ?_
                  refine lv_aload_n hx hb dX1_even_57 rfl (lv_at hl 6 rfl) ?_
                  refine va_get (D := G) (ci := 1) (v := .ref (b 32)) (C := RX1) (T := TX1) (N := 33) hx hb hts in_X1 hown hK hP 0 rfl rfl 32 (Nat.le_of_ble_eq_true rfl) (hts _ q918) (fun _ h9 => h9) rfl dX1_even_58 ?_
                  refine lv_bipush (v := 40) hx hb dX1_even_61 (by decide +kernel) ?_
                  refine lv_iload hx hb dX1_even_63 (lv_at hl 0 rfl) ?_
                  refine lv_iload hx hb dX1_even_65 (lv_at hl 2 rfl) ?_
                  refine lv_iadd hx hb dX1_even_67 ?_
                  refine y_top (y := nI (q + i)) (nI_add q i) ?_
                  refine lv_iload_n hx hb dX1_even_68 rfl (lv_at hl 5 rfl) ?_
                  refine lv_irem hx hb dX1_even_69 (nI_ne0 (by omega) (by omega)) ?_
                  refine y_top (y := nI ((q + i) % n)) (pk_rem (a := q + i) (d := n) (by omega) (by omega) (by omega)) ?_
                  refine lv_iadd hx hb dX1_even_70 ?_
                  refine y_top (y := nI (40 + ((q + i) % n))) (nI_add 40 ((q + i) % n)) ?_
                  refine y_iald (N := 40 + ((q + i) % n)) (f := E 32) hx hb hK hP 24 0 rfl rfl rfl (by have h9 := Nat.mod_lt (q + i) n0; omega) (by decide) dX1_even_71 ?_
                  refine lv_isub hx hb dX1_even_72 ?_
                  refine lv_istore (lv' := [(7, .int (((E 32) q) - ((E 32) (40 + ((q + i) % n))))), (6, .int (nI q)), (5, .int sm), (4, .int (nI i)), (3, .int le), (2, .int be), (1, .int (nI n)), (0, .ref (b 0))]) hx hb dX1_even_73 hl (Nat.le_of_ble_eq_true rfl) rfl (fun ls hl => ?_)
                  refine lv_iload hx hb dX1_even_75 (lv_at hl 2 rfl) ?_
                  refine lv_iload hx hb dX1_even_77 (lv_at hl 0 rfl) ?_
                  refine lv_if_ge (tgt := 88) hx hb dX1_even_79 (by decide) (fun c_12 => ?_) (fun c_12 => ?_)
                  · refine lv_iload hx hb dX1_even_88 (lv_at hl 0 rfl) ?_
                    refine lv_iadd hx hb dX1_even_90 ?_
                    refine lv_istore (lv' := [(5, .int (sm + (((E 32) q) - ((E 32) (40 + ((q + i) % n)))))), (7, .int (((E 32) q) - ((E 32) (40 + ((q + i) % n))))), (6, .int (nI q)), (4, .int (nI i)), (3, .int le), (2, .int be), (1, .int (nI n)), (0, .ref (b 0))]) hx hb dX1_even_91 hl (Nat.le_of_ble_eq_true rfl) rfl (fun ls hl => ?_)
                    refine lv_iinc (v := nI (q + 1)) (lv' := [(6, .int (nI (q + 1))), (5, .int (sm + (((E 32) q) - ((E 32) (40 + ((q + i) % n)))))), (7, .int (((E 32) q) - ((E 32) (40 + ((q + i) % n))))), (4, .int (nI i)), (3, .int le), (2, .int be), (1, .int (nI n)), (0, .ref (b 0))]) hx hb dX1_even_93 hl (k := 2) rfl (nI_add q 1) (Nat.le_of_ble_eq_true rfl) rfl (fun ls hl => ?_)
                    refine lv_goto (tgt := 44) hx hb dX1_even_96 (by decide) ?_
                    exact ih_lp_8 (q + 1) _ (by omega) (by omega) (by rw [hs]; show _ = sumR (fun q => absI (E 32 q - E 32 (40 + (q + i) % n))) q + absI (E 32 q - E 32 (40 + (q + i) % n)); rw [absI, if_neg (Int32.not_lt.mpr c_12)]) ls (lv_sub hl [0, 1, 3, 4, 5, 6, 7] rfl)
                  · refine lv_iload hx hb dX1_even_82 (lv_at hl 0 rfl) ?_
                    refine lv_ineg hx hb dX1_even_84 ?_
                    refine lv_goto (tgt := 90) hx hb dX1_even_85 (by decide) ?_
                    refine lv_iadd hx hb dX1_even_90 ?_
                    refine lv_istore (lv' := [(5, .int (sm + (-(((E 32) q) - ((E 32) (40 + ((q + i) % n))))))), (7, .int (((E 32) q) - ((E 32) (40 + ((q + i) % n))))), (6, .int (nI q)), (4, .int (nI i)), (3, .int le), (2, .int be), (1, .int (nI n)), (0, .ref (b 0))]) hx hb dX1_even_91 hl (Nat.le_of_ble_eq_true rfl) rfl (fun ls hl => ?_)
                    refine lv_iinc (v := nI (q + 1)) (lv' := [(6, .int (nI (q + 1))), (5, .int (sm + (-(((E 32) q) - ((E 32) (40 + ((q + i) % n))))))), (7, .int (((E 32) q) - ((E 32) (40 + ((q + i) % n))))), (4, .int (nI i)), (3, .int le), (2, .int be), (1, .int (nI n)), (0, .ref (b 0))]) hx hb dX1_even_93 hl (k := 2) rfl (nI_add q 1) (Nat.le_of_ble_eq_true rfl) rfl (fun ls hl => ?_)
                    refine lv_goto (tgt := 44) hx hb dX1_even_96 (by decide) ?_
                    exact ih_lp_8 (q + 1) _ (by omega) (by omega) (by rw [hs]; show _ = sumR (fun q => absI (E 32 q - E 32 (40 + (q + i) % n))) q + absI (E 32 q - E 32 (40 + (q + i) % n)); rw [absI, if_pos (Int32.not_le.mp c_12)]) ls (lv_sub hl [0, 1, 3, 4, 5, 6, 7] rfl)
            exact lp_8 41 0 _ (by omega) (by omega) rfl ls (lv_sub hl [0, 1, 2, 3, 4, 5, 6] rfl)
      exact lp_3 41 0 _ _ (by omega) (by omega) rfl ls (lv_sub hl [0, 1, 2, 3, 4] rfl)
    · have c_2 : ¬ n = z := fun h => c_2 ((nI_eq (a := n) (b := z) (by omega) (by omega)).mpr h)
      refine lv_bipush (v := (-4)) hx hb dX1_even_21 (by decide +kernel) ?_
      exact W.iret (v := (-4)) hx hb hr (fun t ht hW => ⟨⟨(-4), (J, E), rfl, (if_pos (Or.inr (by show ¬ nI n = E 31 1; rw [hz1]; exact fun h => c_2 ((nI_eq (by omega) (by omega)).mp h)))).symm, by rw [ht]; exact hP, va_K.moved hW.alike hK, hD⟩, hS.F ht⟩) hS.2.2 dX1_even_23
