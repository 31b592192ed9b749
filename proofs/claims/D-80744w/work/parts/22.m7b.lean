set_option maxHeartbeats 400000 in
set_option maxRecDepth 100000 in
theorem metX1_digest (l : Launch) (G : va_G) (d : Nat → Nat) (sz : Nat) (b : Nat → Nat) (J : Nat → Int32) (E : Nat → Nat → Int32) (rn pn n en : Nat) (h6 : J 6 = nI rn) (h13 : J 13 = nI pn) (h27 : J 27 = nI n) (h11 : J 11 = nI en) (hp16 : pn ≤ 16) (hn20 : n ≤ 20) (hax : ∀ k, k < n → ¬ E 28 k = 0 → ∃ a : Nat, a < 3 ∧ E 29 (3 * k) = nI a) (szf : Nat → Nat) (hsz : ∀ w, w < 2 → szf w ≤ 40 ∧ E 31 w = nI (szf w)) : Met l yX1_digest (ws_ yX1_digest cX1_digest 5 (some FieldType.long)) ({ frames := 2, cells := 0, slots := 0, locals := 51 } : Room) (va_Pc [.ref (b 0)] (pW G d sz (MW b J E d))) (va_Ql (fun (r : Int64) (u : MS) => r = digV (fun k => countV (E 3) (E 21) rn pn n en (nI k)) (E 3) (fun k j => E 4 (96 * k + j)) (pM E) pn szf (E 32) (E 28) (E 29) n ∧ ∃ f, u = (J, va_up E 30 f)) (fun (u : MS) t => bW G d (va_A (MW b J E d) sz) (MW b u.1 u.2 d) t) (va_A (MW b J E d) sz)) 0 0 (va_A (MW b J E d) sz) := by
  refine Met.ofW (cc := cX1_digest) (maxL := 5) (ret := (some FieldType.long)) (by decide) rfl ?_
  intro p e s m args below meth c s₁ B hml hv
  obtain ⟨rfl, hsz, hP, hK, hD0⟩ := hv
  have hx := B.exec
  have hb := B.bytes
  have hr := B.returns
  have hts := atoms_spec (ws := (ws_ yX1_digest cX1_digest 5 (some FieldType.long))) B.pre
  have hts : ∀ w ∈ lw_all, w.before _ s = true := fun w h => hts w (List.mem_cons_of_mem _ h)
  have hown : s.vm.findClass RX1 = some m.cls := findClass_of_methodNamed B.named
  have hlocks := B.notSynchronized
  subst hsz
  have hD := hD0.self (sz := s.heap.size)
  generalize hAe : va_A (MW b J E d) s.heap.size = A at hD ⊢
  have hA : ∀ q : Nat, s.heap.size ≤ q → A q := fun q h => by rw [← hAe]; exact Or.inr h
  have hS : va_S A s.heap s.heap [] := va_S.rf
  have hl := lv_entry ([.ref (b 0)]) (n := 5) (Nat.le_of_ble_eq_true rfl)
  rw [lg_entry_eq]
  generalize (lg_sl ([.ref (b 0)]) ++ List.replicate (5 - (lg_sl ([.ref (b 0)])).length) Slot.unset).toArray = ls at hl ⊢
  have hl : lv_has ls 5 [(0, .ref (b 0))] := hl
  have hP : va_P G CLS (MW b J E d) s.heap := hP
  refine lv_ldc2 (v := 17) hx hb hown (hts _ q1197) dX1_digest_0 ?_
  refine lv_lstore_n (lv' := [(1, .long 17), (0, .ref (b 0))]) hx hb dX1_digest_3 rfl hl (Nat.le_of_ble_eq_true rfl) rfl (fun ls hl => ?_)
  refine lv_iconst (v := 0) hx hb dX1_digest_4 (by decide) ?_
  refine lv_istore_n (lv' := [(3, .int 0), (1, .long 17), (0, .ref (b 0))]) hx hb dX1_digest_5 rfl hl (Nat.le_of_ble_eq_true rfl) rfl (fun ls hl => ?_)
  have lp_1 : ∀ (fu : Nat) (i : Nat) (h : Int64) (hi : i ≤ 6) (hm : 6 < i + fu) (hh : h = dgI (fun k => countV (E 3) (E 21) rn pn n en (nI k)) 17 i) (ls : Array Slot) (hl : lv_has ls 5 [(3, .int (nI i)), (1, .long h), (0, .ref (b 0))]), W p l e (headSpec (ws_ yX1_digest cX1_digest 5 (some FieldType.long)) ({ frames := 2, cells := 0, slots := 0, locals := 51 } : Room)).room s m ([.ref (b 0)] : List Value).toArray below meth c s.heap [] 0 0 (MQ below (va_Ql (fun (r : Int64) (u : MS) => r = digV (fun k => countV (E 3) (E 21) rn pn n en (nI k)) (E 3) (fun k j => E 4 (96 * k + j)) (pM E) pn szf (E 32) (E 28) (E 29) n ∧ ∃ f, u = (J, va_up E 30 f)) (fun (u : MS) t => bW G d A (MW b u.1 u.2 d) t) A) ([.ref (b 0)] : List Value).toArray s 0 0 A) (F0 m 6 ls []) := by
    intro fu
    induction fu with
    | zero =>
      intro i h hi hm hh ls hl
      exfalso; omega
    | succ fu ih_lp_1 =>
      intro i h hi hm hh ls hl
      refine lv_iload_n hx hb dX1_digest_6 rfl (lv_at hl 0 rfl) ?_
      refine lv_iconst (v := 5) hx hb dX1_digest_7 (by decide) ?_
      refine lv_icmp_gt (tgt := 30) hx hb dX1_digest_8 (by decide) (fun c_2 => ?_) (fun c_2 => ?_)
      · have c_2 : 5 < i := (nI_ltI (a := 5) (b := i) (by omega) (by omega)).mp c_2
        have d1 : h = dgI (fun k => countV (E 3) (E 21) rn pn n en (nI k)) 17 6 := by rw [hh, show i = 6 by omega]
        refine lv_iconst (v := 0) hx hb dX1_digest_30 (by decide) ?_
        refine lv_istore_n (lv' := [(3, .int 0), (1, .long h), (0, .ref (b 0))]) hx hb dX1_digest_31 rfl hl (Nat.le_of_ble_eq_true rfl) rfl (fun ls hl => ?_)
        have lp_3 : ∀ (fu : Nat) (q : Nat) (h : Int64) (hq : q ≤ 4) (hm2 : 4 < q + fu) (hh : h = dgR (E 3) (fun k j => E 4 (96 * k + j)) (dgI (fun k => countV (E 3) (E 21) rn pn n en (nI k)) 17 6) q) (ls : Array Slot) (hl : lv_has ls 5 [(3, .int (nI q)), (1, .long h), (0, .ref (b 0))]), W p l e (headSpec (ws_ yX1_digest cX1_digest 5 (some FieldType.long)) ({ frames := 2, cells := 0, slots := 0, locals := 51 } : Room)).room s m ([.ref (b 0)] : List Value).toArray below meth c s.heap [] 0 0 (MQ below (va_Ql (fun (r : Int64) (u : MS) => r = digV (fun k => countV (E 3) (E 21) rn pn n en (nI k)) (E 3) (fun k j => E 4 (96 * k + j)) (pM E) pn szf (E 32) (E 28) (E 29) n ∧ ∃ f, u = (J, va_up E 30 f)) (fun (u : MS) t => bW G d A (MW b u.1 u.2 d) t) A) ([.ref (b 0)] : List Value).toArray s 0 0 A) (F0 m 32 ls []) := by
          intro fu
          induction fu with
          | zero =>
            intro q h hq hm2 hh ls hl
            exfalso; omega
          | succ fu ih_lp_3 =>
            intro q h hq hm2 hh ls hl
            refine lv_iload_n hx hb dX1_digest_32 rfl (lv_at hl 0 rfl) ?_
            refine lv_iconst (v := 4) hx hb dX1_digest_33 (by decide) ?_
            refine lv_icmp_ge (tgt := 105) hx hb dX1_digest_34 (by decide) (fun c_4 => ?_) (fun c_4 => ?_)
            · have c_4 : 4 ≤ q := (nI_leI (a := 4) (b := q) (by omega) (by omega)).mp c_4
              have d2 : h = dgR (E 3) (fun k j => E 4 (96 * k + j)) (dgI (fun k => countV (E 3) (E 21) rn pn n en (nI k)) 17 6) 4 := by rw [hh, show q = 4 by omega]
              refine lv_iconst (v := 0) hx hb dX1_digest_105 (by decide) ?_
              refine lv_istore_n (lv' := [(3, .int 0), (1, .long h), (0, .ref (b 0))]) hx hb dX1_digest_106 rfl hl (Nat.le_of_ble_eq_true rfl) rfl (fun ls hl => ?_)
              have lp_5 : ∀ (fu : Nat) (v : Nat) (h : Int64) (hv : v ≤ pn) (hm4 : pn < v + fu) (hh : h = dgP (pM E) (dgR (E 3) (fun k j => E 4 (96 * k + j)) (dgI (fun k => countV (E 3) (E 21) rn pn n en (nI k)) 17 6) 4) v) (ls : Array Slot) (hl : lv_has ls 5 [(3, .int (nI v)), (1, .long h), (0, .ref (b 0))]), W p l e (headSpec (ws_ yX1_digest cX1_digest 5 (some FieldType.long)) ({ frames := 2, cells := 0, slots := 0, locals := 51 } : Room)).room s m ([.ref (b 0)] : List Value).toArray below meth c s.heap [] 0 0 (MQ below (va_Ql (fun (r : Int64) (u : MS) => r = digV (fun k => countV (E 3) (E 21) rn pn n en (nI k)) (E 3) (fun k j => E 4 (96 * k + j)) (pM E) pn szf (E 32) (E 28) (E 29) n ∧ ∃ f, u = (J, va_up E 30 f)) (fun (u : MS) t => bW G d A (MW b u.1 u.2 d) t) A) ([.ref (b 0)] : List Value).toArray s 0 0 A) (F0 m 107 ls []) := by
                intro fu
                induction fu with
                | zero =>
                  intro v h hv hm4 hh ls hl
                  exfalso; omega
                | succ fu ih_lp_5 =>
                  intro v h hv hm4 hh ls hl
                  refine lv_iload_n hx hb dX1_digest_107 rfl (lv_at hl 0 rfl) ?_
                  refine lv_aload_n hx hb dX1_digest_108 rfl (lv_at hl 2 rfl) ?_
                  refine va_get (D := G) (ci := 1) (v := .int (J 13)) (C := RX1) (T := TX1) (N := 33) hx hb hts in_X1 hown hK hP 0 rfl rfl 13 (Nat.le_of_ble_eq_true rfl) (hts _ q899) (fun _ h9 => h9) rfl dX1_digest_109 ?_
                  refine y_top (y := nI pn) h13 ?_
                  refine lv_icmp_ge (tgt := 152) hx hb dX1_digest_112 (by decide) (fun c_6 => ?_) (fun c_6 => ?_)
                  · have c_6 : pn ≤ v := (nI_leI (a := pn) (b := v) (by omega) (by omega)).mp c_6
                    have d3 : h = dgP (pM E) (dgR (E 3) (fun k j => E 4 (96 * k + j)) (dgI (fun k => countV (E 3) (E 21) rn pn n en (nI k)) 17 6) 4) pn := by rw [hh, show v = pn by omega]
                    refine lv_iconst (v := 0) hx hb dX1_digest_152 (by decide) ?_
                    refine lv_istore_n (lv' := [(3, .int 0), (1, .long h), (0, .ref (b 0))]) hx hb dX1_digest_153 rfl hl (Nat.le_of_ble_eq_true rfl) rfl (fun ls hl => ?_)
                    have lp_7 : ∀ (fu : Nat) (o : Nat) (h : Int64) (ho : o ≤ 2) (hm6 : 2 < o + fu) (hh : h = dgL szf (E 32) (dgP (pM E) (dgR (E 3) (fun k j => E 4 (96 * k + j)) (dgI (fun k => countV (E 3) (E 21) rn pn n en (nI k)) 17 6) 4) pn) o) (ls : Array Slot) (hl : lv_has ls 5 [(3, .int (nI o)), (1, .long h), (0, .ref (b 0))]), W p l e (headSpec (ws_ yX1_digest cX1_digest 5 (some FieldType.long)) ({ frames := 2, cells := 0, slots := 0, locals := 51 } : Room)).room s m ([.ref (b 0)] : List Value).toArray below meth c s.heap [] 0 0 (MQ below (va_Ql (fun (r : Int64) (u : MS) => r = digV (fun k => countV (E 3) (E 21) rn pn n en (nI k)) (E 3) (fun k j => E 4 (96 * k + j)) (pM E) pn szf (E 32) (E 28) (E 29) n ∧ ∃ f, u = (J, va_up E 30 f)) (fun (u : MS) t => bW G d A (MW b u.1 u.2 d) t) A) ([.ref (b 0)] : List Value).toArray s 0 0 A) (F0 m 154 ls []) := by
                      intro fu
                      induction fu with
                      | zero =>
                        intro o h ho hm6 hh ls hl
                        exfalso; omega
                      | succ fu ih_lp_7 =>
                        intro o h ho hm6 hh ls hl
                        refine lv_iload_n hx hb dX1_digest_154 rfl (lv_at hl 0 rfl) ?_
                        refine lv_iconst (v := 2) hx hb dX1_digest_155 (by decide) ?_
                        refine lv_icmp_ge (tgt := 205) hx hb dX1_digest_156 (by decide) (fun c_8 => ?_) (fun c_8 => ?_)
                        · have c_8 : 2 ≤ o := (nI_leI (a := 2) (b := o) (by omega) (by omega)).mp c_8
                          have d4 : h = dgL szf (E 32) (dgP (pM E) (dgR (E 3) (fun k j => E 4 (96 * k + j)) (dgI (fun k => countV (E 3) (E 21) rn pn n en (nI k)) 17 6) 4) pn) 2 := by rw [hh, show o = 2 by omega]
                          refine lv_iconst (v := 0) hx hb dX1_digest_205 (by decide) ?_
                          refine lv_istore_n (lv' := [(3, .int 0), (1, .long h), (0, .ref (b 0))]) hx hb dX1_digest_206 rfl hl (Nat.le_of_ble_eq_true rfl) rfl (fun ls hl => ?_)
                          have eE : va_up E 30 (E 30) = E := by
                            funext k
                            by_cases hk : k = 30
                            · rw [hk]; exact va_up_self _ _ _
                            · exact va_up_ne _ _ hk
                          have hP : va_P G CLS (MW b J (va_up E 30 (E 30)) d) s.heap := by rw [eE]; exact hP
                          have hD : va_D A (MW b J (va_up E 30 (E 30)) d) := by rw [eE]; exact hD
                          have lp_9 : ∀ (fu : Nat) (k : Nat) (h : Int64) (f : Nat → Int32) (hk : k ≤ 12) (hm8 : 12 < k + fu) (hh : h = dgI (fun k => whereV (E 28) (E 29) n (k / 3) (k % 3)) (dgL szf (E 32) (dgP (pM E) (dgR (E 3) (fun k j => E 4 (96 * k + j)) (dgI (fun k => countV (E 3) (E 21) rn pn n en (nI k)) 17 6) 4) pn) 2) k) (H : Heap) (locs : List Loc) (hP : va_P G CLS (MW b J (va_up E 30 f) d) H) (hD : va_D A (MW b J (va_up E 30 f) d)) (hS : va_S A s.heap H locs) (ls : Array Slot) (hl : lv_has ls 5 [(3, .int (nI k)), (1, .long h), (0, .ref (b 0))]), W p l e (headSpec (ws_ yX1_digest cX1_digest 5 (some FieldType.long)) ({ frames := 2, cells := 0, slots := 0, locals := 51 } : Room)).room s m ([.ref (b 0)] : List Value).toArray below meth c H locs 0 0 (MQ below (va_Ql (fun (r : Int64) (u : MS) => r = digV (fun k => countV (E 3) (E 21) rn pn n en (nI k)) (E 3) (fun k j => E 4 (96 * k + j)) (pM E) pn szf (E 32) (E 28) (E 29) n ∧ ∃ f, u = (J, va_up E 30 f)) (fun (u : MS) t => bW G d A (MW b u.1 u.2 d) t) A) ([.ref (b 0)] : List Value).toArray s 0 0 A) (F0 m 207 ls []) := by
                            intro fu
                            induction fu with
                            | zero =>
                              intro k h f hk hm8 hh H locs hP hD hS ls hl
                              exfalso; omega
                            | succ fu ih_lp_9 =>
                              intro k h f hk hm8 hh H locs hP hD hS ls hl
                              refine lv_iload_n hx hb dX1_digest_207 rfl (lv_at hl 0 rfl) ?_
                              refine lv_bipush (v := 12) hx hb dX1_digest_208 (by decide +kernel) ?_
                              refine lv_icmp_ge (tgt := 237) hx hb dX1_digest_210 (by decide) (fun c_10 => ?_) (fun c_10 => ?_)
                              · have c_10 : 12 ≤ k := (nI_leI (a := 12) (b := k) (by omega) (by omega)).mp c_10
                                refine lv_lload_n hx hb dX1_digest_237 rfl (lv_at hl 1 rfl) ?_
                                exact W.lret (v := h) hx hb hr (fun t ht hW => ⟨⟨h, (J, va_up E 30 f), rfl, ⟨by rw [hh, digV, show k = 12 by omega], f, rfl⟩, by rw [ht]; exact hP, va_K.moved hW.alike hK, hD⟩, hS.F ht⟩) hS.2.2 dX1_digest_238
                              · have c_10 : ¬ 12 ≤ k := fun h => c_10 ((nI_leI (a := 12) (b := k) (by omega) (by omega)).mpr h)
                                refine lv_ldc2 (v := 31) hx hb hown (hts _ q1198) dX1_digest_213 ?_
                                refine lv_lload_n hx hb dX1_digest_216 rfl (lv_at hl 1 rfl) ?_
                                refine lv_lmul hx hb dX1_digest_217 ?_
                                refine lv_aload_n hx hb dX1_digest_218 rfl (lv_at hl 2 rfl) ?_
                                refine lv_iload_n hx hb dX1_digest_219 rfl (lv_at hl 0 rfl) ?_
                                refine lv_iconst (v := 3) hx hb dX1_digest_220 (by decide) ?_
                                refine lv_idiv hx hb dX1_digest_221 (by decide) ?_
                                refine y_top (y := nI (k / 3)) (pk_div (a := k) (d := 3) (by omega) (by omega) (by omega)) ?_
                                refine lv_iload_n hx hb dX1_digest_222 rfl (lv_at hl 0 rfl) ?_
                                refine lv_iconst (v := 3) hx hb dX1_digest_223 (by decide) ?_
                                refine lv_irem hx hb dX1_digest_224 (by decide) ?_
                                refine y_top (y := nI (k % 3)) (pk_rem (a := k) (d := 3) (by omega) (by omega) (by omega)) ?_
                                refine y_cVi (As := [.int (nI (k / 3)), .int (nI (k % 3))]) (rest := [.long (31 * h)]) (ci := 1) (q0 := 0) ⟨hx, hb, hml, hown, hts⟩ hK hP hD hS hA (metX1_whereOf l G d H.size b J (va_up E 30 f) n (k / 3) (k % 3) hn20 h27 hax (by omega) (by omega)) (cwV 2 hts (lw_V q1145 q1147 qs30 q39 q1148) rfl rfl rfl (by decide +kernel) ⟨Nat.le_of_ble_eq_true rfl, Nat.le_of_ble_eq_true rfl⟩) rfl rfl rfl hl.1 rfl (lv_room (Nat.le_of_ble_eq_true rfl)) dX1_digest_225 ⟨Nat.le_of_ble_eq_true rfl, Nat.le_of_ble_eq_true rfl⟩ (fun r_11 u_13 H locs hw_12 hP hD hS => ?_)
                                obtain ⟨hr_14, pf_15, pf_15_⟩ := hw_12
                                subst pf_15_
                                have hP : va_P G CLS (MW b J (va_up E 30 pf_15) d) H := hP
                                have hD : va_D A (MW b J (va_up E 30 pf_15) d) := hD
                                refine lv_i2l (v := r_11.toInt64) hx hb dX1_digest_228 rfl ?_
                                refine lv_ladd hx hb dX1_digest_229 ?_
                                refine lv_lstore_n (lv' := [(1, .long ((31 * h) + r_11.toInt64)), (3, .int (nI k)), (0, .ref (b 0))]) hx hb dX1_digest_230 rfl hl (Nat.le_of_ble_eq_true rfl) rfl (fun ls hl => ?_)
                                refine lv_iinc (v := nI (k + 1)) (lv' := [(3, .int (nI (k + 1))), (1, .long ((31 * h) + r_11.toInt64)), (0, .ref (b 0))]) hx hb dX1_digest_231 hl (k := 1) rfl (nI_add k 1) (Nat.le_of_ble_eq_true rfl) rfl (fun ls hl => ?_)
                                refine lv_goto (tgt := 207) hx hb dX1_digest_234 (by decide) ?_
                                exact ih_lp_9 (k + 1) _ _ (by omega) (by omega) (by rw [hr_14, hh]; rfl) _ _ hP hD hS ls (lv_sub hl [0, 1, 2] rfl)
                          exact lp_9 13 0 _ (E 30) (by omega) (by omega) d4 _ _ hP hD hS ls (lv_sub hl [0, 1, 2] rfl)
                        · have c_8 : ¬ 2 ≤ o := fun h => c_8 ((nI_leI (a := 2) (b := o) (by omega) (by omega)).mpr h)
                          obtain ⟨hs40, hso⟩ := hsz o (by omega)
                          refine lv_iconst (v := 0) hx hb dX1_digest_159 (by decide) ?_
                          refine lv_istore (lv' := [(4, .int 0), (3, .int (nI o)), (1, .long h), (0, .ref (b 0))]) hx hb dX1_digest_160 hl (Nat.le_of_ble_eq_true rfl) rfl (fun ls hl => ?_)
                          have lp_16 : ∀ (fu : Nat) (j : Nat) (g : Int64) (hj : j ≤ szf o) (hm7 : szf o < j + fu) (hg : g = dgI (fun i => E 32 (40 * o + i)) h j) (ls : Array Slot) (hl : lv_has ls 5 [(4, .int (nI j)), (1, .long g), (3, .int (nI o)), (0, .ref (b 0))]), W p l e (headSpec (ws_ yX1_digest cX1_digest 5 (some FieldType.long)) ({ frames := 2, cells := 0, slots := 0, locals := 51 } : Room)).room s m ([.ref (b 0)] : List Value).toArray below meth c s.heap [] 0 0 (MQ below (va_Ql (fun (r : Int64) (u : MS) => r = digV (fun k => countV (E 3) (E 21) rn pn n en (nI k)) (E 3) (fun k j => E 4 (96 * k + j)) (pM E) pn szf (E 32) (E 28) (E 29) n ∧ ∃ f, u = (J, va_up E 30 f)) (fun (u : MS) t => bW G d A (MW b u.1 u.2 d) t) A) ([.ref (b 0)] : List Value).toArray s 0 0 A) (F0 m 162 ls []) := by
                            intro fu
                            induction fu with
                            | zero =>
                              intro j g hj hm7 hg ls hl
                              exfalso; omega
                            | succ fu ih_lp_16 =>
                              intro j g hj hm7 hg ls hl
                              refine lv_iload hx hb dX1_digest_162 (lv_at hl 0 rfl) ?_
                              refine lv_aload_n hx hb dX1_digest_164 rfl (lv_at hl 3 rfl) ?_
                              refine va_get (D := G) (ci := 1) (v := .ref (b 31)) (C := RX1) (T := TX1) (N := 33) hx hb hts in_X1 hown hK hP 0 rfl rfl 31 (Nat.le_of_ble_eq_true rfl) (hts _ q917) (fun _ h9 => h9) rfl dX1_digest_165 ?_
                              refine lv_iload_n hx hb dX1_digest_168 rfl (lv_at hl 2 rfl) ?_
                              refine y_iald (N := o) (f := E 31) hx hb hK hP 23 0 rfl rfl rfl (by omega) (by decide) dX1_digest_169 ?_
                              refine y_top (y := nI (szf o)) hso ?_
                              refine lv_icmp_ge (tgt := 199) hx hb dX1_digest_170 (by decide) (fun c_17 => ?_) (fun c_17 => ?_)
                              · have c_17 : (szf o) ≤ j := (nI_leI (a := (szf o)) (b := j) (by omega) (by omega)).mp c_17
                                refine lv_iinc (v := nI (o + 1)) (lv' := [(3, .int (nI (o + 1))), (4, .int (nI j)), (1, .long g), (0, .ref (b 0))]) hx hb dX1_digest_199 hl (k := 2) rfl (nI_add o 1) (Nat.le_of_ble_eq_true rfl) rfl (fun ls hl => ?_)
                                refine lv_goto (tgt := 154) hx hb dX1_digest_202 (by decide) ?_
                                exact ih_lp_7 (o + 1) _ (by omega) (by omega) (by rw [hg, hh, show j = szf o by omega]; rfl) ls (lv_sub hl [0, 2, 3] rfl)
                              · have c_17 : ¬ (szf o) ≤ j := fun h => c_17 ((nI_leI (a := (szf o)) (b := j) (by omega) (by omega)).mpr h)
                                refine lv_ldc2 (v := 31) hx hb hown (hts _ q1198) dX1_digest_173 ?_
                                refine lv_lload_n hx hb dX1_digest_176 rfl (lv_at hl 1 rfl) ?_
                                refine lv_lmul hx hb dX1_digest_177 ?_
                                refine lv_aload_n hx hb dX1_digest_178 rfl (lv_at hl 3 rfl) ?_
                                refine va_get (D := G) (ci := 1) (v := .ref (b 32)) (C := RX1) (T := TX1) (N := 33) hx hb hts in_X1 hown hK hP 0 rfl rfl 32 (Nat.le_of_ble_eq_true rfl) (hts _ q918) (fun _ h9 => h9) rfl dX1_digest_179 ?_
                                refine lv_bipush (v := 40) hx hb dX1_digest_182 (by decide +kernel) ?_
                                refine lv_iload_n hx hb dX1_digest_184 rfl (lv_at hl 2 rfl) ?_
                                refine lv_imul hx hb dX1_digest_185 ?_
                                refine y_top (y := nI (40 * o)) (pk_mul 40 o) ?_
                                refine lv_iload hx hb dX1_digest_186 (lv_at hl 0 rfl) ?_
                                refine lv_iadd hx hb dX1_digest_188 ?_
                                refine y_top (y := nI ((40 * o) + j)) (nI_add (40 * o) j) ?_
                                refine y_iald (N := (40 * o) + j) (f := E 32) hx hb hK hP 24 0 rfl rfl rfl (by omega) (by decide) dX1_digest_189 ?_
                                refine lv_i2l (v := ((E 32) ((40 * o) + j)).toInt64) hx hb dX1_digest_190 rfl ?_
                                refine lv_ladd hx hb dX1_digest_191 ?_
                                refine lv_lstore_n (lv' := [(1, .long ((31 * g) + (((E 32) ((40 * o) + j)).toInt64))), (4, .int (nI j)), (3, .int (nI o)), (0, .ref (b 0))]) hx hb dX1_digest_192 rfl hl (Nat.le_of_ble_eq_true rfl) rfl (fun ls hl => ?_)
                                refine lv_iinc (v := nI (j + 1)) (lv' := [(4, .int (nI (j + 1))), (1, .long ((31 * g) + (((E 32) ((40 * o) + j)).toInt64))), (3, .int (nI o)), (0, .ref (b 0))]) hx hb dX1_digest_193 hl (k := 1) rfl (nI_add j 1) (Nat.le_of_ble_eq_true rfl) rfl (fun ls hl => ?_)
                                refine lv_goto (tgt := 162) hx hb dX1_digest_196 (by decide) ?_
                                exact ih_lp_16 (j + 1) _ (by omega) (by omega) (by rw [hg]; rfl) ls (lv_sub hl [0, 1, 2, 3] rfl)
                          exact lp_16 41 0 _ (by omega) (by omega) rfl ls (lv_sub hl [0, 2, 1, 3] rfl)
                    exact lp_7 3 0 _ (by omega) (by omega) d3 ls (lv_sub hl [0, 1, 2] rfl)
                  · have c_6 : ¬ pn ≤ v := fun h => c_6 ((nI_leI (a := pn) (b := v) (by omega) (by omega)).mpr h)
                    refine lv_iconst (v := 0) hx hb dX1_digest_115 (by decide) ?_
                    refine lv_istore (lv' := [(4, .int 0), (3, .int (nI v)), (1, .long h), (0, .ref (b 0))]) hx hb dX1_digest_116 hl (Nat.le_of_ble_eq_true rfl) rfl (fun ls hl => ?_)
                    have lp_18 : ∀ (fu : Nat) (j : Nat) (g : Int64) (hj : j ≤ 7) (hm5 : 7 < j + fu) (hg : g = dgI (toldV (pM E) v) h j) (ls : Array Slot) (hl : lv_has ls 5 [(4, .int (nI j)), (1, .long g), (3, .int (nI v)), (0, .ref (b 0))]), W p l e (headSpec (ws_ yX1_digest cX1_digest 5 (some FieldType.long)) ({ frames := 2, cells := 0, slots := 0, locals := 51 } : Room)).room s m ([.ref (b 0)] : List Value).toArray below meth c s.heap [] 0 0 (MQ below (va_Ql (fun (r : Int64) (u : MS) => r = digV (fun k => countV (E 3) (E 21) rn pn n en (nI k)) (E 3) (fun k j => E 4 (96 * k + j)) (pM E) pn szf (E 32) (E 28) (E 29) n ∧ ∃ f, u = (J, va_up E 30 f)) (fun (u : MS) t => bW G d A (MW b u.1 u.2 d) t) A) ([.ref (b 0)] : List Value).toArray s 0 0 A) (F0 m 118 ls []) := by
                      intro fu
                      induction fu with
                      | zero =>
                        intro j g hj hm5 hg ls hl
                        exfalso; omega
                      | succ fu ih_lp_18 =>
                        intro j g hj hm5 hg ls hl
                        refine lv_iload hx hb dX1_digest_118 (lv_at hl 0 rfl) ?_
                        refine lv_bipush (v := 6) hx hb dX1_digest_120 (by decide +kernel) ?_
                        refine lv_icmp_gt (tgt := 146) hx hb dX1_digest_122 (by decide) (fun c_19 => ?_) (fun c_19 => ?_)
                        · have c_19 : 6 < j := (nI_ltI (a := 6) (b := j) (by omega) (by omega)).mp c_19
                          refine lv_iinc (v := nI (v + 1)) (lv' := [(3, .int (nI (v + 1))), (4, .int (nI j)), (1, .long g), (0, .ref (b 0))]) hx hb dX1_digest_146 hl (k := 2) rfl (nI_add v 1) (Nat.le_of_ble_eq_true rfl) rfl (fun ls hl => ?_)
                          refine lv_goto (tgt := 107) hx hb dX1_digest_149 (by decide) ?_
                          exact ih_lp_5 (v + 1) _ (by omega) (by omega) (by rw [hg, hh, show j = 7 by omega]; rfl) ls (lv_sub hl [0, 2, 3] rfl)
                        · have c_19 : ¬ 6 < j := fun h => c_19 ((nI_ltI (a := 6) (b := j) (by omega) (by omega)).mpr h)
                          refine lv_ldc2 (v := 31) hx hb hown (hts _ q1198) dX1_digest_125 ?_
                          refine lv_lload_n hx hb dX1_digest_128 rfl (lv_at hl 1 rfl) ?_
                          refine lv_lmul hx hb dX1_digest_129 ?_
                          refine lv_aload_n hx hb dX1_digest_130 rfl (lv_at hl 3 rfl) ?_
                          refine lv_iload_n hx hb dX1_digest_131 rfl (lv_at hl 2 rfl) ?_
                          refine lv_iload hx hb dX1_digest_132 (lv_at hl 0 rfl) ?_
                          refine y_rV (As := [.int (nI v), .int (nI j)]) (rest := [.long (31 * g)]) (ci := 1) (q0 := 0) ⟨hx, hb, hml, hown, hts⟩ hK hP (metX1_tells l G d b J E v j (by omega) (by omega)) (cwV 2 hts (lw_V q1085 q1087 qs26 q39 q1088) rfl rfl rfl (by decide +kernel) ⟨Nat.le_of_ble_eq_true rfl, Nat.le_of_ble_eq_true rfl⟩) rfl rfl rfl hl.1 rfl (lv_room (Nat.le_of_ble_eq_true rfl)) dX1_digest_134 ⟨Nat.le_of_ble_eq_true rfl, Nat.le_of_ble_eq_true rfl⟩ (fun r_20 hw_21 => ?_)
                          rw [hw_21]
                          refine lv_i2l (v := (toldV (pM E) v j).toInt64) hx hb dX1_digest_137 rfl ?_
                          refine lv_ladd hx hb dX1_digest_138 ?_
                          refine lv_lstore_n (lv' := [(1, .long ((31 * g) + ((toldV (pM E) v j).toInt64))), (4, .int (nI j)), (3, .int (nI v)), (0, .ref (b 0))]) hx hb dX1_digest_139 rfl hl (Nat.le_of_ble_eq_true rfl) rfl (fun ls hl => ?_)
                          refine lv_iinc (v := nI (j + 1)) (lv' := [(4, .int (nI (j + 1))), (1, .long ((31 * g) + ((toldV (pM E) v j).toInt64))), (3, .int (nI v)), (0, .ref (b 0))]) hx hb dX1_digest_140 hl (k := 1) rfl (nI_add j 1) (Nat.le_of_ble_eq_true rfl) rfl (fun ls hl => ?_)
                          refine lv_goto (tgt := 118) hx hb dX1_digest_143 (by decide) ?_
                          exact ih_lp_18 (j + 1) _ (by omega) (by omega) (by rw [hg]; rfl) ls (lv_sub hl [0, 1, 2, 3] rfl)
                    exact lp_18 8 0 _ (by omega) (by omega) rfl ls (lv_sub hl [0, 2, 1, 3] rfl)
              exact lp_5 17 0 _ (by omega) (by omega) d2 ls (lv_sub hl [0, 1, 2] rfl)
            · have c_4 : ¬ 4 ≤ q := fun h => c_4 ((nI_leI (a := 4) (b := q) (by omega) (by omega)).mpr h)
              refine lv_aload_n hx hb dX1_digest_37 rfl (lv_at hl 2 rfl) ?_
              refine va_get (D := G) (ci := 1) (v := .ref (b 3)) (C := RX1) (T := TX1) (N := 33) hx hb hts in_X1 hown hK hP 0 rfl rfl 3 (Nat.le_of_ble_eq_true rfl) (hts _ q889) (fun _ h9 => h9) rfl dX1_digest_38 ?_
              refine lv_iload_n hx hb dX1_digest_41 rfl (lv_at hl 0 rfl) ?_
              refine y_zald (N := q) (f := E 3) hx hb hK hP 2 1 rfl rfl rfl (by omega) (by decide) dX1_digest_42 ?_
              refine lv_if_ne (tgt := 54) hx hb dX1_digest_43 (by decide) (fun c_22 => ?_) (fun c_22 => ?_)
              · refine lv_iconst (v := 0) hx hb dX1_digest_54 (by decide) ?_
                refine lv_istore (lv' := [(4, .int 0), (3, .int (nI q)), (1, .long h), (0, .ref (b 0))]) hx hb dX1_digest_55 hl (Nat.le_of_ble_eq_true rfl) rfl (fun ls hl => ?_)
                have lp_23 : ∀ (fu : Nat) (j : Nat) (g : Int64) (hj : j ≤ 96) (hm3 : 96 < j + fu) (hg : g = dgI ((fun k j => E 4 (96 * k + j)) q) h j) (ls : Array Slot) (hl : lv_has ls 5 [(4, .int (nI j)), (1, .long g), (3, .int (nI q)), (0, .ref (b 0))]), W p l e (headSpec (ws_ yX1_digest cX1_digest 5 (some FieldType.long)) ({ frames := 2, cells := 0, slots := 0, locals := 51 } : Room)).room s m ([.ref (b 0)] : List Value).toArray below meth c s.heap [] 0 0 (MQ below (va_Ql (fun (r : Int64) (u : MS) => r = digV (fun k => countV (E 3) (E 21) rn pn n en (nI k)) (E 3) (fun k j => E 4 (96 * k + j)) (pM E) pn szf (E 32) (E 28) (E 29) n ∧ ∃ f, u = (J, va_up E 30 f)) (fun (u : MS) t => bW G d A (MW b u.1 u.2 d) t) A) ([.ref (b 0)] : List Value).toArray s 0 0 A) (F0 m 57 ls []) := by
                  intro fu
                  induction fu with
                  | zero =>
                    intro j g hj hm3 hg ls hl
                    exfalso; omega
                  | succ fu ih_lp_23 =>
                    intro j g hj hm3 hg ls hl
                    refine lv_iload hx hb dX1_digest_57 (lv_at hl 0 rfl) ?_
                    refine lv_bipush (v := 96) hx hb dX1_digest_59 (by decide +kernel) ?_
                    refine lv_icmp_ge (tgt := 99) hx hb dX1_digest_61 (by decide) (fun c_24 => ?_) (fun c_24 => ?_)
                    · have c_24 : 96 ≤ j := (nI_leI (a := 96) (b := j) (by omega) (by omega)).mp c_24
                      refine lv_iinc (v := nI (q + 1)) (lv' := [(3, .int (nI (q + 1))), (4, .int (nI j)), (1, .long g), (0, .ref (b 0))]) hx hb dX1_digest_99 hl (k := 2) rfl (nI_add q 1) (Nat.le_of_ble_eq_true rfl) rfl (fun ls hl => ?_)
                      refine lv_goto (tgt := 32) hx hb dX1_digest_102 (by decide) ?_
                      exact ih_lp_3 (q + 1) _ (by omega) (by omega) (by rw [hg, hh, show j = 96 by omega]; exact (if_neg c_22).symm) ls (lv_sub hl [0, 2, 3] rfl)
                    · have c_24 : ¬ 96 ≤ j := fun h => c_24 ((nI_leI (a := 96) (b := j) (by omega) (by omega)).mpr h)
                      refine lv_aload_n hx hb dX1_digest_64 rfl (lv_at hl 3 rfl) ?_
                      refine va_get (D := G) (ci := 1) (v := .ref (b 3)) (C := RX1) (T := TX1) (N := 33) hx hb hts in_X1 hown hK hP 0 rfl rfl 3 (Nat.le_of_ble_eq_true rfl) (hts _ q889) (fun _ h9 => h9) rfl dX1_digest_65 ?_
                      refine lv_iload_n hx hb dX1_digest_68 rfl (lv_at hl 2 rfl) ?_
                      refine y_zald (N := q) (f := E 3) hx hb hK hP 2 1 rfl rfl rfl (by omega) (by decide) dX1_digest_69 ?_
                      refine lv_if_eq (tgt := 99) hx hb dX1_digest_70 (by decide) (fun c_25 => ?_) (fun c_25 => ?_)
                      · exact absurd c_25 c_22
                      · refine lv_ldc2 (v := 31) hx hb hown (hts _ q1198) dX1_digest_73 ?_
                        refine lv_lload_n hx hb dX1_digest_76 rfl (lv_at hl 1 rfl) ?_
                        refine lv_lmul hx hb dX1_digest_77 ?_
                        refine lv_aload_n hx hb dX1_digest_78 rfl (lv_at hl 3 rfl) ?_
                        refine va_get (D := G) (ci := 1) (v := .ref (b 4)) (C := RX1) (T := TX1) (N := 33) hx hb hts in_X1 hown hK hP 0 rfl rfl 4 (Nat.le_of_ble_eq_true rfl) (hts _ q890) (fun _ h9 => h9) rfl dX1_digest_79 ?_
                        refine lv_bipush (v := 96) hx hb dX1_digest_82 (by decide +kernel) ?_
                        refine lv_iload_n hx hb dX1_digest_84 rfl (lv_at hl 2 rfl) ?_
                        refine lv_imul hx hb dX1_digest_85 ?_
                        refine y_top (y := nI (96 * q)) (pk_mul 96 q) ?_
                        refine lv_iload hx hb dX1_digest_86 (lv_at hl 0 rfl) ?_
                        refine lv_iadd hx hb dX1_digest_88 ?_
                        refine y_top (y := nI ((96 * q) + j)) (nI_add (96 * q) j) ?_
                        refine y_iald (N := (96 * q) + j) (f := E 4) hx hb hK hP 3 0 rfl rfl rfl (by omega) (by decide) dX1_digest_89 ?_
                        refine lv_i2l (v := ((E 4) ((96 * q) + j)).toInt64) hx hb dX1_digest_90 rfl ?_
                        refine lv_ladd hx hb dX1_digest_91 ?_
                        refine lv_lstore_n (lv' := [(1, .long ((31 * g) + (((E 4) ((96 * q) + j)).toInt64))), (4, .int (nI j)), (3, .int (nI q)), (0, .ref (b 0))]) hx hb dX1_digest_92 rfl hl (Nat.le_of_ble_eq_true rfl) rfl (fun ls hl => ?_)
                        refine lv_iinc (v := nI (j + 1)) (lv' := [(4, .int (nI (j + 1))), (1, .long ((31 * g) + (((E 4) ((96 * q) + j)).toInt64))), (3, .int (nI q)), (0, .ref (b 0))]) hx hb dX1_digest_93 hl (k := 1) rfl (nI_add j 1) (Nat.le_of_ble_eq_true rfl) rfl (fun ls hl => ?_)
                        refine lv_goto (tgt := 57) hx hb dX1_digest_96 (by decide) ?_
                        exact ih_lp_23 (j + 1) _ (by omega) (by omega) (by rw [hg]; rfl) ls (lv_sub hl [0, 1, 2, 3] rfl)
                exact lp_23 97 0 _ (by omega) (by omega) rfl ls (lv_sub hl [0, 2, 1, 3] rfl)
              · refine lv_ldc2 (v := 31) hx hb hown (hts _ q1198) dX1_digest_46 ?_
                refine lv_lload_n hx hb dX1_digest_49 rfl (lv_at hl 1 rfl) ?_
                refine lv_lmul hx hb dX1_digest_50 ?_
                refine lv_lconst (v := 1) hx hb dX1_digest_51 (by decide) ?_
                refine lv_lsub hx hb dX1_digest_52 ?_
                refine lv_lstore_n (lv' := [(1, .long ((31 * h) - 1)), (3, .int (nI q)), (0, .ref (b 0))]) hx hb dX1_digest_53 rfl hl (Nat.le_of_ble_eq_true rfl) rfl (fun ls hl => ?_)
                refine lv_iconst (v := 0) hx hb dX1_digest_54 (by decide) ?_
                refine lv_istore (lv' := [(4, .int 0), (1, .long ((31 * h) - 1)), (3, .int (nI q)), (0, .ref (b 0))]) hx hb dX1_digest_55 hl (Nat.le_of_ble_eq_true rfl) rfl (fun ls hl => ?_)
                refine lv_iload hx hb dX1_digest_57 (lv_at hl 0 rfl) ?_
                refine lv_bipush (v := 96) hx hb dX1_digest_59 (by decide +kernel) ?_
                refine lv_icmp_ge (tgt := 99) hx hb dX1_digest_61 (by decide) (fun c_26 => ?_) (fun c_26 => ?_)
                · have c_26 : 96 ≤ 0 := (nI_leI (a := 96) (b := 0) (by omega) (by omega)).mp c_26
                  exact absurd c_26 (by decide)
                · have c_26 : ¬ 96 ≤ 0 := fun h => c_26 ((nI_leI (a := 96) (b := 0) (by omega) (by omega)).mpr h)
                  refine lv_aload_n hx hb dX1_digest_64 rfl (lv_at hl 3 rfl) ?_
                  refine va_get (D := G) (ci := 1) (v := .ref (b 3)) (C := RX1) (T := TX1) (N := 33) hx hb hts in_X1 hown hK hP 0 rfl rfl 3 (Nat.le_of_ble_eq_true rfl) (hts _ q889) (fun _ h9 => h9) rfl dX1_digest_65 ?_
                  refine lv_iload_n hx hb dX1_digest_68 rfl (lv_at hl 2 rfl) ?_
                  refine y_zald (N := q) (f := E 3) hx hb hK hP 2 1 rfl rfl rfl (by omega) (by decide) dX1_digest_69 ?_
                  refine lv_if_eq (tgt := 99) hx hb dX1_digest_70 (by decide) (fun c_27 => ?_) (fun c_27 => ?_)
                  · refine lv_iinc (v := nI (q + 1)) (lv' := [(3, .int (nI (q + 1))), (4, .int 0), (1, .long ((31 * h) - 1)), (0, .ref (b 0))]) hx hb dX1_digest_99 hl (k := 2) rfl (nI_add q 1) (Nat.le_of_ble_eq_true rfl) rfl (fun ls hl => ?_)
                    refine lv_goto (tgt := 32) hx hb dX1_digest_102 (by decide) ?_
                    exact ih_lp_3 (q + 1) _ (by omega) (by omega) (by rw [hh]; exact (if_pos c_22).symm) ls (lv_sub hl [0, 2, 3] rfl)
                  · exact absurd c_22 c_27
        exact lp_3 5 0 _ (by omega) (by omega) d1 ls (lv_sub hl [0, 1, 2] rfl)
      · have c_2 : ¬ 5 < i := fun h => c_2 ((nI_ltI (a := 5) (b := i) (by omega) (by omega)).mpr h)
        refine lv_ldc2 (v := 31) hx hb hown (hts _ q1198) dX1_digest_11 ?_
        refine lv_lload_n hx hb dX1_digest_14 rfl (lv_at hl 1 rfl) ?_
        refine lv_lmul hx hb dX1_digest_15 ?_
        refine lv_aload_n hx hb dX1_digest_16 rfl (lv_at hl 2 rfl) ?_
        refine lv_iload_n hx hb dX1_digest_17 rfl (lv_at hl 0 rfl) ?_
        refine y_rV (As := [.int (nI i)]) (rest := [.long (31 * h)]) (ci := 1) (q0 := 0) ⟨hx, hb, hml, hown, hts⟩ hK hP (metX1_tellsCount l G d b J E rn pn n en i h6 h13 h27 h11 hp16 (by omega)) (cwV 1 hts (lw_V q1181 q1183 qs33 q39 q1184) rfl rfl rfl (by decide +kernel) ⟨Nat.le_of_ble_eq_true rfl, Nat.le_of_ble_eq_true rfl⟩) rfl rfl rfl hl.1 rfl (lv_room (Nat.le_of_ble_eq_true rfl)) dX1_digest_18 ⟨Nat.le_of_ble_eq_true rfl, Nat.le_of_ble_eq_true rfl⟩ (fun r_28 hw_29 => ?_)
        rw [hw_29]
        refine lv_i2l (v := (countV (E 3) (E 21) rn pn n en (nI i)).toInt64) hx hb dX1_digest_21 rfl ?_
        refine lv_ladd hx hb dX1_digest_22 ?_
        refine lv_lstore_n (lv' := [(1, .long ((31 * h) + ((countV (E 3) (E 21) rn pn n en (nI i)).toInt64))), (3, .int (nI i)), (0, .ref (b 0))]) hx hb dX1_digest_23 rfl hl (Nat.le_of_ble_eq_true rfl) rfl (fun ls hl => ?_)
        refine lv_iinc (v := nI (i + 1)) (lv' := [(3, .int (nI (i + 1))), (1, .long ((31 * h) + ((countV (E 3) (E 21) rn pn n en (nI i)).toInt64))), (0, .ref (b 0))]) hx hb dX1_digest_24 hl (k := 1) rfl (nI_add i 1) (Nat.le_of_ble_eq_true rfl) rfl (fun ls hl => ?_)
        refine lv_goto (tgt := 6) hx hb dX1_digest_27 (by decide) ?_
        exact ih_lp_1 (i + 1) _ (by omega) (by omega) (by rw [hh]; rfl) ls (lv_sub hl [0, 1, 2] rfl)
  exact lp_1 7 0 _ (by omega) (by omega) rfl ls (lv_sub hl [0, 1, 2] rfl)
