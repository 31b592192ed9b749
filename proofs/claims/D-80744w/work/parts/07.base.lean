/-! ===== own base: classes, worlds, rows over numbers ===== -/
section BASE
/-- the classes of the system, by number: 0 LimbMaker, 1 LimbMakerModel, 2 Part, 3 Cup, 4 Knee, 5 Foot, 6 Tube, 7 Shift, 8 Turn, 9 ArrayList -/
abbrev CLS : List vw_C := [(RX0, TX0, 29), (RX1, TX1, 33), (RX2, TX2, 8), (RX3, TX3, 9), (RX4, TX4, 9), (RX5, TX5, 9), (RX6, TX6, 10), (RX7, TX7, 3), (RX8, TX8, 2), (RJ2, TJ2, 3)]
/-- the array classes, by number -/
abbrev TYS (d : Nat → Nat) : List (ClassId × FieldType) := [(d 0, .int), (d 1, .boolean), (d 2, .array .int), (d 3, .object "LimbMaker$Part"), (d 4, .object "java/lang/Object")]
/-- one or nought -/
def bI (p : Prop) [Decidable p] : Int32 := if p then 1 else 0
theorem bI_t {p : Prop} [Decidable p] (h : p) : bI p = 1 := if_pos h
theorem bI_f {p : Prop} [Decidable p] (h : ¬ p) : bI p = 0 := if_neg h
theorem bI_ne {p : Prop} [Decidable p] {r : Int32} (h : r = bI p) (c : ¬ r = 0) : p := by
  rcases Decidable.em p with q | q
  · exact q
  · exact absurd (h.trans (bI_f q)) c
theorem bI_eq {p : Prop} [Decidable p] {r : Int32} (h : r = bI p) (c : r = 0) : ¬ p := fun q => by
  rw [h, bI_t q] at c
  exact absurd c (by decide)
theorem bI_not {p q : Prop} [Decidable p] [Decidable q] (h : p ↔ q) : bI p = bI q := by
  unfold bI
  simp only [h]
theorem bI_nar (p : Prop) [Decidable p] : narrow .boolean (.int (bI p)) = .int (bI p) := by
  unfold bI
  split <;> rfl
theorem nar_01 {x : Int32} (h : x = 0 ∨ x = 1) : narrow .boolean (.int x) = .int x := by
  rcases h with rfl | rfl <;> rfl
theorem vnar_01 {x : Int32} (h : x = 0 ∨ x = 1) : vp_nar .boolean x = x := by
  rcases h with rfl | rfl <;> rfl
theorem bI_01 (p : Prop) [Decidable p] : bI p = 0 ∨ bI p = 1 := by
  unfold bI
  split
  · exact Or.inr rfl
  · exact Or.inl rfl
/-- v between low and high, both in -/
abbrev inR (v lo hi : Int32) : Prop := lo ≤ v ∧ v ≤ hi
theorem inR_n {v : Int32} {n : Nat} (hn : n < 2 ^ 31) (h : inR v 0 (nI n)) : ∃ j : Nat, j < n + 1 ∧ v = nI j := by
  have h0 : ¬ v < 0 := Int32.not_lt.mpr h.1
  obtain ⟨j, hj, rfl⟩ := nI_of h0
  refine ⟨j, ?_, rfl⟩
  have h2 := (nI_leI hj hn).mp h.2
  omega
theorem nI_inR {n k : Nat} (h : k ≤ n) (hn : n < 2 ^ 31) : inR (nI k) 0 (nI n) := ⟨nI_pos' (by omega), nI_le h hn⟩
/-- a method's start, its end -/
abbrev pR (G : va_G) (d : Nat → Nat) (ws : va_W) (U : State) : Prop := va_P G CLS ws U.heap ∧ va_K G CLS (TYS d) U
abbrev pW (G : va_G) (d : Nat → Nat) (sz : Nat) (ws : va_W) (U : State) : Prop := U.heap.size = sz ∧ va_P G CLS ws U.heap ∧ va_K G CLS (TYS d) U ∧ va_D (fun _ => True) ws
abbrev bW (G : va_G) (d : Nat → Nat) (A : Nat → Prop) (ws : va_W) (t : State) : Prop := va_P G CLS ws t.heap ∧ va_K G CLS (TYS d) t ∧ va_D A ws
theorem pR_blind {G : va_G} {d : Nat → Nat} {ws : va_W} {av : List Value} : FrameBlind (va_Pc av (pR G d ws)) := fun a U g mk q => by
  obtain ⟨q0, qP, qK⟩ := q
  exact ⟨q0, qP, va_K.moved (u := U) (U := U.calling g mk a) (Vm.Alike.refl U.vm) qK⟩
theorem pW_blind {G : va_G} {d : Nat → Nat} {sz : Nat} {ws : va_W} {av : List Value} : FrameBlind (va_Pc av (pW G d sz ws)) := fun a U g mk q => by
  obtain ⟨q0, q1, qP, qK, qD⟩ := q
  exact ⟨q0, q1, qP, va_K.moved (u := U) (U := U.calling g mk a) (Vm.Alike.refl U.vm) qK, qD⟩
theorem va_freeW {A : Nat → Prop} {ws : va_W} {H0 H : Heap} {locs : List Loc} (hD : va_D A ws) (hS : va_S A H0 H locs) (hA : ∀ q, H0.size ≤ q → A q) : ∀ q, va_A ws H.size q → A q := by
  intro q h
  rcases h with ⟨k, e, h⟩ | h
  · exact hD.2 k (q, e) h
  · exact hA q (Nat.le_trans hS.1 h)
section ROWS
variable {p : Program} {l : Launch} {e : Env} {R : Room} {s : State} {m : MethodId} {args : Array Value} {below : List Frame} {meth : Method} {c : Code} {H : Heap} {locs : List Loc} {cells slots : Nat} {Q : State → Prop}
variable {cc : ByteArray} {pc : Nat} {ls : Array Slot} {rest : List Value} {D : va_G} {cl : List vw_C} {A : Nat → Prop} {a : Nat} {tys : List (ClassId × FieldType)} {ws : va_W} {H0 : Heap}
/-- the top of the stack, told otherwise -/
theorem y_top {x y : Int32} (h : x = y) (k : W p l e R s m args below meth c H locs cells slots Q (F0 m pc ls (.int y :: rest))) : W p l e R s m args below meth c H locs cells slots Q (F0 m pc ls (.int x :: rest)) := by
  rw [h]; exact k
theorem y_topl {x y : Int64} (h : x = y) (k : W p l e R s m args below meth c H locs cells slots Q (F0 m pc ls (.long y :: rest))) : W p l e R s m args below meth c H locs cells slots Q (F0 m pc ls (.long x :: rest)) := by
  rw [h]; exact k
theorem y_topv {x y : Value} (h : x = y) (k : W p l e R s m args below meth c H locs cells slots Q (F0 m pc ls (y :: rest))) : W p l e R s m args below meth c H locs cells slots Q (F0 m pc ls (x :: rest)) := by
  rw [h]; exact k
/-- an int array read at a number -/
theorem y_iald (hexec : p.tables.exec = Jvm.exec) (hb : c.code = cc) (hK : va_K D cl tys s) (hP : va_P D cl ws H) (q0 t0 : Nat) {cA : ClassId} {n : Nat} {f : Nat → Int32} (ha : ws[q0]? = some (a, .inl (cA, n, .inl f))) (ht : tys[t0]? = some (cA, .int)) {i : Int32} {N : Nat} (hi : i = nI N) (hN : N < n) (hn : n < 2 ^ 31) (hdg : decode cc pc = .ok (.iaload, 1))
    (kk : W p l e R s m args below meth c H locs cells slots Q (F0 m (pc + 1) ls (.int (f N) :: rest))) : W p l e R s m args below meth c H locs cells slots Q (F0 m pc ls (.int i :: .ref a :: rest)) := by
  subst hi
  refine va_iald hexec hb hK hP q0 t0 ha ht (vp_in_nI hN hn) hdg ?_
  rw [nI_clamp (by omega)]
  exact kk
theorem y_zald (hexec : p.tables.exec = Jvm.exec) (hb : c.code = cc) (hK : va_K D cl tys s) (hP : va_P D cl ws H) (q0 t0 : Nat) {cA : ClassId} {n : Nat} {f : Nat → Int32} (ha : ws[q0]? = some (a, .inl (cA, n, .inl f))) (ht : tys[t0]? = some (cA, .boolean)) {i : Int32} {N : Nat} (hi : i = nI N) (hN : N < n) (hn : n < 2 ^ 31) (hdg : decode cc pc = .ok (.baload, 1))
    (kk : W p l e R s m args below meth c H locs cells slots Q (F0 m (pc + 1) ls (.int (f N) :: rest))) : W p l e R s m args below meth c H locs cells slots Q (F0 m pc ls (.int i :: .ref a :: rest)) := by
  subst hi
  refine va_zald hexec hb hK hP q0 t0 ha ht (vp_in_nI hN hn) hdg ?_
  rw [nI_clamp (by omega)]
  exact kk
theorem y_aldq (hexec : p.tables.exec = Jvm.exec) (hb : c.code = cc) (hK : va_K D cl tys s) (hP : va_P D cl ws H) (q0 t0 : Nat) {cA : ClassId} {C : String} {n : Nat} {f : Nat → Option Nat} (ha : ws[q0]? = some (a, .inl (cA, n, .inr (.inr (.inr (.inr f)))))) (ht : tys[t0]? = some (cA, .object C)) {i : Int32} {N : Nat} (hi : i = nI N) (hN : N < n) (hn : n < 2 ^ 31) (hdg : decode cc pc = .ok (.aaload, 1))
    (kk : W p l e R s m args below meth c H locs cells slots Q (F0 m (pc + 1) ls (va_rf (f N) :: rest))) : W p l e R s m args below meth c H locs cells slots Q (F0 m pc ls (.int i :: .ref a :: rest)) := by
  subst hi
  refine va_aldq hexec hb hK hP q0 t0 ha ht (vp_in_nI hN hn) hdg ?_
  rw [nI_clamp (by omega)]
  exact kk
/-- an int array written at a number -/
theorem y_iast (hexec : p.tables.exec = Jvm.exec) (hb : c.code = cc) (hK : va_K D cl tys s) (hP : va_P D cl ws H) (hD : va_D A ws) (hS : va_S A H0 H locs) (q0 t0 : Nat) {cA : ClassId} {n : Nat} {f : Nat → Int32} (ha : ws[q0]? = some (a, .inl (cA, n, .inl f))) (ht : tys[t0]? = some (cA, .int)) {i : Int32} {x : Int32} {N : Nat} (hi : i = nI N) (hN : N < n) (hn : n < 2 ^ 31) (hdg : decode cc pc = .ok (.iastore, 1))
    (kk : ∀ (H1 : Heap) (locs1 : List Loc), va_P D cl (ws.set q0 (a, .inl (cA, n, .inl (upd f N x)))) H1 → va_D A (ws.set q0 (a, .inl (cA, n, .inl (upd f N x)))) → va_S A H0 H1 locs1 → W p l e R s m args below meth c H1 locs1 cells slots Q (F0 m (pc + 1) ls rest)) : W p l e R s m args below meth c H locs cells slots Q (F0 m pc ls (.int x :: .int i :: .ref a :: rest)) := by
  subst hi
  refine va_iast hexec hb hK hP hD hS q0 t0 ha ht (vp_in_nI hN hn) hdg ?_
  rw [nI_clamp (by omega)]
  exact kk
theorem y_zast (hexec : p.tables.exec = Jvm.exec) (hb : c.code = cc) (hK : va_K D cl tys s) (hP : va_P D cl ws H) (hD : va_D A ws) (hS : va_S A H0 H locs) (q0 t0 : Nat) {cA : ClassId} {n : Nat} {f : Nat → Int32} (ha : ws[q0]? = some (a, .inl (cA, n, .inl f))) (ht : tys[t0]? = some (cA, .boolean)) {i : Int32} {x : Int32} {N : Nat} (hi : i = nI N) (hN : N < n) (hn : n < 2 ^ 31) (hx : x = 0 ∨ x = 1) (hdg : decode cc pc = .ok (.bastore, 1))
    (kk : ∀ (H1 : Heap) (locs1 : List Loc), va_P D cl (ws.set q0 (a, .inl (cA, n, .inl (upd f N x)))) H1 → va_D A (ws.set q0 (a, .inl (cA, n, .inl (upd f N x)))) → va_S A H0 H1 locs1 → W p l e R s m args below meth c H1 locs1 cells slots Q (F0 m (pc + 1) ls rest)) : W p l e R s m args below meth c H locs cells slots Q (F0 m pc ls (.int x :: .int i :: .ref a :: rest)) := by
  subst hi
  refine va_zast hexec hb hK hP hD hS q0 t0 ha ht (vp_in_nI hN hn) hdg ?_
  rw [nI_clamp (by omega), vnar_01 hx]
  exact kk
end ROWS
section CALLS
variable {p : Program} {l : Launch} {e : Env} {R : Room} {s : State} {m : MethodId} {args : Array Value} {below : List Frame} {meth : Method} {c : Code} {H : Heap} {locs : List Loc} {cells slots : Nat} {Q : State → Prop}
variable {cc : ByteArray} {pc : Nat} {ls : Array Slot} {G : va_G} {d : Nat → Nat} {A : Nat → Prop} {ws : va_W} {H0 : Heap} {y : MethodName} {bytes : ByteArray} {maxL nL n index mc ms : Nat} {ret : Option FieldType} {wy Ts : List Cond} {rm : Room} {own C : String} {As rest st0 : List Value} {b : Nat}
/-- a static method that only reads -/
theorem y_rS {post : Int32 → Prop} (S0 : CallFix p m c cc nL s args Ts own) (hK : va_K G CLS (TYS d) s) (hP : va_P G CLS ws H) (hM : Met l y wy rm (va_Pc As (pR G d ws)) (vp_Si post) 0 0 (fun _ => False))
    (cw : CallB R s args own index y bytes maxL ret wy rm 0 0 n ∧ (Cond.static y).before args s = true) (hn : As.length = n) (hsize : ls.size = nL) (hst : st0 = As.reverse ++ rest) (hW : 2 * (F0 m pc ls st0).monitorRoom + (rest.map fun v => v.category).sum ≤ 8) (hdg : decode cc pc = .ok (.invokestatic index, 3)) (hf : cells + 0 ≤ R.cells ∧ slots + 0 ≤ R.slots)
    (kk : ∀ r : Int32, post r → W p l e R s m args below meth c H locs cells slots Q (F0 m (pc + 3) ls (.int r :: rest))) : W p l e R s m args below meth c H locs cells slots Q (F0 m pc ls st0) :=
  vp_callSi (W.runS S0 hM cw ⟨pR_blind, fun U hU hW => ⟨rfl, by rw [hU]; exact hP, va_K.moved hW.alike hK⟩⟩ rfl hn hsize hst hW hdg hf) kk
/-- a method of an object that only reads -/
theorem y_rV {post : Int32 → Prop} {T : u_T} {N ci q0 : Nat} {fs : List Value} (S0 : CallFix p m c cc nL s args Ts own) (hK : va_K G CLS (TYS d) s) (hP : va_P G CLS ws H) (hM : Met l y wy rm (va_Pc (.ref b :: As) (pR G d ws)) (vp_Si post) 0 0 (fun _ => False))
    (cw : CallW R s args own C index y bytes maxL ret wy rm 0 0 n) (hc : CLS[ci]? = some (C, T, N)) (he : ws[q0]? = some (b, .inr (ci, fs))) (hn : As.length = n) (hsize : ls.size = nL) (hst : st0 = As.reverse ++ .ref b :: rest) (hW : 2 * (F0 m pc ls st0).monitorRoom + (rest.map fun v => v.category).sum ≤ 8) (hdg : decode cc pc = .ok (.invokevirtual index, 3)) (hf : cells + 0 ≤ R.cells ∧ slots + 0 ≤ R.slots)
    (kk : ∀ r : Int32, post r → W p l e R s m args below meth c H locs cells slots Q (F0 m (pc + 3) ls (.int r :: rest))) : W p l e R s m args below meth c H locs cells slots Q (F0 m pc ls st0) :=
  vp_callSi (W.runV S0 hM cw ⟨pR_blind, va_recv hK hP hc he, fun U hU hW => ⟨rfl, by rw [hU]; exact hP, va_K.moved hW.alike hK⟩⟩ rfl hn hsize hst hW hdg hf) kk
theorem y_rVl {post : Int64 → Prop} {T : u_T} {N ci q0 : Nat} {fs : List Value} (S0 : CallFix p m c cc nL s args Ts own) (hK : va_K G CLS (TYS d) s) (hP : va_P G CLS ws H) (hM : Met l y wy rm (va_Pc (.ref b :: As) (pR G d ws)) (vp_Sl post) 0 0 (fun _ => False))
    (cw : CallW R s args own C index y bytes maxL ret wy rm 0 0 n) (hc : CLS[ci]? = some (C, T, N)) (he : ws[q0]? = some (b, .inr (ci, fs))) (hn : As.length = n) (hsize : ls.size = nL) (hst : st0 = As.reverse ++ .ref b :: rest) (hW : 2 * (F0 m pc ls st0).monitorRoom + (rest.map fun v => v.category).sum ≤ 8) (hdg : decode cc pc = .ok (.invokevirtual index, 3)) (hf : cells + 0 ≤ R.cells ∧ slots + 0 ≤ R.slots)
    (kk : ∀ r : Int64, post r → W p l e R s m args below meth c H locs cells slots Q (F0 m (pc + 3) ls (.long r :: rest))) : W p l e R s m args below meth c H locs cells slots Q (F0 m pc ls st0) :=
  vp_callSl (W.runV S0 hM cw ⟨pR_blind, va_recv hK hP hc he, fun U hU hW => ⟨rfl, by rw [hU]; exact hP, va_K.moved hW.alike hK⟩⟩ rfl hn hsize hst hW hdg hf) kk
/-- a method of an object, that has the whole world -/
theorem y_cVi {S : Type} {post : Int32 → S → Prop} {wsf : S → va_W} {T : u_T} {N ci q0 : Nat} {fs : List Value} (S0 : CallFix p m c cc nL s args Ts own) (hK : va_K G CLS (TYS d) s) (hP : va_P G CLS ws H) (hD : va_D A ws) (hS : va_S A H0 H locs) (hA : ∀ q, H0.size ≤ q → A q)
    (hM : Met l y wy rm (va_Pc (.ref b :: As) (pW G d H.size ws)) (va_Qi post (fun u t => bW G d (va_A ws H.size) (wsf u) t) (va_A ws H.size)) mc ms (va_A ws H.size))
    (cw : CallW R s args own C index y bytes maxL ret wy rm mc ms n) (hc : CLS[ci]? = some (C, T, N)) (he : ws[q0]? = some (b, .inr (ci, fs))) (hn : As.length = n) (hsize : ls.size = nL) (hst : st0 = As.reverse ++ .ref b :: rest) (hW : 2 * (F0 m pc ls st0).monitorRoom + (rest.map fun v => v.category).sum ≤ 8) (hdg : decode cc pc = .ok (.invokevirtual index, 3)) (hf : cells + mc ≤ R.cells ∧ slots + ms ≤ R.slots)
    (kk : ∀ (r : Int32) (u : S) (H1 : Heap) (locs1 : List Loc), post r u → va_P G CLS (wsf u) H1 → va_D A (wsf u) → va_S A H0 H1 locs1 → W p l e R s m args below meth c H1 locs1 (cells + mc) (slots + ms) Q (F0 m (pc + 3) ls (.int r :: rest))) : W p l e R s m args below meth c H locs cells slots Q (F0 m pc ls st0) := by
  have hF := va_freeW hD hS hA
  refine va_calli (va_runV S0 hM cw ⟨pW_blind, va_recv hK hP hc he, fun U hU hW => ⟨rfl, by rw [hU], by rw [hU]; exact hP, va_K.moved hW.alike hK, hD.weaken (fun _ _ _ _ => trivial)⟩⟩ rfl hn hsize hst hW hdg hf) hS (fun q _ h => hF q h) hF (fun r u t H1 locs1 ht hvm hw hB hz hk hS1 => ?_)
  obtain ⟨hP1, hK1, hD1⟩ := hB
  exact kk r u H1 locs1 hw (by rw [ht] at hP1; exact hP1) (hD1.weaken (fun k q hk h => hF q.1 h)) hS1
theorem y_cVl {S : Type} {post : Int64 → S → Prop} {wsf : S → va_W} {T : u_T} {N ci q0 : Nat} {fs : List Value} (S0 : CallFix p m c cc nL s args Ts own) (hK : va_K G CLS (TYS d) s) (hP : va_P G CLS ws H) (hD : va_D A ws) (hS : va_S A H0 H locs) (hA : ∀ q, H0.size ≤ q → A q)
    (hM : Met l y wy rm (va_Pc (.ref b :: As) (pW G d H.size ws)) (va_Ql post (fun u t => bW G d (va_A ws H.size) (wsf u) t) (va_A ws H.size)) mc ms (va_A ws H.size))
    (cw : CallW R s args own C index y bytes maxL ret wy rm mc ms n) (hc : CLS[ci]? = some (C, T, N)) (he : ws[q0]? = some (b, .inr (ci, fs))) (hn : As.length = n) (hsize : ls.size = nL) (hst : st0 = As.reverse ++ .ref b :: rest) (hW : 2 * (F0 m pc ls st0).monitorRoom + (rest.map fun v => v.category).sum ≤ 8) (hdg : decode cc pc = .ok (.invokevirtual index, 3)) (hf : cells + mc ≤ R.cells ∧ slots + ms ≤ R.slots)
    (kk : ∀ (r : Int64) (u : S) (H1 : Heap) (locs1 : List Loc), post r u → va_P G CLS (wsf u) H1 → va_D A (wsf u) → va_S A H0 H1 locs1 → W p l e R s m args below meth c H1 locs1 (cells + mc) (slots + ms) Q (F0 m (pc + 3) ls (.long r :: rest))) : W p l e R s m args below meth c H locs cells slots Q (F0 m pc ls st0) := by
  have hF := va_freeW hD hS hA
  refine va_calll (va_runV S0 hM cw ⟨pW_blind, va_recv hK hP hc he, fun U hU hW => ⟨rfl, by rw [hU], by rw [hU]; exact hP, va_K.moved hW.alike hK, hD.weaken (fun _ _ _ _ => trivial)⟩⟩ rfl hn hsize hst hW hdg hf) hS (fun q _ h => hF q h) hF (fun r u t H1 locs1 ht hvm hw hB hz hk hS1 => ?_)
  obtain ⟨hP1, hK1, hD1⟩ := hB
  exact kk r u H1 locs1 hw (by rw [ht] at hP1; exact hP1) (hD1.weaken (fun k q hk h => hF q.1 h)) hS1
theorem y_cVv {S : Type} {post : S → Prop} {wsf : S → va_W} {T : u_T} {N ci q0 : Nat} {fs : List Value} (S0 : CallFix p m c cc nL s args Ts own) (hK : va_K G CLS (TYS d) s) (hP : va_P G CLS ws H) (hD : va_D A ws) (hS : va_S A H0 H locs) (hA : ∀ q, H0.size ≤ q → A q)
    (hM : Met l y wy rm (va_Pc (.ref b :: As) (pW G d H.size ws)) (va_Qv post (fun u t => bW G d (va_A ws H.size) (wsf u) t) (va_A ws H.size)) mc ms (va_A ws H.size))
    (cw : CallW R s args own C index y bytes maxL ret wy rm mc ms n) (hc : CLS[ci]? = some (C, T, N)) (he : ws[q0]? = some (b, .inr (ci, fs))) (hn : As.length = n) (hsize : ls.size = nL) (hst : st0 = As.reverse ++ .ref b :: rest) (hW : 2 * (F0 m pc ls st0).monitorRoom + (rest.map fun v => v.category).sum ≤ 8) (hdg : decode cc pc = .ok (.invokevirtual index, 3)) (hf : cells + mc ≤ R.cells ∧ slots + ms ≤ R.slots)
    (kk : ∀ (u : S) (H1 : Heap) (locs1 : List Loc), post u → va_P G CLS (wsf u) H1 → va_D A (wsf u) → va_S A H0 H1 locs1 → W p l e R s m args below meth c H1 locs1 (cells + mc) (slots + ms) Q (F0 m (pc + 3) ls rest)) : W p l e R s m args below meth c H locs cells slots Q (F0 m pc ls st0) := by
  have hF := va_freeW hD hS hA
  refine va_callv (va_runV S0 hM cw ⟨pW_blind, va_recv hK hP hc he, fun U hU hW => ⟨rfl, by rw [hU], by rw [hU]; exact hP, va_K.moved hW.alike hK, hD.weaken (fun _ _ _ _ => trivial)⟩⟩ rfl hn hsize hst hW hdg hf) hS (fun q _ h => hF q h) hF (fun u t H1 locs1 ht hvm hw hB hz hk hS1 => ?_)
  obtain ⟨hP1, hK1, hD1⟩ := hB
  exact kk u H1 locs1 hw (by rw [ht] at hP1; exact hP1) (hD1.weaken (fun k q hk h => hF q.1 h)) hS1
end CALLS
end BASE
