/-! ===== plain law: bits of an int ===== -/
abbrev bitV (x : Int32) (p : Nat) : Int32 := (x >>> (nI p &&& 31)) &&& 1
theorem sh_mask : ∀ p, p < 16 → (nI p &&& 31) = nI p := by decide +kernel
theorem bit_shr : ∀ p, p < 16 → ∀ x : Int32, (x >>> nI p).toBitVec = x.toBitVec.sshiftRight p := by
  intro p hp x
  have h : ∀ p, p < 16 → (nI p).toBitVec.smod 32 = BitVec.ofNat 32 p := by decide +kernel
  show (x.toBitVec.sshiftRight' ((nI p).toBitVec.smod 32)) = _
  rw [h p hp]
  show x.toBitVec.sshiftRight (BitVec.ofNat 32 p).toNat = _
  rw [BitVec.toNat_ofNat, Nat.mod_eq_of_lt (by omega)]
theorem bitV_eq {x : Int32} {p : Nat} (hp : p < 16) : bitV x p = if x.toBitVec.getLsbD p then 1 else 0 := by
  apply Int32.toBitVec_inj.mp
  unfold bitV
  rw [sh_mask p hp]
  show (x >>> nI p).toBitVec &&& (1 : Int32).toBitVec = _
  rw [bit_shr p hp]
  apply BitVec.eq_of_getLsbD_eq
  intro i hi
  rw [BitVec.getLsbD_and, BitVec.getLsbD_sshiftRight]
  by_cases h0 : i = 0
  · subst h0
    have e1 : (1 : Int32).toBitVec.getLsbD 0 = true := by decide
    rw [e1, Bool.and_true]
    have e2 : (!decide (32 ≤ 0) && if p + 0 < 32 then x.toBitVec.getLsbD (p + 0) else x.toBitVec.msb) = x.toBitVec.getLsbD p := by
      rw [if_pos (by omega)]
      simp
    rw [e2]
    by_cases q : x.toBitVec.getLsbD p = true
    · rw [if_pos q, q]; rfl
    · rw [if_neg q]
      simp at q
      rw [q]; rfl
  · have e1 : (1 : Int32).toBitVec.getLsbD i = false := by
      show (BitVec.ofNat 32 1).getLsbD i = false
      rw [BitVec.getLsbD_ofNat]
      have : (1 : Nat).testBit i = false := by
        rcases i with _ | i
        · exact absurd rfl h0
        · simp [Nat.testBit_succ]
      simp [this]
    rw [e1, Bool.and_false]
    split
    · exact e1.symm
    · show false = (BitVec.ofNat 32 0).getLsbD i
      simp
theorem one_shl : ∀ q, q < 16 → ∀ p, p < 16 → ((1 : Int32) <<< (nI q &&& 31)).toBitVec.getLsbD p = decide (p = q) := by decide +kernel
theorem one_shlN : ∀ q, q < 16 → ∀ p, p < 16 → (((1 : Int32) <<< (nI q &&& 31)) ^^^ (-1)).toBitVec.getLsbD p = !decide (p = q) := by decide +kernel
theorem bit_or {x : Int32} {p q : Nat} (hp : p < 16) (hq : q < 16) : bitV (x ||| ((1 : Int32) <<< (nI q &&& 31))) p = if p = q then 1 else bitV x p := by
  rw [bitV_eq hp, bitV_eq hp]
  show (if (x.toBitVec ||| ((1 : Int32) <<< (nI q &&& 31)).toBitVec).getLsbD p then (1 : Int32) else 0) = _
  rw [BitVec.getLsbD_or, one_shl q hq p hp]
  by_cases h : p = q
  · rw [if_pos h]
    simp [h]
  · rw [if_neg h]
    simp [h]
theorem bit_andn {x : Int32} {p q : Nat} (hp : p < 16) (hq : q < 16) : bitV (x &&& (((1 : Int32) <<< (nI q &&& 31)) ^^^ (-1))) p = if p = q then 0 else bitV x p := by
  rw [bitV_eq hp, bitV_eq hp]
  show (if (x.toBitVec &&& (((1 : Int32) <<< (nI q &&& 31)) ^^^ (-1)).toBitVec).getLsbD p then (1 : Int32) else 0) = _
  rw [BitVec.getLsbD_and, one_shlN q hq p hp]
  by_cases h : p = q
  · rw [if_pos h]
    simp [h]
  · rw [if_neg h]
    simp [h]
