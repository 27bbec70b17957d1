/-! shifts and masks: their answers as they come -/
def i_shr (a b : Int) : Int := (xI a >>> (xI b &&& 31)).toInt
def i_shl (a b : Int) : Int := (xI a <<< (xI b &&& 31)).toInt
def i_and (a b : Int) : Int := (xI a &&& xI b).toInt
def i_or (a b : Int) : Int := (xI a ||| xI b).toInt
def i_i2b (a : Int) : Int := ((xI a).toInt8.toInt32).toInt
def i_ushr (a b : Int) : Int := (((xI a).toUInt32 >>> ((xI b).toUInt32 &&& Int32.toUInt32 31)).toInt32).toInt
section XBT
variable {p : Program} {l : Launch} {e : Env} {R : Room} {s : State} {m : MethodId} {args : Array Value} {below : List Frame} {meth : Method} {c : Code} {nL : Nat} {E : x_E} {cells slots : Nat} {Q : State → Prop} {κ : x_Ka}
variable {cc : ByteArray} {own : String} {ret : Option FieldType} {pc : Nat} {L : List (Option Value)} {st : List Value} {X : x_X}
theorem x_ishr (B : x_B p s m args meth c cc own nL ret E) {a b : Int} (d : decode cc pc = .ok (.ishr, 1)) (k : x_G p l e R s m args below meth c nL E cells slots Q κ (pc + 1) L (vi (i_shr a b) :: st) X) : x_G p l e R s m args below meth c nL E cells slots Q κ pc L (vi b :: vi a :: st) X := by
  intro H locs ls hH hS hL
  have h : vi (i_shr a b) = .int (xI a >>> (xI b &&& 31)) := congrArg Value.int (xI_of _)
  have k2 := k H locs ls hH hS hL
  rw [h] at k2
  exact lv_ishr B.1.1 B.1.2.1 d k2
theorem x_ishl (B : x_B p s m args meth c cc own nL ret E) {a b : Int} (d : decode cc pc = .ok (.ishl, 1)) (k : x_G p l e R s m args below meth c nL E cells slots Q κ (pc + 1) L (vi (i_shl a b) :: st) X) : x_G p l e R s m args below meth c nL E cells slots Q κ pc L (vi b :: vi a :: st) X := by
  intro H locs ls hH hS hL
  have h : vi (i_shl a b) = .int (xI a <<< (xI b &&& 31)) := congrArg Value.int (xI_of _)
  have k2 := k H locs ls hH hS hL
  rw [h] at k2
  exact lv_ishl B.1.1 B.1.2.1 d k2
theorem x_iand (B : x_B p s m args meth c cc own nL ret E) {a b : Int} (d : decode cc pc = .ok (.iand, 1)) (k : x_G p l e R s m args below meth c nL E cells slots Q κ (pc + 1) L (vi (i_and a b) :: st) X) : x_G p l e R s m args below meth c nL E cells slots Q κ pc L (vi b :: vi a :: st) X := by
  intro H locs ls hH hS hL
  have h : vi (i_and a b) = .int (xI a &&& xI b) := congrArg Value.int (xI_of _)
  have k2 := k H locs ls hH hS hL
  rw [h] at k2
  exact lv_iand B.1.1 B.1.2.1 d k2
theorem x_ior (B : x_B p s m args meth c cc own nL ret E) {a b : Int} (d : decode cc pc = .ok (.ior, 1)) (k : x_G p l e R s m args below meth c nL E cells slots Q κ (pc + 1) L (vi (i_or a b) :: st) X) : x_G p l e R s m args below meth c nL E cells slots Q κ pc L (vi b :: vi a :: st) X := by
  intro H locs ls hH hS hL
  have h : vi (i_or a b) = .int (xI a ||| xI b) := congrArg Value.int (xI_of _)
  have k2 := k H locs ls hH hS hL
  rw [h] at k2
  exact lv_ior B.1.1 B.1.2.1 d k2
theorem x_iushr (B : x_B p s m args meth c cc own nL ret E) {a b : Int} (d : decode cc pc = .ok (.iushr, 1)) (k : x_G p l e R s m args below meth c nL E cells slots Q κ (pc + 1) L (vi (i_ushr a b) :: st) X) : x_G p l e R s m args below meth c nL E cells slots Q κ pc L (vi b :: vi a :: st) X :=
  fun H locs ls hH hS hL => lv_iushr B.1.1 B.1.2.1 d (xI_of _).symm (k H locs ls hH hS hL)
theorem x_i2b (B : x_B p s m args meth c cc own nL ret E) {a : Int} (d : decode cc pc = .ok (.i2b, 1)) (k : x_G p l e R s m args below meth c nL E cells slots Q κ (pc + 1) L (vi (i_i2b a) :: st) X) : x_G p l e R s m args below meth c nL E cells slots Q κ pc L (vi a :: st) X :=
  fun H locs ls hH hS hL => lv_i2b B.1.1 B.1.2.1 d (xI_of _).symm (k H locs ls hH hS hL)
theorem x_tswI (B : x_B p s m args meth c cc own nL ret E) {dflt lo hi off z v : Int} {offs : Array Int} {len tgt : Nat} (hz : xR z) (ez : z = v) (d : decode cc pc = .ok (.tableswitch dflt lo hi offs, len)) (h1 : lo ≤ v ∧ v ≤ hi) (ho : offs[(v - lo).toNat]? = some off) (ht : (pc : Int) + off = (tgt : Int)) (k : x_G p l e R s m args below meth c nL E cells slots Q κ tgt L (st) X) : x_G p l e R s m args below meth c nL E cells slots Q κ pc L (vi z :: st) X := by
  intro H locs ls hH hS hL
  have hx := xI_toInt hz
  exact lv_tableIn B.1.1 B.1.2.1 d (by rw [hx]; omega) (by rw [hx]; omega) (by rw [hx, ez]; exact ho) ht (k H locs ls hH hS hL)
theorem x_tswO (B : x_B p s m args meth c cc own nL ret E) {dflt lo hi z : Int} {offs : Array Int} {len tgt : Nat} (hz : xR z) (d : decode cc pc = .ok (.tableswitch dflt lo hi offs, len)) (h1 : z < lo ∨ hi < z) (ht : (pc : Int) + dflt = (tgt : Int)) (k : x_G p l e R s m args below meth c nL E cells slots Q κ tgt L (st) X) : x_G p l e R s m args below meth c nL E cells slots Q κ pc L (vi z :: st) X := by
  intro H locs ls hH hS hL
  have hx := xI_toInt hz
  exact lv_tableOut B.1.1 B.1.2.1 d (by rw [hx]; exact h1) ht (k H locs ls hH hS hL)
end XBT
theorem i_i2b_r (a : Int) : -128 ≤ i_i2b a ∧ i_i2b a ≤ 127 := by
  unfold i_i2b
  have h1 := Int8.le_toInt (xI a).toInt8
  have h2 := Int8.toInt_lt (xI a).toInt8
  rw [Int8.toInt_toInt32]
  omega
theorem i_and_255 (a : Int) : i_and a 255 = i_i2b a % 256 := by
  unfold i_and i_i2b
  rw [Int8.toInt_toInt32, Int32.toInt_toInt8]
  have h1 : (xI a &&& xI 255).toInt = ((xI a &&& xI 255).toBitVec.toNat : Int) := by
    rw [← Int32.toInt_toBitVec]
    refine BitVec.toInt_eq_toNat_of_lt ?_
    rw [Int32.toBitVec_and, BitVec.toNat_and]
    have : (xI a).toBitVec.toNat &&& (xI 255).toBitVec.toNat ≤ (xI 255).toBitVec.toNat := Nat.and_le_right
    have h255 : (xI 255).toBitVec.toNat = 255 := by decide
    omega
  have h255 : (xI 255).toBitVec.toNat = 2 ^ 8 - 1 := by decide
  rw [h1, Int32.toBitVec_and, BitVec.toNat_and, h255, Nat.and_two_pow_sub_one_eq_mod]
  have h2 : (xI a).toInt = (xI a).toBitVec.toInt := (Int32.toInt_toBitVec _).symm
  rw [show (256 : Int) = ((2 ^ 8 : Nat) : Int) from rfl, Int.bmod_emod, h2]
  have h3 : (xI a).toBitVec.toInt % (2 ^ 32 : Nat) = (xI a).toBitVec.toNat := by
    rw [BitVec.toInt_eq_toNat_bmod, Int.bmod_emod]
    exact Int.emod_eq_of_lt (by omega) (by have := (xI a).toBitVec.isLt; omega)
  have h4 := Int.emod_emod_of_dvd (xI a).toBitVec.toInt (show ((2 ^ 8 : Nat) : Int) ∣ ((2 ^ 32 : Nat) : Int) by decide)
  rw [h3] at h4
  have h5 : (((xI a).toBitVec.toNat % 2 ^ 8 : Nat) : Int) = ((xI a).toBitVec.toNat : Int) % ((2 ^ 8 : Nat) : Int) := Int.natCast_emod _ _
  rw [h5, h4]
