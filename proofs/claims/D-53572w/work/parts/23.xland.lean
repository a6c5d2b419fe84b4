def xMax (x y : Int32) : Int32 := if x < y then y else x
theorem nI_nm5 {k : Nat} (h : k < 2 ^ 31) : ¬ nI k = -5 := fun e => absurd (show nI k < 0 by rw [e]; decide) (nI_pos h)
theorem lw_U {own : String} {idx : Nat} {C owner : String} {x y : MethodName} {b : ByteArray} {L : Nat} {r : Option FieldType} (h1 : Cond.methodLink own idx x ∈ lw_all) (h2 : Cond.sameMethod x.cls owner x.name x.desc ∈ lw_all) (h3 : Cond.selects C x y ∈ lw_all) (h4 : Cond.instanceMethod y ∈ lw_all) (h5 : Cond.initialized y.cls ∈ lw_all) (h6 : Cond.code y b L r ∈ lw_all) : GoodIn lw_all (va_wsU own idx C owner x y (ws_ y b L r)) := by
  refine lw_app ?_ (lw_meth h6)
  intro w hw
  simp only [List.mem_cons, List.not_mem_nil, or_false] at hw
  rcases hw with e | e | e | e | e
  · rw [e]; exact h1
  · rw [e]; exact h2
  · rw [e]; exact h3
  · rw [e]; exact h4
  · rw [e]; exact h5
theorem lw_O {own : String} {idx : Nat} {C owner : String} {x y : MethodName} {b : ByteArray} {L : Nat} {r : Option FieldType} (h1 : Cond.methodLink own idx x ∈ lw_all) (h2 : Cond.sameMethod x.cls owner x.name x.desc ∈ lw_all) (h0 : Cond.instanceMethod ⟨owner, x.name, x.desc⟩ ∈ lw_all) (h3 : Cond.selects C x y ∈ lw_all) (h4 : Cond.instanceMethod y ∈ lw_all) (h5 : Cond.initialized y.cls ∈ lw_all) (h6 : Cond.code y b L r ∈ lw_all) : GoodIn lw_all (va_wsO own idx C owner x y (ws_ y b L r)) := by
  refine lw_app ?_ (lw_meth h6)
  intro w hw
  simp only [List.mem_cons, List.not_mem_nil, or_false] at hw
  rcases hw with e | e | e | e | e | e
  · rw [e]; exact h1
  · rw [e]; exact h2
  · rw [e]; exact h0
  · rw [e]; exact h3
  · rw [e]; exact h4
  · rw [e]; exact h5
theorem lw_SU {own : String} {idx : Nat} {y : MethodName} {b : ByteArray} {L : Nat} {r : Option FieldType} (h1 : Cond.methodLink own idx y ∈ lw_all) (h2 : Cond.sameMethod y.cls y.cls y.name y.desc ∈ lw_all) (h3 : Cond.superclass own y.cls ∈ lw_all) (h4 : Cond.instanceMethod y ∈ lw_all) (h5 : Cond.initialized y.cls ∈ lw_all) (h6 : Cond.code y b L r ∈ lw_all) : GoodIn lw_all (va_wsSU own idx y (ws_ y b L r)) := by
  refine lw_app ?_ (lw_meth h6)
  intro w hw
  simp only [List.mem_cons, List.not_mem_nil, or_false] at hw
  rcases hw with e | e | e | e | e
  · rw [e]; exact h1
  · rw [e]; exact h2
  · rw [e]; exact h3
  · rw [e]; exact h4
  · rw [e]; exact h5
theorem lw_F {own : String} {idx : Nat} {C : String} {x y : MethodName} {b : ByteArray} {L : Nat} {r : Option FieldType} (h1 : Cond.methodLink own idx x ∈ lw_all) (h3 : Cond.selects C x y ∈ lw_all) (h4 : Cond.instanceMethod y ∈ lw_all) (h5 : Cond.initialized y.cls ∈ lw_all) (h6 : Cond.code y b L r ∈ lw_all) : GoodIn lw_all (va_wsF own idx C x y (ws_ y b L r)) := by
  refine lw_app ?_ (lw_meth h6)
  intro w hw
  simp only [List.mem_cons, List.not_mem_nil, or_false] at hw
  rcases hw with e | e | e | e
  · rw [e]; exact h1
  · rw [e]; exact h3
  · rw [e]; exact h4
  · rw [e]; exact h5

theorem hdJ10_checkIndex : yJ10_checkIndex.cls ≠ "java/lang/invoke/MethodHandle" ∧ yJ10_checkIndex.cls ≠ "java/lang/invoke/VarHandle" ∧ (parseMethodDescriptor yJ10_checkIndex.desc).map (fun d => d.parameters.length) = some 2 := by decide +kernel
theorem hdJ11_checkIndex : yJ11_checkIndex.cls ≠ "java/lang/invoke/MethodHandle" ∧ yJ11_checkIndex.cls ≠ "java/lang/invoke/VarHandle" ∧ (parseMethodDescriptor yJ11_checkIndex.desc).map (fun d => d.parameters.length) = some 3 := by decide +kernel
theorem hdJ11_checkFromIndexSize : yJ11_checkFromIndexSize.cls ≠ "java/lang/invoke/MethodHandle" ∧ yJ11_checkFromIndexSize.cls ≠ "java/lang/invoke/VarHandle" ∧ (parseMethodDescriptor yJ11_checkFromIndexSize.desc).map (fun d => d.parameters.length) = some 4 := by decide +kernel
theorem hdJ12_bitCount : yJ12_bitCount.cls ≠ "java/lang/invoke/MethodHandle" ∧ yJ12_bitCount.cls ≠ "java/lang/invoke/VarHandle" ∧ (parseMethodDescriptor yJ12_bitCount.desc).map (fun d => d.parameters.length) = some 1 := by decide +kernel
theorem hdJ13_ordinal : yJ13_ordinal.cls = RJ13 ∧ yJ13_ordinal.cls ≠ "java/lang/invoke/MethodHandle" ∧ yJ13_ordinal.cls ≠ "java/lang/invoke/VarHandle" ∧ (parseMethodDescriptor yJ13_ordinal.desc).map (fun d => d.parameters.length) = some 0 := by decide +kernel
theorem hdJ16_canEncode : yJ16_canEncode.cls ≠ "java/lang/invoke/MethodHandle" ∧ yJ16_canEncode.cls ≠ "java/lang/invoke/VarHandle" ∧ (parseMethodDescriptor yJ16_canEncode.desc).map (fun d => d.parameters.length) = some 1 := by decide +kernel
theorem hdJ16_inflate : yJ16_inflate.cls ≠ "java/lang/invoke/MethodHandle" ∧ yJ16_inflate.cls ≠ "java/lang/invoke/VarHandle" ∧ (parseMethodDescriptor yJ16_inflate.desc).map (fun d => d.parameters.length) = some 5 := by decide +kernel
theorem hdJ16_fillNull : yJ16_fillNull.cls ≠ "java/lang/invoke/MethodHandle" ∧ yJ16_fillNull.cls ≠ "java/lang/invoke/VarHandle" ∧ (parseMethodDescriptor yJ16_fillNull.desc).map (fun d => d.parameters.length) = some 3 := by decide +kernel
theorem hdJ2_init : yJ2_init.cls = RJ2 ∧ yJ2_init.cls ≠ "java/lang/invoke/MethodHandle" ∧ yJ2_init.cls ≠ "java/lang/invoke/VarHandle" ∧ (parseMethodDescriptor yJ2_init.desc).map (fun d => d.parameters.length) = some 0 := by decide +kernel
theorem hdJ2_addAll : yJ2_addAll.cls = RJ2 ∧ yJ2_addAll.cls ≠ "java/lang/invoke/MethodHandle" ∧ yJ2_addAll.cls ≠ "java/lang/invoke/VarHandle" ∧ (parseMethodDescriptor yJ2_addAll.desc).map (fun d => d.parameters.length) = some 1 := by decide +kernel
theorem hdJ2_toArray : yJ2_toArray.cls = RJ2 ∧ yJ2_toArray.cls ≠ "java/lang/invoke/MethodHandle" ∧ yJ2_toArray.cls ≠ "java/lang/invoke/VarHandle" ∧ (parseMethodDescriptor yJ2_toArray.desc).map (fun d => d.parameters.length) = some 0 := by decide +kernel
theorem hdJ2_grow : yJ2_grow.cls = RJ2 ∧ yJ2_grow.cls ≠ "java/lang/invoke/MethodHandle" ∧ yJ2_grow.cls ≠ "java/lang/invoke/VarHandle" ∧ (parseMethodDescriptor yJ2_grow.desc).map (fun d => d.parameters.length) = some 1 := by decide +kernel
theorem hdJ2_clear : yJ2_clear.cls = RJ2 ∧ yJ2_clear.cls ≠ "java/lang/invoke/MethodHandle" ∧ yJ2_clear.cls ≠ "java/lang/invoke/VarHandle" ∧ (parseMethodDescriptor yJ2_clear.desc).map (fun d => d.parameters.length) = some 0 := by decide +kernel
theorem hdJ2_size : yJ2_size.cls = RJ2 ∧ yJ2_size.cls ≠ "java/lang/invoke/MethodHandle" ∧ yJ2_size.cls ≠ "java/lang/invoke/VarHandle" ∧ (parseMethodDescriptor yJ2_size.desc).map (fun d => d.parameters.length) = some 0 := by decide +kernel
theorem hdJ2_remove : yJ2_remove.cls = RJ2 ∧ yJ2_remove.cls ≠ "java/lang/invoke/MethodHandle" ∧ yJ2_remove.cls ≠ "java/lang/invoke/VarHandle" ∧ (parseMethodDescriptor yJ2_remove.desc).map (fun d => d.parameters.length) = some 1 := by decide +kernel
theorem hdJ2_fastRemove : yJ2_fastRemove.cls = RJ2 ∧ yJ2_fastRemove.cls ≠ "java/lang/invoke/MethodHandle" ∧ yJ2_fastRemove.cls ≠ "java/lang/invoke/VarHandle" ∧ (parseMethodDescriptor yJ2_fastRemove.desc).map (fun d => d.parameters.length) = some 2 := by decide +kernel
theorem hdJ2_add : yJ2_add.cls = RJ2 ∧ yJ2_add.cls ≠ "java/lang/invoke/MethodHandle" ∧ yJ2_add.cls ≠ "java/lang/invoke/VarHandle" ∧ (parseMethodDescriptor yJ2_add.desc).map (fun d => d.parameters.length) = some 1 := by decide +kernel
theorem hdJ2_add_2 : yJ2_add_2.cls = RJ2 ∧ yJ2_add_2.cls ≠ "java/lang/invoke/MethodHandle" ∧ yJ2_add_2.cls ≠ "java/lang/invoke/VarHandle" ∧ (parseMethodDescriptor yJ2_add_2.desc).map (fun d => d.parameters.length) = some 3 := by decide +kernel
theorem hdJ2_grow_2 : yJ2_grow_2.cls = RJ2 ∧ yJ2_grow_2.cls ≠ "java/lang/invoke/MethodHandle" ∧ yJ2_grow_2.cls ≠ "java/lang/invoke/VarHandle" ∧ (parseMethodDescriptor yJ2_grow_2.desc).map (fun d => d.parameters.length) = some 0 := by decide +kernel
theorem hdJ2_get : yJ2_get.cls = RJ2 ∧ yJ2_get.cls ≠ "java/lang/invoke/MethodHandle" ∧ yJ2_get.cls ≠ "java/lang/invoke/VarHandle" ∧ (parseMethodDescriptor yJ2_get.desc).map (fun d => d.parameters.length) = some 1 := by decide +kernel
theorem hdJ2_elementData : yJ2_elementData.cls = RJ2 ∧ yJ2_elementData.cls ≠ "java/lang/invoke/MethodHandle" ∧ yJ2_elementData.cls ≠ "java/lang/invoke/VarHandle" ∧ (parseMethodDescriptor yJ2_elementData.desc).map (fun d => d.parameters.length) = some 1 := by decide +kernel
theorem hdJ2_isEmpty : yJ2_isEmpty.cls = RJ2 ∧ yJ2_isEmpty.cls ≠ "java/lang/invoke/MethodHandle" ∧ yJ2_isEmpty.cls ≠ "java/lang/invoke/VarHandle" ∧ (parseMethodDescriptor yJ2_isEmpty.desc).map (fun d => d.parameters.length) = some 0 := by decide +kernel
theorem hdJ3_init : yJ3_init.cls = RJ3 ∧ yJ3_init.cls ≠ "java/lang/invoke/MethodHandle" ∧ yJ3_init.cls ≠ "java/lang/invoke/VarHandle" ∧ (parseMethodDescriptor yJ3_init.desc).map (fun d => d.parameters.length) = some 1 := by decide +kernel
theorem hdJ3_length : yJ3_length.cls = RJ3 ∧ yJ3_length.cls ≠ "java/lang/invoke/MethodHandle" ∧ yJ3_length.cls ≠ "java/lang/invoke/VarHandle" ∧ (parseMethodDescriptor yJ3_length.desc).map (fun d => d.parameters.length) = some 0 := by decide +kernel
theorem hdJ3_charAt : yJ3_charAt.cls = RJ3 ∧ yJ3_charAt.cls ≠ "java/lang/invoke/MethodHandle" ∧ yJ3_charAt.cls ≠ "java/lang/invoke/VarHandle" ∧ (parseMethodDescriptor yJ3_charAt.desc).map (fun d => d.parameters.length) = some 1 := by decide +kernel
theorem hdJ3_append : yJ3_append.cls = RJ3 ∧ yJ3_append.cls ≠ "java/lang/invoke/MethodHandle" ∧ yJ3_append.cls ≠ "java/lang/invoke/VarHandle" ∧ (parseMethodDescriptor yJ3_append.desc).map (fun d => d.parameters.length) = some 1 := by decide +kernel
theorem hdJ3_ensureCapacityInternal : yJ3_ensureCapacityInternal.cls = RJ3 ∧ yJ3_ensureCapacityInternal.cls ≠ "java/lang/invoke/MethodHandle" ∧ yJ3_ensureCapacityInternal.cls ≠ "java/lang/invoke/VarHandle" ∧ (parseMethodDescriptor yJ3_ensureCapacityInternal.desc).map (fun d => d.parameters.length) = some 1 := by decide +kernel
theorem hdJ3_newCapacity : yJ3_newCapacity.cls = RJ3 ∧ yJ3_newCapacity.cls ≠ "java/lang/invoke/MethodHandle" ∧ yJ3_newCapacity.cls ≠ "java/lang/invoke/VarHandle" ∧ (parseMethodDescriptor yJ3_newCapacity.desc).map (fun d => d.parameters.length) = some 1 := by decide +kernel
theorem hdJ3_isLatin1 : yJ3_isLatin1.cls = RJ3 ∧ yJ3_isLatin1.cls ≠ "java/lang/invoke/MethodHandle" ∧ yJ3_isLatin1.cls ≠ "java/lang/invoke/VarHandle" ∧ (parseMethodDescriptor yJ3_isLatin1.desc).map (fun d => d.parameters.length) = some 0 := by decide +kernel
theorem hdJ3_inflate : yJ3_inflate.cls = RJ3 ∧ yJ3_inflate.cls ≠ "java/lang/invoke/MethodHandle" ∧ yJ3_inflate.cls ≠ "java/lang/invoke/VarHandle" ∧ (parseMethodDescriptor yJ3_inflate.desc).map (fun d => d.parameters.length) = some 0 := by decide +kernel
theorem hdJ3_setLength : yJ3_setLength.cls = RJ3 ∧ yJ3_setLength.cls ≠ "java/lang/invoke/MethodHandle" ∧ yJ3_setLength.cls ≠ "java/lang/invoke/VarHandle" ∧ (parseMethodDescriptor yJ3_setLength.desc).map (fun d => d.parameters.length) = some 1 := by decide +kernel
theorem hdJ4_init : yJ4_init.cls = RJ4 ∧ yJ4_init.cls ≠ "java/lang/invoke/MethodHandle" ∧ yJ4_init.cls ≠ "java/lang/invoke/VarHandle" ∧ (parseMethodDescriptor yJ4_init.desc).map (fun d => d.parameters.length) = some 0 := by decide +kernel
theorem hdJ4_length : yJ4_length.cls = RJ4 ∧ yJ4_length.cls ≠ "java/lang/invoke/MethodHandle" ∧ yJ4_length.cls ≠ "java/lang/invoke/VarHandle" ∧ (parseMethodDescriptor yJ4_length.desc).map (fun d => d.parameters.length) = some 0 := by decide +kernel
theorem hdJ4_charAt : yJ4_charAt.cls = RJ4 ∧ yJ4_charAt.cls ≠ "java/lang/invoke/MethodHandle" ∧ yJ4_charAt.cls ≠ "java/lang/invoke/VarHandle" ∧ (parseMethodDescriptor yJ4_charAt.desc).map (fun d => d.parameters.length) = some 1 := by decide +kernel
theorem hdJ4_append : yJ4_append.cls = RJ4 ∧ yJ4_append.cls ≠ "java/lang/invoke/MethodHandle" ∧ yJ4_append.cls ≠ "java/lang/invoke/VarHandle" ∧ (parseMethodDescriptor yJ4_append.desc).map (fun d => d.parameters.length) = some 1 := by decide +kernel
theorem hdJ4_setLength : yJ4_setLength.cls = RJ4 ∧ yJ4_setLength.cls ≠ "java/lang/invoke/MethodHandle" ∧ yJ4_setLength.cls ≠ "java/lang/invoke/VarHandle" ∧ (parseMethodDescriptor yJ4_setLength.desc).map (fun d => d.parameters.length) = some 1 := by decide +kernel
theorem hdJ5_checkIndex : yJ5_checkIndex.cls ≠ "java/lang/invoke/MethodHandle" ∧ yJ5_checkIndex.cls ≠ "java/lang/invoke/VarHandle" ∧ (parseMethodDescriptor yJ5_checkIndex.desc).map (fun d => d.parameters.length) = some 2 := by decide +kernel
theorem hdJ5_checkBoundsOffCount : yJ5_checkBoundsOffCount.cls ≠ "java/lang/invoke/MethodHandle" ∧ yJ5_checkBoundsOffCount.cls ≠ "java/lang/invoke/VarHandle" ∧ (parseMethodDescriptor yJ5_checkBoundsOffCount.desc).map (fun d => d.parameters.length) = some 3 := by decide +kernel
theorem hdJ6_newBytesFor : yJ6_newBytesFor.cls ≠ "java/lang/invoke/MethodHandle" ∧ yJ6_newBytesFor.cls ≠ "java/lang/invoke/VarHandle" ∧ (parseMethodDescriptor yJ6_newBytesFor.desc).map (fun d => d.parameters.length) = some 1 := by decide +kernel
theorem hdJ6_newBytesLength : yJ6_newBytesLength.cls ≠ "java/lang/invoke/MethodHandle" ∧ yJ6_newBytesLength.cls ≠ "java/lang/invoke/VarHandle" ∧ (parseMethodDescriptor yJ6_newBytesLength.desc).map (fun d => d.parameters.length) = some 1 := by decide +kernel
theorem hdJ6_getChar : yJ6_getChar.cls ≠ "java/lang/invoke/MethodHandle" ∧ yJ6_getChar.cls ≠ "java/lang/invoke/VarHandle" ∧ (parseMethodDescriptor yJ6_getChar.desc).map (fun d => d.parameters.length) = some 2 := by decide +kernel
theorem hdJ6_length : yJ6_length.cls ≠ "java/lang/invoke/MethodHandle" ∧ yJ6_length.cls ≠ "java/lang/invoke/VarHandle" ∧ (parseMethodDescriptor yJ6_length.desc).map (fun d => d.parameters.length) = some 1 := by decide +kernel
theorem hdJ6_inflate : yJ6_inflate.cls ≠ "java/lang/invoke/MethodHandle" ∧ yJ6_inflate.cls ≠ "java/lang/invoke/VarHandle" ∧ (parseMethodDescriptor yJ6_inflate.desc).map (fun d => d.parameters.length) = some 5 := by decide +kernel
theorem hdJ6_checkBoundsOffCount : yJ6_checkBoundsOffCount.cls ≠ "java/lang/invoke/MethodHandle" ∧ yJ6_checkBoundsOffCount.cls ≠ "java/lang/invoke/VarHandle" ∧ (parseMethodDescriptor yJ6_checkBoundsOffCount.desc).map (fun d => d.parameters.length) = some 3 := by decide +kernel
theorem hdJ6_putChar : yJ6_putChar.cls ≠ "java/lang/invoke/MethodHandle" ∧ yJ6_putChar.cls ≠ "java/lang/invoke/VarHandle" ∧ (parseMethodDescriptor yJ6_putChar.desc).map (fun d => d.parameters.length) = some 3 := by decide +kernel
theorem hdJ6_putCharSB : yJ6_putCharSB.cls ≠ "java/lang/invoke/MethodHandle" ∧ yJ6_putCharSB.cls ≠ "java/lang/invoke/VarHandle" ∧ (parseMethodDescriptor yJ6_putCharSB.desc).map (fun d => d.parameters.length) = some 3 := by decide +kernel
theorem hdJ6_checkIndex : yJ6_checkIndex.cls ≠ "java/lang/invoke/MethodHandle" ∧ yJ6_checkIndex.cls ≠ "java/lang/invoke/VarHandle" ∧ (parseMethodDescriptor yJ6_checkIndex.desc).map (fun d => d.parameters.length) = some 2 := by decide +kernel
theorem hdJ6_fillNull : yJ6_fillNull.cls ≠ "java/lang/invoke/MethodHandle" ∧ yJ6_fillNull.cls ≠ "java/lang/invoke/VarHandle" ∧ (parseMethodDescriptor yJ6_fillNull.desc).map (fun d => d.parameters.length) = some 3 := by decide +kernel
theorem hdJ7_copyOf : yJ7_copyOf.cls ≠ "java/lang/invoke/MethodHandle" ∧ yJ7_copyOf.cls ≠ "java/lang/invoke/VarHandle" ∧ (parseMethodDescriptor yJ7_copyOf.desc).map (fun d => d.parameters.length) = some 2 := by decide +kernel
theorem hdJ7_copyOf_2 : yJ7_copyOf_2.cls ≠ "java/lang/invoke/MethodHandle" ∧ yJ7_copyOf_2.cls ≠ "java/lang/invoke/VarHandle" ∧ (parseMethodDescriptor yJ7_copyOf_2.desc).map (fun d => d.parameters.length) = some 3 := by decide +kernel
theorem hdJ7_copyOf_3 : yJ7_copyOf_3.cls ≠ "java/lang/invoke/MethodHandle" ∧ yJ7_copyOf_3.cls ≠ "java/lang/invoke/VarHandle" ∧ (parseMethodDescriptor yJ7_copyOf_3.desc).map (fun d => d.parameters.length) = some 2 := by decide +kernel
theorem hdJ7_fill : yJ7_fill.cls ≠ "java/lang/invoke/MethodHandle" ∧ yJ7_fill.cls ≠ "java/lang/invoke/VarHandle" ∧ (parseMethodDescriptor yJ7_fill.desc).map (fun d => d.parameters.length) = some 4 := by decide +kernel
theorem hdJ7_rangeCheck : yJ7_rangeCheck.cls ≠ "java/lang/invoke/MethodHandle" ∧ yJ7_rangeCheck.cls ≠ "java/lang/invoke/VarHandle" ∧ (parseMethodDescriptor yJ7_rangeCheck.desc).map (fun d => d.parameters.length) = some 3 := by decide +kernel
theorem hdJ8_min : yJ8_min.cls ≠ "java/lang/invoke/MethodHandle" ∧ yJ8_min.cls ≠ "java/lang/invoke/VarHandle" ∧ (parseMethodDescriptor yJ8_min.desc).map (fun d => d.parameters.length) = some 2 := by decide +kernel
theorem hdJ8_max : yJ8_max.cls ≠ "java/lang/invoke/MethodHandle" ∧ yJ8_max.cls ≠ "java/lang/invoke/VarHandle" ∧ (parseMethodDescriptor yJ8_max.desc).map (fun d => d.parameters.length) = some 2 := by decide +kernel
theorem hdJ9_newLength : yJ9_newLength.cls ≠ "java/lang/invoke/MethodHandle" ∧ yJ9_newLength.cls ≠ "java/lang/invoke/VarHandle" ∧ (parseMethodDescriptor yJ9_newLength.desc).map (fun d => d.parameters.length) = some 3 := by decide +kernel
theorem hdJ9_hugeLength : yJ9_hugeLength.cls ≠ "java/lang/invoke/MethodHandle" ∧ yJ9_hugeLength.cls ≠ "java/lang/invoke/VarHandle" ∧ (parseMethodDescriptor yJ9_hugeLength.desc).map (fun d => d.parameters.length) = some 2 := by decide +kernel
theorem hdX0_init : yX0_init.cls = RX0 ∧ yX0_init.cls ≠ "java/lang/invoke/MethodHandle" ∧ yX0_init.cls ≠ "java/lang/invoke/VarHandle" ∧ (parseMethodDescriptor yX0_init.desc).map (fun d => d.parameters.length) = some 0 := by decide +kernel
theorem hdX0_addSite : yX0_addSite.cls = RX0 ∧ yX0_addSite.cls ≠ "java/lang/invoke/MethodHandle" ∧ yX0_addSite.cls ≠ "java/lang/invoke/VarHandle" ∧ (parseMethodDescriptor yX0_addSite.desc).map (fun d => d.parameters.length) = some 1 := by decide +kernel
theorem hdX0_inRange : yX0_inRange.cls ≠ "java/lang/invoke/MethodHandle" ∧ yX0_inRange.cls ≠ "java/lang/invoke/VarHandle" ∧ (parseMethodDescriptor yX0_inRange.desc).map (fun d => d.parameters.length) = some 3 := by decide +kernel
theorem hdX0_fresh : yX0_fresh.cls = RX0 ∧ yX0_fresh.cls ≠ "java/lang/invoke/MethodHandle" ∧ yX0_fresh.cls ≠ "java/lang/invoke/VarHandle" ∧ (parseMethodDescriptor yX0_fresh.desc).map (fun d => d.parameters.length) = some 0 := by decide +kernel
theorem hdX0_accept : yX0_accept.cls = RX0 ∧ yX0_accept.cls ≠ "java/lang/invoke/MethodHandle" ∧ yX0_accept.cls ≠ "java/lang/invoke/VarHandle" ∧ (parseMethodDescriptor yX0_accept.desc).map (fun d => d.parameters.length) = some 2 := by decide +kernel
theorem hdX0_addCustomer : yX0_addCustomer.cls = RX0 ∧ yX0_addCustomer.cls ≠ "java/lang/invoke/MethodHandle" ∧ yX0_addCustomer.cls ≠ "java/lang/invoke/VarHandle" ∧ (parseMethodDescriptor yX0_addCustomer.desc).map (fun d => d.parameters.length) = some 1 := by decide +kernel
theorem hdX0_setPrice : yX0_setPrice.cls = RX0 ∧ yX0_setPrice.cls ≠ "java/lang/invoke/MethodHandle" ∧ yX0_setPrice.cls ≠ "java/lang/invoke/VarHandle" ∧ (parseMethodDescriptor yX0_setPrice.desc).map (fun d => d.parameters.length) = some 2 := by decide +kernel
theorem hdX0_isSite : yX0_isSite.cls = RX0 ∧ yX0_isSite.cls ≠ "java/lang/invoke/MethodHandle" ∧ yX0_isSite.cls ≠ "java/lang/invoke/VarHandle" ∧ (parseMethodDescriptor yX0_isSite.desc).map (fun d => d.parameters.length) = some 1 := by decide +kernel
theorem hdX0_setDemand : yX0_setDemand.cls = RX0 ∧ yX0_setDemand.cls ≠ "java/lang/invoke/MethodHandle" ∧ yX0_setDemand.cls ≠ "java/lang/invoke/VarHandle" ∧ (parseMethodDescriptor yX0_setDemand.desc).map (fun d => d.parameters.length) = some 2 := by decide +kernel
theorem hdX0_isCustomer : yX0_isCustomer.cls = RX0 ∧ yX0_isCustomer.cls ≠ "java/lang/invoke/MethodHandle" ∧ yX0_isCustomer.cls ≠ "java/lang/invoke/VarHandle" ∧ (parseMethodDescriptor yX0_isCustomer.desc).map (fun d => d.parameters.length) = some 1 := by decide +kernel
theorem hdX0_setRoute : yX0_setRoute.cls = RX0 ∧ yX0_setRoute.cls ≠ "java/lang/invoke/MethodHandle" ∧ yX0_setRoute.cls ≠ "java/lang/invoke/VarHandle" ∧ (parseMethodDescriptor yX0_setRoute.desc).map (fun d => d.parameters.length) = some 3 := by decide +kernel
theorem hdX0_setMost : yX0_setMost.cls = RX0 ∧ yX0_setMost.cls ≠ "java/lang/invoke/MethodHandle" ∧ yX0_setMost.cls ≠ "java/lang/invoke/VarHandle" ∧ (parseMethodDescriptor yX0_setMost.desc).map (fun d => d.parameters.length) = some 1 := by decide +kernel
theorem hdX0_exclude : yX0_exclude.cls = RX0 ∧ yX0_exclude.cls ≠ "java/lang/invoke/MethodHandle" ∧ yX0_exclude.cls ≠ "java/lang/invoke/VarHandle" ∧ (parseMethodDescriptor yX0_exclude.desc).map (fun d => d.parameters.length) = some 3 := by decide +kernel
theorem hdX0_has : yX0_has.cls ≠ "java/lang/invoke/MethodHandle" ∧ yX0_has.cls ≠ "java/lang/invoke/VarHandle" ∧ (parseMethodDescriptor yX0_has.desc).map (fun d => d.parameters.length) = some 2 := by decide +kernel
theorem hdX0_step : yX0_step.cls = RX0 ∧ yX0_step.cls ≠ "java/lang/invoke/MethodHandle" ∧ yX0_step.cls ≠ "java/lang/invoke/VarHandle" ∧ (parseMethodDescriptor yX0_step.desc).map (fun d => d.parameters.length) = some 0 := by decide +kernel
theorem hdX0_solve : yX0_solve.cls = RX0 ∧ yX0_solve.cls ≠ "java/lang/invoke/MethodHandle" ∧ yX0_solve.cls ≠ "java/lang/invoke/VarHandle" ∧ (parseMethodDescriptor yX0_solve.desc).map (fun d => d.parameters.length) = some 0 := by decide +kernel
theorem hdX0_readCut : yX0_readCut.cls = RX0 ∧ yX0_readCut.cls ≠ "java/lang/invoke/MethodHandle" ∧ yX0_readCut.cls ≠ "java/lang/invoke/VarHandle" ∧ (parseMethodDescriptor yX0_readCut.desc).map (fun d => d.parameters.length) = some 0 := by decide +kernel
theorem hdX0_drop : yX0_drop.cls = RX0 ∧ yX0_drop.cls ≠ "java/lang/invoke/MethodHandle" ∧ yX0_drop.cls ≠ "java/lang/invoke/VarHandle" ∧ (parseMethodDescriptor yX0_drop.desc).map (fun d => d.parameters.length) = some 1 := by decide +kernel
theorem hdX0_isCut : yX0_isCut.cls = RX0 ∧ yX0_isCut.cls ≠ "java/lang/invoke/MethodHandle" ∧ yX0_isCut.cls ≠ "java/lang/invoke/VarHandle" ∧ (parseMethodDescriptor yX0_isCut.desc).map (fun d => d.parameters.length) = some 1 := by decide +kernel
theorem hdX0_dropLoose : yX0_dropLoose.cls = RX0 ∧ yX0_dropLoose.cls ≠ "java/lang/invoke/MethodHandle" ∧ yX0_dropLoose.cls ≠ "java/lang/invoke/VarHandle" ∧ (parseMethodDescriptor yX0_dropLoose.desc).map (fun d => d.parameters.length) = some 0 := by decide +kernel
theorem hdX0_type : yX0_type.cls = RX0 ∧ yX0_type.cls ≠ "java/lang/invoke/MethodHandle" ∧ yX0_type.cls ≠ "java/lang/invoke/VarHandle" ∧ (parseMethodDescriptor yX0_type.desc).map (fun d => d.parameters.length) = some 1 := by decide +kernel
theorem hdX0_clearText : yX0_clearText.cls = RX0 ∧ yX0_clearText.cls ≠ "java/lang/invoke/MethodHandle" ∧ yX0_clearText.cls ≠ "java/lang/invoke/VarHandle" ∧ (parseMethodDescriptor yX0_clearText.desc).map (fun d => d.parameters.length) = some 0 := by decide +kernel
theorem hdX0_undo : yX0_undo.cls = RX0 ∧ yX0_undo.cls ≠ "java/lang/invoke/MethodHandle" ∧ yX0_undo.cls ≠ "java/lang/invoke/VarHandle" ∧ (parseMethodDescriptor yX0_undo.desc).map (fun d => d.parameters.length) = some 0 := by decide +kernel
theorem hdX0_keep : yX0_keep.cls = RX0 ∧ yX0_keep.cls ≠ "java/lang/invoke/MethodHandle" ∧ yX0_keep.cls ≠ "java/lang/invoke/VarHandle" ∧ (parseMethodDescriptor yX0_keep.desc).map (fun d => d.parameters.length) = some 0 := by decide +kernel
theorem hdX0_restore : yX0_restore.cls = RX0 ∧ yX0_restore.cls ≠ "java/lang/invoke/MethodHandle" ∧ yX0_restore.cls ≠ "java/lang/invoke/VarHandle" ∧ (parseMethodDescriptor yX0_restore.desc).map (fun d => d.parameters.length) = some 0 := by decide +kernel
theorem hdX0_judge : yX0_judge.cls = RX0 ∧ yX0_judge.cls ≠ "java/lang/invoke/MethodHandle" ∧ yX0_judge.cls ≠ "java/lang/invoke/VarHandle" ∧ (parseMethodDescriptor yX0_judge.desc).map (fun d => d.parameters.length) = some 1 := by decide +kernel
theorem hdX0_isPlan : yX0_isPlan.cls = RX0 ∧ yX0_isPlan.cls ≠ "java/lang/invoke/MethodHandle" ∧ yX0_isPlan.cls ≠ "java/lang/invoke/VarHandle" ∧ (parseMethodDescriptor yX0_isPlan.desc).map (fun d => d.parameters.length) = some 1 := by decide +kernel
theorem hdX0_plan : yX0_plan.cls = RX0 ∧ yX0_plan.cls ≠ "java/lang/invoke/MethodHandle" ∧ yX0_plan.cls ≠ "java/lang/invoke/VarHandle" ∧ (parseMethodDescriptor yX0_plan.desc).map (fun d => d.parameters.length) = some 2 := by decide +kernel
theorem hdX0_serves : yX0_serves.cls = RX0 ∧ yX0_serves.cls ≠ "java/lang/invoke/MethodHandle" ∧ yX0_serves.cls ≠ "java/lang/invoke/VarHandle" ∧ (parseMethodDescriptor yX0_serves.desc).map (fun d => d.parameters.length) = some 2 := by decide +kernel
theorem hdX0_cut : yX0_cut.cls = RX0 ∧ yX0_cut.cls ≠ "java/lang/invoke/MethodHandle" ∧ yX0_cut.cls ≠ "java/lang/invoke/VarHandle" ∧ (parseMethodDescriptor yX0_cut.desc).map (fun d => d.parameters.length) = some 2 := by decide +kernel
theorem hdX0_lambda_cut_0 : yX0_lambda_cut_0.cls ≠ "java/lang/invoke/MethodHandle" ∧ yX0_lambda_cut_0.cls ≠ "java/lang/invoke/VarHandle" ∧ (parseMethodDescriptor yX0_lambda_cut_0.desc).map (fun d => d.parameters.length) = some 3 := by decide +kernel
theorem hdX0_lambda_cut_1 : yX0_lambda_cut_1.cls ≠ "java/lang/invoke/MethodHandle" ∧ yX0_lambda_cut_1.cls ≠ "java/lang/invoke/VarHandle" ∧ (parseMethodDescriptor yX0_lambda_cut_1.desc).map (fun d => d.parameters.length) = some 3 := by decide +kernel
theorem hdX0_weight : yX0_weight.cls = RX0 ∧ yX0_weight.cls ≠ "java/lang/invoke/MethodHandle" ∧ yX0_weight.cls ≠ "java/lang/invoke/VarHandle" ∧ (parseMethodDescriptor yX0_weight.desc).map (fun d => d.parameters.length) = some 2 := by decide +kernel
theorem hdX0_value : yX0_value.cls = RX0 ∧ yX0_value.cls ≠ "java/lang/invoke/MethodHandle" ∧ yX0_value.cls ≠ "java/lang/invoke/VarHandle" ∧ (parseMethodDescriptor yX0_value.desc).map (fun d => d.parameters.length) = some 2 := by decide +kernel
theorem hdX0_master : yX0_master.cls = RX0 ∧ yX0_master.cls ≠ "java/lang/invoke/MethodHandle" ∧ yX0_master.cls ≠ "java/lang/invoke/VarHandle" ∧ (parseMethodDescriptor yX0_master.desc).map (fun d => d.parameters.length) = some 1 := by decide +kernel
theorem hdX0_byAll : yX0_byAll.cls = RX0 ∧ yX0_byAll.cls ≠ "java/lang/invoke/MethodHandle" ∧ yX0_byAll.cls ≠ "java/lang/invoke/VarHandle" ∧ (parseMethodDescriptor yX0_byAll.desc).map (fun d => d.parameters.length) = some 1 := by decide +kernel
theorem hdX0_lambda_byAll_2 : yX0_lambda_byAll_2.cls = RX0 ∧ yX0_lambda_byAll_2.cls ≠ "java/lang/invoke/MethodHandle" ∧ yX0_lambda_byAll_2.cls ≠ "java/lang/invoke/VarHandle" ∧ (parseMethodDescriptor yX0_lambda_byAll_2.desc).map (fun d => d.parameters.length) = some 1 := by decide +kernel
theorem hdX0_count : yX0_count.cls = RX0 ∧ yX0_count.cls ≠ "java/lang/invoke/MethodHandle" ∧ yX0_count.cls ≠ "java/lang/invoke/VarHandle" ∧ (parseMethodDescriptor yX0_count.desc).map (fun d => d.parameters.length) = some 1 := by decide +kernel
theorem hdX0_routes : yX0_routes.cls = RX0 ∧ yX0_routes.cls ≠ "java/lang/invoke/MethodHandle" ∧ yX0_routes.cls ≠ "java/lang/invoke/VarHandle" ∧ (parseMethodDescriptor yX0_routes.desc).map (fun d => d.parameters.length) = some 0 := by decide +kernel
theorem hdX0_pairs : yX0_pairs.cls = RX0 ∧ yX0_pairs.cls ≠ "java/lang/invoke/MethodHandle" ∧ yX0_pairs.cls ≠ "java/lang/invoke/VarHandle" ∧ (parseMethodDescriptor yX0_pairs.desc).map (fun d => d.parameters.length) = some 0 := by decide +kernel
theorem hdX0_rays : yX0_rays.cls = RX0 ∧ yX0_rays.cls ≠ "java/lang/invoke/MethodHandle" ∧ yX0_rays.cls ≠ "java/lang/invoke/VarHandle" ∧ (parseMethodDescriptor yX0_rays.desc).map (fun d => d.parameters.length) = some 0 := by decide +kernel
theorem hdX1_init : yX1_init.cls = RX1 ∧ yX1_init.cls ≠ "java/lang/invoke/MethodHandle" ∧ yX1_init.cls ≠ "java/lang/invoke/VarHandle" ∧ (parseMethodDescriptor yX1_init.desc).map (fun d => d.parameters.length) = some 0 := by decide +kernel
theorem hdX1_copy : yX1_copy.cls = RX1 ∧ yX1_copy.cls ≠ "java/lang/invoke/MethodHandle" ∧ yX1_copy.cls ≠ "java/lang/invoke/VarHandle" ∧ (parseMethodDescriptor yX1_copy.desc).map (fun d => d.parameters.length) = some 0 := by decide +kernel
theorem hdX1_forget : yX1_forget.cls = RX1 ∧ yX1_forget.cls ≠ "java/lang/invoke/MethodHandle" ∧ yX1_forget.cls ≠ "java/lang/invoke/VarHandle" ∧ (parseMethodDescriptor yX1_forget.desc).map (fun d => d.parameters.length) = some 0 := by decide +kernel
theorem hdX1_step : yX1_step.cls = RX1 ∧ yX1_step.cls ≠ "java/lang/invoke/MethodHandle" ∧ yX1_step.cls ≠ "java/lang/invoke/VarHandle" ∧ (parseMethodDescriptor yX1_step.desc).map (fun d => d.parameters.length) = some 0 := by decide +kernel
theorem hdX1_master : yX1_master.cls = RX1 ∧ yX1_master.cls ≠ "java/lang/invoke/MethodHandle" ∧ yX1_master.cls ≠ "java/lang/invoke/VarHandle" ∧ (parseMethodDescriptor yX1_master.desc).map (fun d => d.parameters.length) = some 0 := by decide +kernel
theorem hdX1_lambda_master_0 : yX1_lambda_master_0.cls = RX1 ∧ yX1_lambda_master_0.cls ≠ "java/lang/invoke/MethodHandle" ∧ yX1_lambda_master_0.cls ≠ "java/lang/invoke/VarHandle" ∧ (parseMethodDescriptor yX1_lambda_master_0.desc).map (fun d => d.parameters.length) = some 1 := by decide +kernel
theorem hdX1_broken : yX1_broken.cls = RX1 ∧ yX1_broken.cls ≠ "java/lang/invoke/MethodHandle" ∧ yX1_broken.cls ≠ "java/lang/invoke/VarHandle" ∧ (parseMethodDescriptor yX1_broken.desc).map (fun d => d.parameters.length) = some 1 := by decide +kernel
theorem hdX1_lambda_master_1 : yX1_lambda_master_1.cls = RX1 ∧ yX1_lambda_master_1.cls ≠ "java/lang/invoke/MethodHandle" ∧ yX1_lambda_master_1.cls ≠ "java/lang/invoke/VarHandle" ∧ (parseMethodDescriptor yX1_lambda_master_1.desc).map (fun d => d.parameters.length) = some 1 := by decide +kernel
theorem hdX1_guess : yX1_guess.cls = RX1 ∧ yX1_guess.cls ≠ "java/lang/invoke/MethodHandle" ∧ yX1_guess.cls ≠ "java/lang/invoke/VarHandle" ∧ (parseMethodDescriptor yX1_guess.desc).map (fun d => d.parameters.length) = some 1 := by decide +kernel
theorem hdX1_guessAbove : yX1_guessAbove.cls = RX1 ∧ yX1_guessAbove.cls ≠ "java/lang/invoke/MethodHandle" ∧ yX1_guessAbove.cls ≠ "java/lang/invoke/VarHandle" ∧ (parseMethodDescriptor yX1_guessAbove.desc).map (fun d => d.parameters.length) = some 1 := by decide +kernel
theorem hdX1_least : yX1_least.cls = RX1 ∧ yX1_least.cls ≠ "java/lang/invoke/MethodHandle" ∧ yX1_least.cls ≠ "java/lang/invoke/VarHandle" ∧ (parseMethodDescriptor yX1_least.desc).map (fun d => d.parameters.length) = some 2 := by decide +kernel
theorem hdX1_upper : yX1_upper.cls = RX1 ∧ yX1_upper.cls ≠ "java/lang/invoke/MethodHandle" ∧ yX1_upper.cls ≠ "java/lang/invoke/VarHandle" ∧ (parseMethodDescriptor yX1_upper.desc).map (fun d => d.parameters.length) = some 0 := by decide +kernel
theorem hdX1_priceCut : yX1_priceCut.cls = RX1 ∧ yX1_priceCut.cls ≠ "java/lang/invoke/MethodHandle" ∧ yX1_priceCut.cls ≠ "java/lang/invoke/VarHandle" ∧ (parseMethodDescriptor yX1_priceCut.desc).map (fun d => d.parameters.length) = some 1 := by decide +kernel
theorem hdX1_dropLoose : yX1_dropLoose.cls = RX1 ∧ yX1_dropLoose.cls ≠ "java/lang/invoke/MethodHandle" ∧ yX1_dropLoose.cls ≠ "java/lang/invoke/VarHandle" ∧ (parseMethodDescriptor yX1_dropLoose.desc).map (fun d => d.parameters.length) = some 1 := by decide +kernel
theorem hdX1_isLoose : yX1_isLoose.cls = RX1 ∧ yX1_isLoose.cls ≠ "java/lang/invoke/MethodHandle" ∧ yX1_isLoose.cls ≠ "java/lang/invoke/VarHandle" ∧ (parseMethodDescriptor yX1_isLoose.desc).map (fun d => d.parameters.length) = some 2 := by decide +kernel
theorem hdX1_bestOfAll : yX1_bestOfAll.cls = RX1 ∧ yX1_bestOfAll.cls ≠ "java/lang/invoke/MethodHandle" ∧ yX1_bestOfAll.cls ≠ "java/lang/invoke/VarHandle" ∧ (parseMethodDescriptor yX1_bestOfAll.desc).map (fun d => d.parameters.length) = some 0 := by decide +kernel
theorem hdX1_lambda_bestOfAll_2 : yX1_lambda_bestOfAll_2.cls = RX1 ∧ yX1_lambda_bestOfAll_2.cls ≠ "java/lang/invoke/MethodHandle" ∧ yX1_lambda_bestOfAll_2.cls ≠ "java/lang/invoke/VarHandle" ∧ (parseMethodDescriptor yX1_lambda_bestOfAll_2.desc).map (fun d => d.parameters.length) = some 1 := by decide +kernel
theorem hdX1_lambda_bestOfAll_3 : yX1_lambda_bestOfAll_3.cls = RX1 ∧ yX1_lambda_bestOfAll_3.cls ≠ "java/lang/invoke/MethodHandle" ∧ yX1_lambda_bestOfAll_3.cls ≠ "java/lang/invoke/VarHandle" ∧ (parseMethodDescriptor yX1_lambda_bestOfAll_3.desc).map (fun d => d.parameters.length) = some 1 := by decide +kernel
theorem hdX10_is : yX10_is.cls = RX10 ∧ yX10_is.cls ≠ "java/lang/invoke/MethodHandle" ∧ yX10_is.cls ≠ "java/lang/invoke/VarHandle" ∧ (parseMethodDescriptor yX10_is.desc).map (fun d => d.parameters.length) = some 2 := by decide +kernel
theorem hdX11_is : yX11_is.cls = RX11 ∧ yX11_is.cls ≠ "java/lang/invoke/MethodHandle" ∧ yX11_is.cls ≠ "java/lang/invoke/VarHandle" ∧ (parseMethodDescriptor yX11_is.desc).map (fun d => d.parameters.length) = some 2 := by decide +kernel
theorem hdX12_is : yX12_is.cls = RX12 ∧ yX12_is.cls ≠ "java/lang/invoke/MethodHandle" ∧ yX12_is.cls ≠ "java/lang/invoke/VarHandle" ∧ (parseMethodDescriptor yX12_is.desc).map (fun d => d.parameters.length) = some 2 := by decide +kernel
theorem hdX13_is : yX13_is.cls = RX13 ∧ yX13_is.cls ≠ "java/lang/invoke/MethodHandle" ∧ yX13_is.cls ≠ "java/lang/invoke/VarHandle" ∧ (parseMethodDescriptor yX13_is.desc).map (fun d => d.parameters.length) = some 2 := by decide +kernel
theorem hdX2_init : yX2_init.cls = RX2 ∧ yX2_init.cls ≠ "java/lang/invoke/MethodHandle" ∧ yX2_init.cls ≠ "java/lang/invoke/VarHandle" ∧ (parseMethodDescriptor yX2_init.desc).map (fun d => d.parameters.length) = some 0 := by decide +kernel
theorem hdX2_copy : yX2_copy.cls = RX2 ∧ yX2_copy.cls ≠ "java/lang/invoke/MethodHandle" ∧ yX2_copy.cls ≠ "java/lang/invoke/VarHandle" ∧ (parseMethodDescriptor yX2_copy.desc).map (fun d => d.parameters.length) = some 0 := by decide +kernel
theorem hdX2_route : yX2_route.cls = RX2 ∧ yX2_route.cls ≠ "java/lang/invoke/MethodHandle" ∧ yX2_route.cls ≠ "java/lang/invoke/VarHandle" ∧ (parseMethodDescriptor yX2_route.desc).map (fun d => d.parameters.length) = some 2 := by decide +kernel
theorem hdX2_isAllowed : yX2_isAllowed.cls = RX2 ∧ yX2_isAllowed.cls ≠ "java/lang/invoke/MethodHandle" ∧ yX2_isAllowed.cls ≠ "java/lang/invoke/VarHandle" ∧ (parseMethodDescriptor yX2_isAllowed.desc).map (fun d => d.parameters.length) = some 1 := by decide +kernel
theorem hdX2_lost : yX2_lost.cls = RX2 ∧ yX2_lost.cls ≠ "java/lang/invoke/MethodHandle" ∧ yX2_lost.cls ≠ "java/lang/invoke/VarHandle" ∧ (parseMethodDescriptor yX2_lost.desc).map (fun d => d.parameters.length) = some 1 := by decide +kernel
theorem hdX2_server : yX2_server.cls = RX2 ∧ yX2_server.cls ≠ "java/lang/invoke/MethodHandle" ∧ yX2_server.cls ≠ "java/lang/invoke/VarHandle" ∧ (parseMethodDescriptor yX2_server.desc).map (fun d => d.parameters.length) = some 2 := by decide +kernel
theorem hdX2_routesOf : yX2_routesOf.cls = RX2 ∧ yX2_routesOf.cls ≠ "java/lang/invoke/MethodHandle" ∧ yX2_routesOf.cls ≠ "java/lang/invoke/VarHandle" ∧ (parseMethodDescriptor yX2_routesOf.desc).map (fun d => d.parameters.length) = some 1 := by decide +kernel
theorem hdX2_pricesOf : yX2_pricesOf.cls = RX2 ∧ yX2_pricesOf.cls ≠ "java/lang/invoke/MethodHandle" ∧ yX2_pricesOf.cls ≠ "java/lang/invoke/VarHandle" ∧ (parseMethodDescriptor yX2_pricesOf.desc).map (fun d => d.parameters.length) = some 1 := by decide +kernel
theorem hdX2_plans : yX2_plans.cls = RX2 ∧ yX2_plans.cls ≠ "java/lang/invoke/MethodHandle" ∧ yX2_plans.cls ≠ "java/lang/invoke/VarHandle" ∧ (parseMethodDescriptor yX2_plans.desc).map (fun d => d.parameters.length) = some 0 := by decide +kernel
theorem hdX2_cost : yX2_cost.cls = RX2 ∧ yX2_cost.cls ≠ "java/lang/invoke/MethodHandle" ∧ yX2_cost.cls ≠ "java/lang/invoke/VarHandle" ∧ (parseMethodDescriptor yX2_cost.desc).map (fun d => d.parameters.length) = some 1 := by decide +kernel
theorem hdX2_against : yX2_against.cls = RX2 ∧ yX2_against.cls ≠ "java/lang/invoke/MethodHandle" ∧ yX2_against.cls ≠ "java/lang/invoke/VarHandle" ∧ (parseMethodDescriptor yX2_against.desc).map (fun d => d.parameters.length) = some 1 := by decide +kernel
theorem hdX2_isFeasible : yX2_isFeasible.cls = RX2 ∧ yX2_isFeasible.cls ≠ "java/lang/invoke/MethodHandle" ∧ yX2_isFeasible.cls ≠ "java/lang/invoke/VarHandle" ∧ (parseMethodDescriptor yX2_isFeasible.desc).map (fun d => d.parameters.length) = some 1 := by decide +kernel
theorem hdX2_count : yX2_count.cls = RX2 ∧ yX2_count.cls ≠ "java/lang/invoke/MethodHandle" ∧ yX2_count.cls ≠ "java/lang/invoke/VarHandle" ∧ (parseMethodDescriptor yX2_count.desc).map (fun d => d.parameters.length) = some 1 := by decide +kernel
theorem hdX4_isRay : yX4_isRay.cls = RX4 ∧ yX4_isRay.cls ≠ "java/lang/invoke/MethodHandle" ∧ yX4_isRay.cls ≠ "java/lang/invoke/VarHandle" ∧ (parseMethodDescriptor yX4_isRay.desc).map (fun d => d.parameters.length) = some 0 := by decide +kernel
theorem hdX4_sum : yX4_sum.cls = RX4 ∧ yX4_sum.cls ≠ "java/lang/invoke/MethodHandle" ∧ yX4_sum.cls ≠ "java/lang/invoke/VarHandle" ∧ (parseMethodDescriptor yX4_sum.desc).map (fun d => d.parameters.length) = some 2 := by decide +kernel
theorem hdX4_value : yX4_value.cls = RX4 ∧ yX4_value.cls ≠ "java/lang/invoke/MethodHandle" ∧ yX4_value.cls ≠ "java/lang/invoke/VarHandle" ∧ (parseMethodDescriptor yX4_value.desc).map (fun d => d.parameters.length) = some 2 := by decide +kernel
theorem hdX4_isBroken : yX4_isBroken.cls = RX4 ∧ yX4_isBroken.cls ≠ "java/lang/invoke/MethodHandle" ∧ yX4_isBroken.cls ≠ "java/lang/invoke/VarHandle" ∧ (parseMethodDescriptor yX4_isBroken.desc).map (fun d => d.parameters.length) = some 2 := by decide +kernel
theorem hdX4_init : yX4_init.cls = RX4 ∧ yX4_init.cls ≠ "java/lang/invoke/MethodHandle" ∧ yX4_init.cls ≠ "java/lang/invoke/VarHandle" ∧ (parseMethodDescriptor yX4_init.desc).map (fun d => d.parameters.length) = some 1 := by decide +kernel
theorem hdX4_customer : yX4_customer.cls = RX4 ∧ yX4_customer.cls ≠ "java/lang/invoke/MethodHandle" ∧ yX4_customer.cls ≠ "java/lang/invoke/VarHandle" ∧ (parseMethodDescriptor yX4_customer.desc).map (fun d => d.parameters.length) = some 0 := by decide +kernel
theorem hdX4_isTight : yX4_isTight.cls = RX4 ∧ yX4_isTight.cls ≠ "java/lang/invoke/MethodHandle" ∧ yX4_isTight.cls ≠ "java/lang/invoke/VarHandle" ∧ (parseMethodDescriptor yX4_isTight.desc).map (fun d => d.parameters.length) = some 2 := by decide +kernel
theorem hdX5_isBroken : yX5_isBroken.cls = RX5 ∧ yX5_isBroken.cls ≠ "java/lang/invoke/MethodHandle" ∧ yX5_isBroken.cls ≠ "java/lang/invoke/VarHandle" ∧ (parseMethodDescriptor yX5_isBroken.desc).map (fun d => d.parameters.length) = some 2 := by decide +kernel
theorem hdX5_constant : yX5_constant.cls = RX5 ∧ yX5_constant.cls ≠ "java/lang/invoke/MethodHandle" ∧ yX5_constant.cls ≠ "java/lang/invoke/VarHandle" ∧ (parseMethodDescriptor yX5_constant.desc).map (fun d => d.parameters.length) = some 1 := by decide +kernel
theorem hdX5_weight : yX5_weight.cls = RX5 ∧ yX5_weight.cls ≠ "java/lang/invoke/MethodHandle" ∧ yX5_weight.cls ≠ "java/lang/invoke/VarHandle" ∧ (parseMethodDescriptor yX5_weight.desc).map (fun d => d.parameters.length) = some 2 := by decide +kernel
theorem hdX5_value : yX5_value.cls = RX5 ∧ yX5_value.cls ≠ "java/lang/invoke/MethodHandle" ∧ yX5_value.cls ≠ "java/lang/invoke/VarHandle" ∧ (parseMethodDescriptor yX5_value.desc).map (fun d => d.parameters.length) = some 2 := by decide +kernel
theorem hdX5_init : yX5_init.cls = RX5 ∧ yX5_init.cls ≠ "java/lang/invoke/MethodHandle" ∧ yX5_init.cls ≠ "java/lang/invoke/VarHandle" ∧ (parseMethodDescriptor yX5_init.desc).map (fun d => d.parameters.length) = some 1 := by decide +kernel
theorem hdX5_isTight : yX5_isTight.cls = RX5 ∧ yX5_isTight.cls ≠ "java/lang/invoke/MethodHandle" ∧ yX5_isTight.cls ≠ "java/lang/invoke/VarHandle" ∧ (parseMethodDescriptor yX5_isTight.desc).map (fun d => d.parameters.length) = some 2 := by decide +kernel
theorem hdX6_weight : yX6_weight.cls = RX6 ∧ yX6_weight.cls ≠ "java/lang/invoke/MethodHandle" ∧ yX6_weight.cls ≠ "java/lang/invoke/VarHandle" ∧ (parseMethodDescriptor yX6_weight.desc).map (fun d => d.parameters.length) = some 2 := by decide +kernel
theorem hdX6_init : yX6_init.cls = RX6 ∧ yX6_init.cls ≠ "java/lang/invoke/MethodHandle" ∧ yX6_init.cls ≠ "java/lang/invoke/VarHandle" ∧ (parseMethodDescriptor yX6_init.desc).map (fun d => d.parameters.length) = some 1 := by decide +kernel
theorem hdX6_customer : yX6_customer.cls = RX6 ∧ yX6_customer.cls ≠ "java/lang/invoke/MethodHandle" ∧ yX6_customer.cls ≠ "java/lang/invoke/VarHandle" ∧ (parseMethodDescriptor yX6_customer.desc).map (fun d => d.parameters.length) = some 0 := by decide +kernel
theorem hdX6_constant : yX6_constant.cls = RX6 ∧ yX6_constant.cls ≠ "java/lang/invoke/MethodHandle" ∧ yX6_constant.cls ≠ "java/lang/invoke/VarHandle" ∧ (parseMethodDescriptor yX6_constant.desc).map (fun d => d.parameters.length) = some 1 := by decide +kernel
theorem hdX7_init : yX7_init.cls = RX7 ∧ yX7_init.cls ≠ "java/lang/invoke/MethodHandle" ∧ yX7_init.cls ≠ "java/lang/invoke/VarHandle" ∧ (parseMethodDescriptor yX7_init.desc).map (fun d => d.parameters.length) = some 1 := by decide +kernel
theorem hdX7_numbers : yX7_numbers.cls = RX7 ∧ yX7_numbers.cls ≠ "java/lang/invoke/MethodHandle" ∧ yX7_numbers.cls ≠ "java/lang/invoke/VarHandle" ∧ (parseMethodDescriptor yX7_numbers.desc).map (fun d => d.parameters.length) = some 1 := by decide +kernel
theorem hdX7_number : yX7_number.cls = RX7 ∧ yX7_number.cls ≠ "java/lang/invoke/MethodHandle" ∧ yX7_number.cls ≠ "java/lang/invoke/VarHandle" ∧ (parseMethodDescriptor yX7_number.desc).map (fun d => d.parameters.length) = some 0 := by decide +kernel
theorem hdX7_isDigit : yX7_isDigit.cls = RX7 ∧ yX7_isDigit.cls ≠ "java/lang/invoke/MethodHandle" ∧ yX7_isDigit.cls ≠ "java/lang/invoke/VarHandle" ∧ (parseMethodDescriptor yX7_isDigit.desc).map (fun d => d.parameters.length) = some 0 := by decide +kernel
theorem hdX8_init : yX8_init.cls = RX8 ∧ yX8_init.cls ≠ "java/lang/invoke/MethodHandle" ∧ yX8_init.cls ≠ "java/lang/invoke/VarHandle" ∧ (parseMethodDescriptor yX8_init.desc).map (fun d => d.parameters.length) = some 1 := by decide +kernel
theorem hdX9_value : yX9_value.cls = RX9 ∧ yX9_value.cls ≠ "java/lang/invoke/MethodHandle" ∧ yX9_value.cls ≠ "java/lang/invoke/VarHandle" ∧ (parseMethodDescriptor yX9_value.desc).map (fun d => d.parameters.length) = some 2 := by decide +kernel
theorem hdX9_init : yX9_init.cls = RX9 ∧ yX9_init.cls ≠ "java/lang/invoke/MethodHandle" ∧ yX9_init.cls ≠ "java/lang/invoke/VarHandle" ∧ (parseMethodDescriptor yX9_init.desc).map (fun d => d.parameters.length) = some 1 := by decide +kernel

set_option maxHeartbeats 4000000 in
theorem xr_has (l : Launch) (x k : Nat) (hx0 : x < 2 ^ 31) (hk : k < 32) : RO l yX0_has cX0_has 2 (some .boolean) 0 0 [.int (nI x), .int (nI k)] (fun _ => True) (fun _ => True) (some (.int (bI (x.testBit k)))) := by
  refine ro_of (by decide) (Nat.le_of_ble_eq_true rfl) ?_
  intro p e s m below meth c S hrt hlk G hP ls hl
  obtain ⟨hx, hb, hml, hown, hts⟩ := id S
  have hl : lv_has ls 2 [(0, .int (nI x)), (1, .int (nI k))] := hl
  refine lv_iload_n hx hb dX0_has_0 rfl (lv_at hl 0 rfl) ?_
  refine lv_iload_n hx hb dX0_has_1 rfl (lv_at hl 1 rfl) ?_
  refine lv_ishr hx hb dX0_has_2 ?_
  refine lv_iconst (v := nI 1) hx hb dX0_has_3 (by decide) ?_
  refine lv_iand hx hb dX0_has_4 ?_
  refine x_top (y := nI (x / 2 ^ k % 2)) (nx_bit hx0 hk) ?_
  refine lv_iconst (v := nI 1) hx hb dX0_has_5 (by decide) ?_
  refine lv_icmp_ne (tgt := 13) hx hb dX0_has_6 (by decide) (fun h_1 => ?_) (fun h_1 => ?_)
  · refine lv_iconst (v := nI 0) hx hb dX0_has_13 (by decide) ?_
    exact x_zret hx hb hrt hlk (bit_f h_1) dX0_has_14
  · refine lv_iconst (v := nI 1) hx hb dX0_has_9 (by decide) ?_
    refine lv_goto (tgt := 14) hx hb dX0_has_10 (by decide) ?_
    exact x_zret hx hb hrt hlk (bit_t h_1) dX0_has_14

set_option maxHeartbeats 4000000 in
theorem xr_inRange (l : Launch) (v lo hi : Int32) : RO l yX0_inRange cX0_inRange 3 (some .boolean) 0 0 [.int v, .int lo, .int hi] (fun _ => True) (fun _ => True) (some (.int (bI (mIn v lo hi)))) := by
  refine ro_of (by decide) (Nat.le_of_ble_eq_true rfl) ?_
  intro p e s m below meth c S hrt hlk G hP ls hl
  obtain ⟨hx, hb, hml, hown, hts⟩ := id S
  have hl : lv_has ls 3 [(0, .int v), (1, .int lo), (2, .int hi)] := hl
  refine lv_iload_n hx hb dX0_inRange_0 rfl (lv_at hl 0 rfl) ?_
  refine lv_iload_n hx hb dX0_inRange_1 rfl (lv_at hl 1 rfl) ?_
  refine lv_icmp_lt (tgt := 14) hx hb dX0_inRange_2 (by decide) (fun h_1 => ?_) (fun h_1 => ?_)
  · refine lv_iconst (v := nI 0) hx hb dX0_inRange_14 (by decide) ?_
    exact x_zret hx hb hrt hlk (by simp [mIn, bI, nI_0, nI_1l, h_1]) dX0_inRange_15
  · refine lv_iload_n hx hb dX0_inRange_5 rfl (lv_at hl 0 rfl) ?_
    refine lv_iload_n hx hb dX0_inRange_6 rfl (lv_at hl 2 rfl) ?_
    refine lv_icmp_gt (tgt := 14) hx hb dX0_inRange_7 (by decide) (fun h_2 => ?_) (fun h_2 => ?_)
    · refine lv_iconst (v := nI 0) hx hb dX0_inRange_14 (by decide) ?_
      exact x_zret hx hb hrt hlk (by simp [mIn, bI, nI_0, nI_1l, h_1, h_2]) dX0_inRange_15
    · refine lv_iconst (v := nI 1) hx hb dX0_inRange_10 (by decide) ?_
      refine lv_goto (tgt := 15) hx hb dX0_inRange_11 (by decide) ?_
      exact x_zret hx hb hrt hlk (by simp [mIn, bI, nI_0, nI_1l, h_1, h_2]) dX0_inRange_15

theorem bc_ok : ∀ x, x < 128 → ((((((((nI x) - ((((nI x).toUInt32 >>> ((nI 1).toUInt32 &&& Int32.toUInt32 31)).toInt32) &&& 1431655765)) &&& 858993459) + (((((nI x) - ((((nI x).toUInt32 >>> ((nI 1).toUInt32 &&& Int32.toUInt32 31)).toInt32) &&& 1431655765)).toUInt32 >>> ((nI 2).toUInt32 &&& Int32.toUInt32 31)).toInt32) &&& 858993459)) + ((((((nI x) - ((((nI x).toUInt32 >>> ((nI 1).toUInt32 &&& Int32.toUInt32 31)).toInt32) &&& 1431655765)) &&& 858993459) + (((((nI x) - ((((nI x).toUInt32 >>> ((nI 1).toUInt32 &&& Int32.toUInt32 31)).toInt32) &&& 1431655765)).toUInt32 >>> ((nI 2).toUInt32 &&& Int32.toUInt32 31)).toInt32) &&& 858993459)).toUInt32 >>> ((nI 4).toUInt32 &&& Int32.toUInt32 31)).toInt32)) &&& 252645135) + ((((((((nI x) - ((((nI x).toUInt32 >>> ((nI 1).toUInt32 &&& Int32.toUInt32 31)).toInt32) &&& 1431655765)) &&& 858993459) + (((((nI x) - ((((nI x).toUInt32 >>> ((nI 1).toUInt32 &&& Int32.toUInt32 31)).toInt32) &&& 1431655765)).toUInt32 >>> ((nI 2).toUInt32 &&& Int32.toUInt32 31)).toInt32) &&& 858993459)) + ((((((nI x) - ((((nI x).toUInt32 >>> ((nI 1).toUInt32 &&& Int32.toUInt32 31)).toInt32) &&& 1431655765)) &&& 858993459) + (((((nI x) - ((((nI x).toUInt32 >>> ((nI 1).toUInt32 &&& Int32.toUInt32 31)).toInt32) &&& 1431655765)).toUInt32 >>> ((nI 2).toUInt32 &&& Int32.toUInt32 31)).toInt32) &&& 858993459)).toUInt32 >>> ((nI 4).toUInt32 &&& Int32.toUInt32 31)).toInt32)) &&& 252645135).toUInt32 >>> ((nI 8).toUInt32 &&& Int32.toUInt32 31)).toInt32)) + (((((((((nI x) - ((((nI x).toUInt32 >>> ((nI 1).toUInt32 &&& Int32.toUInt32 31)).toInt32) &&& 1431655765)) &&& 858993459) + (((((nI x) - ((((nI x).toUInt32 >>> ((nI 1).toUInt32 &&& Int32.toUInt32 31)).toInt32) &&& 1431655765)).toUInt32 >>> ((nI 2).toUInt32 &&& Int32.toUInt32 31)).toInt32) &&& 858993459)) + ((((((nI x) - ((((nI x).toUInt32 >>> ((nI 1).toUInt32 &&& Int32.toUInt32 31)).toInt32) &&& 1431655765)) &&& 858993459) + (((((nI x) - ((((nI x).toUInt32 >>> ((nI 1).toUInt32 &&& Int32.toUInt32 31)).toInt32) &&& 1431655765)).toUInt32 >>> ((nI 2).toUInt32 &&& Int32.toUInt32 31)).toInt32) &&& 858993459)).toUInt32 >>> ((nI 4).toUInt32 &&& Int32.toUInt32 31)).toInt32)) &&& 252645135) + ((((((((nI x) - ((((nI x).toUInt32 >>> ((nI 1).toUInt32 &&& Int32.toUInt32 31)).toInt32) &&& 1431655765)) &&& 858993459) + (((((nI x) - ((((nI x).toUInt32 >>> ((nI 1).toUInt32 &&& Int32.toUInt32 31)).toInt32) &&& 1431655765)).toUInt32 >>> ((nI 2).toUInt32 &&& Int32.toUInt32 31)).toInt32) &&& 858993459)) + ((((((nI x) - ((((nI x).toUInt32 >>> ((nI 1).toUInt32 &&& Int32.toUInt32 31)).toInt32) &&& 1431655765)) &&& 858993459) + (((((nI x) - ((((nI x).toUInt32 >>> ((nI 1).toUInt32 &&& Int32.toUInt32 31)).toInt32) &&& 1431655765)).toUInt32 >>> ((nI 2).toUInt32 &&& Int32.toUInt32 31)).toInt32) &&& 858993459)).toUInt32 >>> ((nI 4).toUInt32 &&& Int32.toUInt32 31)).toInt32)) &&& 252645135).toUInt32 >>> ((nI 8).toUInt32 &&& Int32.toUInt32 31)).toInt32)).toUInt32 >>> ((nI 16).toUInt32 &&& Int32.toUInt32 31)).toInt32)) &&& (nI 63) = nI (mMany x) := by decide +kernel

set_option maxHeartbeats 4000000 in
theorem xr_bitCount (l : Launch) (x : Nat) (hx0 : x < 128) : RO l yJ12_bitCount cJ12_bitCount 1 (some .int) 0 0 [.int (nI x)] (fun _ => True) (fun _ => True) (some (.int (nI (mMany x)))) := by
  refine ro_of (by decide) (Nat.le_of_ble_eq_true rfl) ?_
  intro p e s m below meth c S hrt hlk G hP ls hl
  obtain ⟨hx, hb, hml, hown, hts⟩ := id S
  have hl : lv_has ls 1 [(0, .int (nI x))] := hl
  refine lv_iload_n hx hb dJ12_bitCount_0 rfl (lv_at hl 0 rfl) ?_
  refine lv_iload_n hx hb dJ12_bitCount_1 rfl (lv_at hl 0 rfl) ?_
  refine lv_iconst (v := nI 1) hx hb dJ12_bitCount_2 (by decide) ?_
  refine lv_iushr (v := ((nI x).toUInt32 >>> ((nI 1).toUInt32 &&& Int32.toUInt32 31)).toInt32) hx hb dJ12_bitCount_3 rfl ?_
  refine lv_ldcw (v := 1431655765) hx hb hown (hts _ q434) dJ12_bitCount_4 ?_
  refine lv_iand hx hb dJ12_bitCount_7 ?_
  refine lv_isub hx hb dJ12_bitCount_8 ?_
  refine lv_istore_n (lv' := [(0, .int ((nI x) - ((((nI x).toUInt32 >>> ((nI 1).toUInt32 &&& Int32.toUInt32 31)).toInt32) &&& 1431655765)))]) hx hb dJ12_bitCount_9 rfl hl (by decide) rfl (fun ls hl => ?_)
  refine lv_iload_n hx hb dJ12_bitCount_10 rfl (lv_at hl 0 rfl) ?_
  refine lv_ldcw (v := 858993459) hx hb hown (hts _ q435) dJ12_bitCount_11 ?_
  refine lv_iand hx hb dJ12_bitCount_14 ?_
  refine lv_iload_n hx hb dJ12_bitCount_15 rfl (lv_at hl 0 rfl) ?_
  refine lv_iconst (v := nI 2) hx hb dJ12_bitCount_16 (by decide) ?_
  refine lv_iushr (v := (((nI x) - ((((nI x).toUInt32 >>> ((nI 1).toUInt32 &&& Int32.toUInt32 31)).toInt32) &&& 1431655765)).toUInt32 >>> ((nI 2).toUInt32 &&& Int32.toUInt32 31)).toInt32) hx hb dJ12_bitCount_17 rfl ?_
  refine lv_ldcw (v := 858993459) hx hb hown (hts _ q435) dJ12_bitCount_18 ?_
  refine lv_iand hx hb dJ12_bitCount_21 ?_
  refine lv_iadd hx hb dJ12_bitCount_22 ?_
  refine lv_istore_n (lv' := [(0, .int ((((nI x) - ((((nI x).toUInt32 >>> ((nI 1).toUInt32 &&& Int32.toUInt32 31)).toInt32) &&& 1431655765)) &&& 858993459) + (((((nI x) - ((((nI x).toUInt32 >>> ((nI 1).toUInt32 &&& Int32.toUInt32 31)).toInt32) &&& 1431655765)).toUInt32 >>> ((nI 2).toUInt32 &&& Int32.toUInt32 31)).toInt32) &&& 858993459)))]) hx hb dJ12_bitCount_23 rfl hl (by decide) rfl (fun ls hl => ?_)
  refine lv_iload_n hx hb dJ12_bitCount_24 rfl (lv_at hl 0 rfl) ?_
  refine lv_iload_n hx hb dJ12_bitCount_25 rfl (lv_at hl 0 rfl) ?_
  refine lv_iconst (v := nI 4) hx hb dJ12_bitCount_26 (by decide) ?_
  refine lv_iushr (v := (((((nI x) - ((((nI x).toUInt32 >>> ((nI 1).toUInt32 &&& Int32.toUInt32 31)).toInt32) &&& 1431655765)) &&& 858993459) + (((((nI x) - ((((nI x).toUInt32 >>> ((nI 1).toUInt32 &&& Int32.toUInt32 31)).toInt32) &&& 1431655765)).toUInt32 >>> ((nI 2).toUInt32 &&& Int32.toUInt32 31)).toInt32) &&& 858993459)).toUInt32 >>> ((nI 4).toUInt32 &&& Int32.toUInt32 31)).toInt32) hx hb dJ12_bitCount_27 rfl ?_
  refine lv_iadd hx hb dJ12_bitCount_28 ?_
  refine lv_ldcw (v := 252645135) hx hb hown (hts _ q436) dJ12_bitCount_29 ?_
  refine lv_iand hx hb dJ12_bitCount_32 ?_
  refine lv_istore_n (lv' := [(0, .int ((((((nI x) - ((((nI x).toUInt32 >>> ((nI 1).toUInt32 &&& Int32.toUInt32 31)).toInt32) &&& 1431655765)) &&& 858993459) + (((((nI x) - ((((nI x).toUInt32 >>> ((nI 1).toUInt32 &&& Int32.toUInt32 31)).toInt32) &&& 1431655765)).toUInt32 >>> ((nI 2).toUInt32 &&& Int32.toUInt32 31)).toInt32) &&& 858993459)) + ((((((nI x) - ((((nI x).toUInt32 >>> ((nI 1).toUInt32 &&& Int32.toUInt32 31)).toInt32) &&& 1431655765)) &&& 858993459) + (((((nI x) - ((((nI x).toUInt32 >>> ((nI 1).toUInt32 &&& Int32.toUInt32 31)).toInt32) &&& 1431655765)).toUInt32 >>> ((nI 2).toUInt32 &&& Int32.toUInt32 31)).toInt32) &&& 858993459)).toUInt32 >>> ((nI 4).toUInt32 &&& Int32.toUInt32 31)).toInt32)) &&& 252645135))]) hx hb dJ12_bitCount_33 rfl hl (by decide) rfl (fun ls hl => ?_)
  refine lv_iload_n hx hb dJ12_bitCount_34 rfl (lv_at hl 0 rfl) ?_
  refine lv_iload_n hx hb dJ12_bitCount_35 rfl (lv_at hl 0 rfl) ?_
  refine lv_bipush (v := nI 8) hx hb dJ12_bitCount_36 (by decide) ?_
  refine lv_iushr (v := (((((((nI x) - ((((nI x).toUInt32 >>> ((nI 1).toUInt32 &&& Int32.toUInt32 31)).toInt32) &&& 1431655765)) &&& 858993459) + (((((nI x) - ((((nI x).toUInt32 >>> ((nI 1).toUInt32 &&& Int32.toUInt32 31)).toInt32) &&& 1431655765)).toUInt32 >>> ((nI 2).toUInt32 &&& Int32.toUInt32 31)).toInt32) &&& 858993459)) + ((((((nI x) - ((((nI x).toUInt32 >>> ((nI 1).toUInt32 &&& Int32.toUInt32 31)).toInt32) &&& 1431655765)) &&& 858993459) + (((((nI x) - ((((nI x).toUInt32 >>> ((nI 1).toUInt32 &&& Int32.toUInt32 31)).toInt32) &&& 1431655765)).toUInt32 >>> ((nI 2).toUInt32 &&& Int32.toUInt32 31)).toInt32) &&& 858993459)).toUInt32 >>> ((nI 4).toUInt32 &&& Int32.toUInt32 31)).toInt32)) &&& 252645135).toUInt32 >>> ((nI 8).toUInt32 &&& Int32.toUInt32 31)).toInt32) hx hb dJ12_bitCount_38 rfl ?_
  refine lv_iadd hx hb dJ12_bitCount_39 ?_
  refine lv_istore_n (lv' := [(0, .int (((((((nI x) - ((((nI x).toUInt32 >>> ((nI 1).toUInt32 &&& Int32.toUInt32 31)).toInt32) &&& 1431655765)) &&& 858993459) + (((((nI x) - ((((nI x).toUInt32 >>> ((nI 1).toUInt32 &&& Int32.toUInt32 31)).toInt32) &&& 1431655765)).toUInt32 >>> ((nI 2).toUInt32 &&& Int32.toUInt32 31)).toInt32) &&& 858993459)) + ((((((nI x) - ((((nI x).toUInt32 >>> ((nI 1).toUInt32 &&& Int32.toUInt32 31)).toInt32) &&& 1431655765)) &&& 858993459) + (((((nI x) - ((((nI x).toUInt32 >>> ((nI 1).toUInt32 &&& Int32.toUInt32 31)).toInt32) &&& 1431655765)).toUInt32 >>> ((nI 2).toUInt32 &&& Int32.toUInt32 31)).toInt32) &&& 858993459)).toUInt32 >>> ((nI 4).toUInt32 &&& Int32.toUInt32 31)).toInt32)) &&& 252645135) + ((((((((nI x) - ((((nI x).toUInt32 >>> ((nI 1).toUInt32 &&& Int32.toUInt32 31)).toInt32) &&& 1431655765)) &&& 858993459) + (((((nI x) - ((((nI x).toUInt32 >>> ((nI 1).toUInt32 &&& Int32.toUInt32 31)).toInt32) &&& 1431655765)).toUInt32 >>> ((nI 2).toUInt32 &&& Int32.toUInt32 31)).toInt32) &&& 858993459)) + ((((((nI x) - ((((nI x).toUInt32 >>> ((nI 1).toUInt32 &&& Int32.toUInt32 31)).toInt32) &&& 1431655765)) &&& 858993459) + (((((nI x) - ((((nI x).toUInt32 >>> ((nI 1).toUInt32 &&& Int32.toUInt32 31)).toInt32) &&& 1431655765)).toUInt32 >>> ((nI 2).toUInt32 &&& Int32.toUInt32 31)).toInt32) &&& 858993459)).toUInt32 >>> ((nI 4).toUInt32 &&& Int32.toUInt32 31)).toInt32)) &&& 252645135).toUInt32 >>> ((nI 8).toUInt32 &&& Int32.toUInt32 31)).toInt32)))]) hx hb dJ12_bitCount_40 rfl hl (by decide) rfl (fun ls hl => ?_)
  refine lv_iload_n hx hb dJ12_bitCount_41 rfl (lv_at hl 0 rfl) ?_
  refine lv_iload_n hx hb dJ12_bitCount_42 rfl (lv_at hl 0 rfl) ?_
  refine lv_bipush (v := nI 16) hx hb dJ12_bitCount_43 (by decide) ?_
  refine lv_iushr (v := ((((((((nI x) - ((((nI x).toUInt32 >>> ((nI 1).toUInt32 &&& Int32.toUInt32 31)).toInt32) &&& 1431655765)) &&& 858993459) + (((((nI x) - ((((nI x).toUInt32 >>> ((nI 1).toUInt32 &&& Int32.toUInt32 31)).toInt32) &&& 1431655765)).toUInt32 >>> ((nI 2).toUInt32 &&& Int32.toUInt32 31)).toInt32) &&& 858993459)) + ((((((nI x) - ((((nI x).toUInt32 >>> ((nI 1).toUInt32 &&& Int32.toUInt32 31)).toInt32) &&& 1431655765)) &&& 858993459) + (((((nI x) - ((((nI x).toUInt32 >>> ((nI 1).toUInt32 &&& Int32.toUInt32 31)).toInt32) &&& 1431655765)).toUInt32 >>> ((nI 2).toUInt32 &&& Int32.toUInt32 31)).toInt32) &&& 858993459)).toUInt32 >>> ((nI 4).toUInt32 &&& Int32.toUInt32 31)).toInt32)) &&& 252645135) + ((((((((nI x) - ((((nI x).toUInt32 >>> ((nI 1).toUInt32 &&& Int32.toUInt32 31)).toInt32) &&& 1431655765)) &&& 858993459) + (((((nI x) - ((((nI x).toUInt32 >>> ((nI 1).toUInt32 &&& Int32.toUInt32 31)).toInt32) &&& 1431655765)).toUInt32 >>> ((nI 2).toUInt32 &&& Int32.toUInt32 31)).toInt32) &&& 858993459)) + ((((((nI x) - ((((nI x).toUInt32 >>> ((nI 1).toUInt32 &&& Int32.toUInt32 31)).toInt32) &&& 1431655765)) &&& 858993459) + (((((nI x) - ((((nI x).toUInt32 >>> ((nI 1).toUInt32 &&& Int32.toUInt32 31)).toInt32) &&& 1431655765)).toUInt32 >>> ((nI 2).toUInt32 &&& Int32.toUInt32 31)).toInt32) &&& 858993459)).toUInt32 >>> ((nI 4).toUInt32 &&& Int32.toUInt32 31)).toInt32)) &&& 252645135).toUInt32 >>> ((nI 8).toUInt32 &&& Int32.toUInt32 31)).toInt32)).toUInt32 >>> ((nI 16).toUInt32 &&& Int32.toUInt32 31)).toInt32) hx hb dJ12_bitCount_45 rfl ?_
  refine lv_iadd hx hb dJ12_bitCount_46 ?_
  refine lv_istore_n (lv' := [(0, .int ((((((((nI x) - ((((nI x).toUInt32 >>> ((nI 1).toUInt32 &&& Int32.toUInt32 31)).toInt32) &&& 1431655765)) &&& 858993459) + (((((nI x) - ((((nI x).toUInt32 >>> ((nI 1).toUInt32 &&& Int32.toUInt32 31)).toInt32) &&& 1431655765)).toUInt32 >>> ((nI 2).toUInt32 &&& Int32.toUInt32 31)).toInt32) &&& 858993459)) + ((((((nI x) - ((((nI x).toUInt32 >>> ((nI 1).toUInt32 &&& Int32.toUInt32 31)).toInt32) &&& 1431655765)) &&& 858993459) + (((((nI x) - ((((nI x).toUInt32 >>> ((nI 1).toUInt32 &&& Int32.toUInt32 31)).toInt32) &&& 1431655765)).toUInt32 >>> ((nI 2).toUInt32 &&& Int32.toUInt32 31)).toInt32) &&& 858993459)).toUInt32 >>> ((nI 4).toUInt32 &&& Int32.toUInt32 31)).toInt32)) &&& 252645135) + ((((((((nI x) - ((((nI x).toUInt32 >>> ((nI 1).toUInt32 &&& Int32.toUInt32 31)).toInt32) &&& 1431655765)) &&& 858993459) + (((((nI x) - ((((nI x).toUInt32 >>> ((nI 1).toUInt32 &&& Int32.toUInt32 31)).toInt32) &&& 1431655765)).toUInt32 >>> ((nI 2).toUInt32 &&& Int32.toUInt32 31)).toInt32) &&& 858993459)) + ((((((nI x) - ((((nI x).toUInt32 >>> ((nI 1).toUInt32 &&& Int32.toUInt32 31)).toInt32) &&& 1431655765)) &&& 858993459) + (((((nI x) - ((((nI x).toUInt32 >>> ((nI 1).toUInt32 &&& Int32.toUInt32 31)).toInt32) &&& 1431655765)).toUInt32 >>> ((nI 2).toUInt32 &&& Int32.toUInt32 31)).toInt32) &&& 858993459)).toUInt32 >>> ((nI 4).toUInt32 &&& Int32.toUInt32 31)).toInt32)) &&& 252645135).toUInt32 >>> ((nI 8).toUInt32 &&& Int32.toUInt32 31)).toInt32)) + (((((((((nI x) - ((((nI x).toUInt32 >>> ((nI 1).toUInt32 &&& Int32.toUInt32 31)).toInt32) &&& 1431655765)) &&& 858993459) + (((((nI x) - ((((nI x).toUInt32 >>> ((nI 1).toUInt32 &&& Int32.toUInt32 31)).toInt32) &&& 1431655765)).toUInt32 >>> ((nI 2).toUInt32 &&& Int32.toUInt32 31)).toInt32) &&& 858993459)) + ((((((nI x) - ((((nI x).toUInt32 >>> ((nI 1).toUInt32 &&& Int32.toUInt32 31)).toInt32) &&& 1431655765)) &&& 858993459) + (((((nI x) - ((((nI x).toUInt32 >>> ((nI 1).toUInt32 &&& Int32.toUInt32 31)).toInt32) &&& 1431655765)).toUInt32 >>> ((nI 2).toUInt32 &&& Int32.toUInt32 31)).toInt32) &&& 858993459)).toUInt32 >>> ((nI 4).toUInt32 &&& Int32.toUInt32 31)).toInt32)) &&& 252645135) + ((((((((nI x) - ((((nI x).toUInt32 >>> ((nI 1).toUInt32 &&& Int32.toUInt32 31)).toInt32) &&& 1431655765)) &&& 858993459) + (((((nI x) - ((((nI x).toUInt32 >>> ((nI 1).toUInt32 &&& Int32.toUInt32 31)).toInt32) &&& 1431655765)).toUInt32 >>> ((nI 2).toUInt32 &&& Int32.toUInt32 31)).toInt32) &&& 858993459)) + ((((((nI x) - ((((nI x).toUInt32 >>> ((nI 1).toUInt32 &&& Int32.toUInt32 31)).toInt32) &&& 1431655765)) &&& 858993459) + (((((nI x) - ((((nI x).toUInt32 >>> ((nI 1).toUInt32 &&& Int32.toUInt32 31)).toInt32) &&& 1431655765)).toUInt32 >>> ((nI 2).toUInt32 &&& Int32.toUInt32 31)).toInt32) &&& 858993459)).toUInt32 >>> ((nI 4).toUInt32 &&& Int32.toUInt32 31)).toInt32)) &&& 252645135).toUInt32 >>> ((nI 8).toUInt32 &&& Int32.toUInt32 31)).toInt32)).toUInt32 >>> ((nI 16).toUInt32 &&& Int32.toUInt32 31)).toInt32)))]) hx hb dJ12_bitCount_47 rfl hl (by decide) rfl (fun ls hl => ?_)
  refine lv_iload_n hx hb dJ12_bitCount_48 rfl (lv_at hl 0 rfl) ?_
  refine lv_bipush (v := nI 63) hx hb dJ12_bitCount_49 (by decide) ?_
  refine lv_iand hx hb dJ12_bitCount_51 ?_
  exact x_iret hx hb hrt hlk (bc_ok x hx0) dJ12_bitCount_52

set_option maxHeartbeats 4000000 in
theorem xr_route (l : Launch) (D : va_G) (dA : Nat → ClassId) (E : Nat) (ad : Nat → Nat) (sz0 : Nat) (la lp lx ld lr : Nat) (row : Nat → Int32) {n cu : Nat} (hn : n ≤ 7) (hcu : cu ≤ 8) (x j : Nat) (hxs : x < 7) (hj : j < 8) : RO l yX2_route cX2_route 3 (some .int) 0 0 [.ref la, .int (nI x), .int (nI j)] (G0 D dA E ad sz0) (fun H => va_P D vwCl (lW dA la lp lx ld lr row n cu) H) (some (.int (row (21 + 8 * x + j)))) := by
  refine ro_of (by decide) (Nat.le_of_ble_eq_true rfl) ?_
  intro p e s m below meth c S hrt hlk G hP ls hl
  obtain ⟨hx, hb, hml, hown, hts⟩ := id S
  have K := G.1
  have hP : va_P D vwCl [(la, .inr (2, [.ref lp, .ref lx, .ref ld, .ref lr, .int (nI n), .int (nI cu), .int (row 2)])), (lp, .inl (dA 0, 7, .inl (fun k => row (6 + k)))), (lx, .inl (dA 0, 7, .inl (fun k => row (77 + k)))), (ld, .inl (dA 0, 8, .inl (fun k => row (13 + k)))), (lr, .inl (dA 0, 56, .inl (fun k => row (21 + k))))] s.heap := hP
  have hl : lv_has ls 3 [(0, .ref la), (1, .int (nI x)), (2, .int (nI j))] := hl
  refine lv_aload_n hx hb dX2_route_0 rfl (lv_at hl 0 rfl) ?_
  refine va_get (D := D) (ci := 2) (C := RX2) (T := TX2) (N := 7) hx hb hts in_X2 hown K hP 0 rfl rfl 3 (by decide) (hts _ q116) (fun _ h9 => h9) rfl dX2_route_1 ?_
  refine lv_bipush (v := nI 8) hx hb dX2_route_4 (by decide) ?_
  refine lv_iload_n hx hb dX2_route_6 rfl (lv_at hl 1 rfl) ?_
  refine x_mulN hx hb dX2_route_7 ?_
  refine lv_iload_n hx hb dX2_route_8 rfl (lv_at hl 2 rfl) ?_
  refine x_addN hx hb dX2_route_9 ?_
  refine x_iald (v := row (21 + 8 * x + j)) hx hb K hP 4 0 rfl rfl ((8 * x) + j) rfl (by omega) (by decide) (congrArg row (by omega)) dX2_route_10 ?_
  exact x_iret hx hb hrt hlk rfl dX2_route_11

set_option maxHeartbeats 4000000 in
theorem xr_plans (l : Launch) (D : va_G) (dA : Nat → ClassId) (E : Nat) (ad : Nat → Nat) (sz0 : Nat) (la lp lx ld lr : Nat) (row : Nat → Int32) {n cu : Nat} (hn : n ≤ 7) (hcu : cu ≤ 8)  : RO l yX2_plans cX2_plans 1 (some .int) 0 0 [.ref la] (G0 D dA E ad sz0) (fun H => va_P D vwCl (lW dA la lp lx ld lr row n cu) H) (some (.int (nI (2 ^ n)))) := by
  refine ro_of (by decide) (Nat.le_of_ble_eq_true rfl) ?_
  intro p e s m below meth c S hrt hlk G hP ls hl
  obtain ⟨hx, hb, hml, hown, hts⟩ := id S
  have K := G.1
  have hP : va_P D vwCl [(la, .inr (2, [.ref lp, .ref lx, .ref ld, .ref lr, .int (nI n), .int (nI cu), .int (row 2)])), (lp, .inl (dA 0, 7, .inl (fun k => row (6 + k)))), (lx, .inl (dA 0, 7, .inl (fun k => row (77 + k)))), (ld, .inl (dA 0, 8, .inl (fun k => row (13 + k)))), (lr, .inl (dA 0, 56, .inl (fun k => row (21 + k))))] s.heap := hP
  have hl : lv_has ls 1 [(0, .ref la)] := hl
  refine lv_iconst (v := nI 1) hx hb dX2_plans_0 (by decide) ?_
  refine lv_aload_n hx hb dX2_plans_1 rfl (lv_at hl 0 rfl) ?_
  refine va_get (D := D) (ci := 2) (C := RX2) (T := TX2) (N := 7) hx hb hts in_X2 hown K hP 0 rfl rfl 4 (by decide) (hts _ q119) (fun _ h9 => h9) rfl dX2_plans_2 ?_
  refine lv_ishl hx hb dX2_plans_5 ?_
  refine x_top (y := nI (2 ^ n)) (nx_shl (by omega)) ?_
  exact x_iret hx hb hrt hlk rfl dX2_plans_6

set_option maxHeartbeats 4000000 in
theorem xr_pricesOf (l : Launch) (D : va_G) (dA : Nat → ClassId) (E : Nat) (ad : Nat → Nat) (sz0 : Nat) (la lp lx ld lr : Nat) (row : Nat → Int32) {n cu : Nat} (hn : n ≤ 7) (hcu : cu ≤ 8) (pl : Nat) (hp : pl < 128) : RO l yX2_pricesOf cX2_pricesOf 4 (some .int) 1 40 [.ref la, .int (nI pl)] (G0 D dA E ad sz0) (fun H => va_P D vwCl (lW dA la lp lx ld lr row n cu) H) (some (.int (mPrices row n pl))) := by
  refine ro_of (by decide) (Nat.le_of_ble_eq_true rfl) ?_
  intro p e s m below meth c S hrt hlk G hP ls hl
  obtain ⟨hx, hb, hml, hown, hts⟩ := id S
  have K := G.1
  have hP : va_P D vwCl [(la, .inr (2, [.ref lp, .ref lx, .ref ld, .ref lr, .int (nI n), .int (nI cu), .int (row 2)])), (lp, .inl (dA 0, 7, .inl (fun k => row (6 + k)))), (lx, .inl (dA 0, 7, .inl (fun k => row (77 + k)))), (ld, .inl (dA 0, 8, .inl (fun k => row (13 + k)))), (lr, .inl (dA 0, 56, .inl (fun k => row (21 + k))))] s.heap := hP
  have hl : lv_has ls 4 [(0, .ref la), (1, .int (nI pl))] := hl
  refine lv_iconst (v := nI 0) hx hb dX2_pricesOf_0 (by decide) ?_
  refine lv_istore_n (lv' := [(2, .int (nI 0)), (0, .ref la), (1, .int (nI pl))]) hx hb dX2_pricesOf_1 rfl hl (by decide) rfl (fun ls hl => ?_)
  refine lv_iconst (v := nI 0) hx hb dX2_pricesOf_2 (by decide) ?_
  refine lv_istore_n (lv' := [(3, .int (nI 0)), (2, .int (nI 0)), (0, .ref la), (1, .int (nI pl))]) hx hb dX2_pricesOf_3 rfl hl (by decide) rfl (fun ls hl => ?_)
  refine lpI (mPrS row pl) (nI 0) n (fun k a ls => lv_has ls 4 [(0, .ref la), (1, .int (nI pl)), (2, .int a), (3, .int (nI k))]) (fun ls => W p l e (rmR 1 40) s m ([.ref la, .int (nI pl)]).toArray below meth c s.heap [] 0 0 (MQ below (QRet (some (.int (mPrices row n pl)))) ([.ref la, .int (nI pl)]).toArray s 0 0 (fun _ => False)) (F0 m 4 ls [])) ?_ ?_ ls (lv_sub hl [2, 3, 1, 0] rfl)
  · intro k ls hk_1 hl ih
    generalize iter (mPrS row pl) k 0 (nI 0) = a at *
    have hl : lv_has ls 4 [(0, .ref la), (1, .int (nI pl)), (2, .int a), (3, .int (nI k))] := hl
    show W p l e (rmR 1 40) s m ([.ref la, .int (nI pl)]).toArray below meth c s.heap [] 0 0 (MQ below (QRet (some (.int (mPrices row n pl)))) ([.ref la, .int (nI pl)]).toArray s 0 0 (fun _ => False)) (F0 m 4 ls [])
    refine lv_iload_n hx hb dX2_pricesOf_4 rfl (lv_at hl 3 rfl) ?_
    refine lv_aload_n hx hb dX2_pricesOf_5 rfl (lv_at hl 0 rfl) ?_
    refine va_get (D := D) (ci := 2) (C := RX2) (T := TX2) (N := 7) hx hb hts in_X2 hown K hP 0 rfl rfl 4 (by decide) (hts _ q119) (fun _ h9 => h9) rfl dX2_pricesOf_6 ?_
    refine lv_icmp_ge (tgt := 39) hx hb dX2_pricesOf_9 (by decide) (fun h => absurd h (nI_ge hk_1 (by omega))) (fun _ => ?_)
    refine lv_iload_n hx hb dX2_pricesOf_12 rfl (lv_at hl 2 rfl) ?_
    refine lv_iload_n hx hb dX2_pricesOf_13 rfl (lv_at hl 1 rfl) ?_
    refine lv_iload_n hx hb dX2_pricesOf_14 rfl (lv_at hl 3 rfl) ?_
    refine x_ret (va_runSN (As := [.int (nI pl), .int (nI k)]) (rest := [.int a]) S (xr_has l pl k (by omega) (by omega)) ⟨va_cnB 2 hts (lw_meth q430) rfl rfl rfl (G.2.1 _ q483 rfl) (hts _ q59) hdX0_has ⟨Nat.le_of_ble_eq_true rfl, Nat.le_of_ble_eq_true rfl⟩, hts _ q429, trivial⟩ ⟨bb_blind tt_bl _, tt_pre _⟩ rfl rfl hl.1 rfl (lv_room (Nat.le_of_ble_eq_true rfl)) dX2_pricesOf_15 ⟨Nat.le_refl _, Nat.le_refl _⟩) ?_
    refine x_ifb_eq (tgt := 30) hx hb dX2_pricesOf_18 (by decide) (fun h_3 => ?_) (fun h_3 => ?_)
    · refine lv_iconst (v := nI 0) hx hb dX2_pricesOf_30 (by decide) ?_
      refine lv_iadd hx hb dX2_pricesOf_31 ?_
      refine lv_istore_n (lv' := [(2, .int (a + (nI 0))), (0, .ref la), (1, .int (nI pl)), (3, .int (nI k))]) hx hb dX2_pricesOf_32 rfl hl (by decide) rfl (fun ls hl => ?_)
      refine lv_iinc (v := nI (k + 1)) (lv' := [(3, .int (nI (k + 1))), (2, .int (a + (nI 0))), (0, .ref la), (1, .int (nI pl))]) hx hb dX2_pricesOf_33 hl (k := 3) rfl (nI_1 k) (by decide) rfl (fun ls hl => ?_)
      refine lv_goto (tgt := 4) hx hb dX2_pricesOf_36 (by decide) ?_
      refine ih ls ?_
      show lv_has ls 4 [(0, .ref la), (1, .int (nI pl)), (2, .int ((mPrS row pl) k a)), (3, .int (nI (k + 1)))]
      rw [show (mPrS row pl) k a = a + (nI 0) from (by simp [mPrS, h_3])]
      exact lv_sub hl [2, 3, 1, 0] rfl
    · refine lv_aload_n hx hb dX2_pricesOf_21 rfl (lv_at hl 0 rfl) ?_
      refine va_get (D := D) (ci := 2) (C := RX2) (T := TX2) (N := 7) hx hb hts in_X2 hown K hP 0 rfl rfl 0 (by decide) (hts _ q108) (fun _ h9 => h9) rfl dX2_pricesOf_22 ?_
      refine lv_iload_n hx hb dX2_pricesOf_25 rfl (lv_at hl 3 rfl) ?_
      refine x_iald hx hb K hP 1 0 rfl rfl k rfl (by omega) (by decide) rfl dX2_pricesOf_26 ?_
      refine lv_goto (tgt := 31) hx hb dX2_pricesOf_27 (by decide) ?_
      refine lv_iadd hx hb dX2_pricesOf_31 ?_
      refine lv_istore_n (lv' := [(2, .int (a + (row (6 + k)))), (0, .ref la), (1, .int (nI pl)), (3, .int (nI k))]) hx hb dX2_pricesOf_32 rfl hl (by decide) rfl (fun ls hl => ?_)
      refine lv_iinc (v := nI (k + 1)) (lv' := [(3, .int (nI (k + 1))), (2, .int (a + (row (6 + k)))), (0, .ref la), (1, .int (nI pl))]) hx hb dX2_pricesOf_33 hl (k := 3) rfl (nI_1 k) (by decide) rfl (fun ls hl => ?_)
      refine lv_goto (tgt := 4) hx hb dX2_pricesOf_36 (by decide) ?_
      refine ih ls ?_
      show lv_has ls 4 [(0, .ref la), (1, .int (nI pl)), (2, .int ((mPrS row pl) k a)), (3, .int (nI (k + 1)))]
      rw [show (mPrS row pl) k a = a + (row (6 + k)) from (by simp [mPrS, h_3])]
      exact lv_sub hl [2, 3, 1, 0] rfl
  · intro ls hl
    have hl : lv_has ls 4 [(0, .ref la), (1, .int (nI pl)), (2, .int (mPrices row n pl)), (3, .int (nI n))] := hl
    show W p l e (rmR 1 40) s m ([.ref la, .int (nI pl)]).toArray below meth c s.heap [] 0 0 (MQ below (QRet (some (.int (mPrices row n pl)))) ([.ref la, .int (nI pl)]).toArray s 0 0 (fun _ => False)) (F0 m 4 ls [])
    refine lv_iload_n hx hb dX2_pricesOf_4 rfl (lv_at hl 3 rfl) ?_
    refine lv_aload_n hx hb dX2_pricesOf_5 rfl (lv_at hl 0 rfl) ?_
    refine va_get (D := D) (ci := 2) (C := RX2) (T := TX2) (N := 7) hx hb hts in_X2 hown K hP 0 rfl rfl 4 (by decide) (hts _ q119) (fun _ h9 => h9) rfl dX2_pricesOf_6 ?_
    refine lv_icmp_ge (tgt := 39) hx hb dX2_pricesOf_9 (by decide) (fun _ => ?_) (fun h => absurd (nI_le (by omega) (by omega)) h)
    refine lv_iload_n hx hb dX2_pricesOf_39 rfl (lv_at hl 2 rfl) ?_
    exact x_iret hx hb hrt hlk rfl dX2_pricesOf_40

set_option maxHeartbeats 4000000 in
theorem xr_server (l : Launch) (D : va_G) (dA : Nat → ClassId) (E : Nat) (ad : Nat → Nat) (sz0 : Nat) (la lp lx ld lr : Nat) (row : Nat → Int32) {n cu : Nat} (hn : n ≤ 7) (hcu : cu ≤ 8) (pl j : Nat) (hp : pl < 128) (hj : j < 8) : RO l yX2_server cX2_server 5 (some .int) 1 40 [.ref la, .int (nI pl), .int (nI j)] (G0 D dA E ad sz0) (fun H => va_P D vwCl (lW dA la lp lx ld lr row n cu) H) (some (.int (oI (mServer row n pl j)))) := by
  refine ro_of (by decide) (Nat.le_of_ble_eq_true rfl) ?_
  intro p e s m below meth c S hrt hlk G hP ls hl
  obtain ⟨hx, hb, hml, hown, hts⟩ := id S
  have K := G.1
  have hP : va_P D vwCl [(la, .inr (2, [.ref lp, .ref lx, .ref ld, .ref lr, .int (nI n), .int (nI cu), .int (row 2)])), (lp, .inl (dA 0, 7, .inl (fun k => row (6 + k)))), (lx, .inl (dA 0, 7, .inl (fun k => row (77 + k)))), (ld, .inl (dA 0, 8, .inl (fun k => row (13 + k)))), (lr, .inl (dA 0, 56, .inl (fun k => row (21 + k))))] s.heap := hP
  have hl : lv_has ls 5 [(0, .ref la), (1, .int (nI pl)), (2, .int (nI j))] := hl
  refine lv_bipush (v := -5) hx hb dX2_server_0 (by decide) ?_
  refine lv_istore_n (lv' := [(3, .int (-5)), (0, .ref la), (1, .int (nI pl)), (2, .int (nI j))]) hx hb dX2_server_2 rfl hl (by decide) rfl (fun ls hl => ?_)
  refine lv_iconst (v := nI 0) hx hb dX2_server_3 (by decide) ?_
  refine lv_istore (lv' := [(4, .int (nI 0)), (3, .int (-5)), (0, .ref la), (1, .int (nI pl)), (2, .int (nI j))]) hx hb dX2_server_4 hl (by decide) rfl (fun ls hl => ?_)
  refine lpI (lSvS row pl j) none n (fun k a ls => lv_has ls 5 [(0, .ref la), (1, .int (nI pl)), (2, .int (nI j)), (3, .int (oI a)), (4, .int (nI k))]) (fun ls => W p l e (rmR 1 40) s m ([.ref la, .int (nI pl), .int (nI j)]).toArray below meth c s.heap [] 0 0 (MQ below (QRet (some (.int (oI (mServer row n pl j))))) ([.ref la, .int (nI pl), .int (nI j)]).toArray s 0 0 (fun _ => False)) (F0 m 6 ls [])) ?_ ?_ ls (lv_sub hl [2, 3, 4, 1, 0] rfl)
  · intro k ls hk_1 hl ih
    have hbd : ∀ b, iter (lSvS row pl j) k 0 none = some b → b < k := fun b hb => iter_lt (mSvS_or row pl j) k b ((lServer_eq row pl j k).1 ▸ hb)
    generalize iter (lSvS row pl j) k 0 none = a at *
    have hl : lv_has ls 5 [(0, .ref la), (1, .int (nI pl)), (2, .int (nI j)), (3, .int (oI a)), (4, .int (nI k))] := hl
    show W p l e (rmR 1 40) s m ([.ref la, .int (nI pl), .int (nI j)]).toArray below meth c s.heap [] 0 0 (MQ below (QRet (some (.int (oI (mServer row n pl j))))) ([.ref la, .int (nI pl), .int (nI j)]).toArray s 0 0 (fun _ => False)) (F0 m 6 ls [])
    refine lv_iload hx hb dX2_server_6 (lv_at hl 4 rfl) ?_
    refine lv_aload_n hx hb dX2_server_8 rfl (lv_at hl 0 rfl) ?_
    refine va_get (D := D) (ci := 2) (C := RX2) (T := TX2) (N := 7) hx hb hts in_X2 hown K hP 0 rfl rfl 4 (by decide) (hts _ q119) (fun _ h9 => h9) rfl dX2_server_9 ?_
    refine lv_icmp_ge (tgt := 60) hx hb dX2_server_12 (by decide) (fun h => absurd h (nI_ge hk_1 (by omega))) (fun _ => ?_)
    refine lv_iload_n hx hb dX2_server_15 rfl (lv_at hl 1 rfl) ?_
    refine lv_iload hx hb dX2_server_16 (lv_at hl 4 rfl) ?_
    refine x_ret (va_runSN (As := [.int (nI pl), .int (nI k)]) (rest := []) S (xr_has l pl k (by omega) (by omega)) ⟨va_cnB 2 hts (lw_meth q430) rfl rfl rfl (G.2.1 _ q483 rfl) (hts _ q59) hdX0_has ⟨Nat.le_of_ble_eq_true rfl, Nat.le_of_ble_eq_true rfl⟩, hts _ q429, trivial⟩ ⟨bb_blind tt_bl _, tt_pre _⟩ rfl rfl hl.1 rfl (lv_room (Nat.le_of_ble_eq_true rfl)) dX2_server_18 ⟨Nat.le_refl _, Nat.le_refl _⟩) ?_
    refine x_ifb_eq (tgt := 54) hx hb dX2_server_21 (by decide) (fun h_3 => ?_) (fun h_3 => ?_)
    · refine lv_iinc (v := nI (k + 1)) (lv' := [(4, .int (nI (k + 1))), (0, .ref la), (1, .int (nI pl)), (2, .int (nI j)), (3, .int (oI a))]) hx hb dX2_server_54 hl (k := 4) rfl (nI_1 k) (by decide) rfl (fun ls hl => ?_)
      refine lv_goto (tgt := 6) hx hb dX2_server_57 (by decide) ?_
      refine ih ls ?_
      show lv_has ls 5 [(0, .ref la), (1, .int (nI pl)), (2, .int (nI j)), (3, .int (oI ((lSvS row pl j) k a))), (4, .int (nI (k + 1)))]
      rw [show oI ((lSvS row pl j) k a) = oI a from (by simp [lSvS, oI_s, oI_n, h_3])]
      exact lv_sub hl [1, 2, 3, 4, 0] rfl
    · refine lv_aload_n hx hb dX2_server_24 rfl (lv_at hl 0 rfl) ?_
      refine lv_iload hx hb dX2_server_25 (lv_at hl 4 rfl) ?_
      refine lv_iload_n hx hb dX2_server_27 rfl (lv_at hl 2 rfl) ?_
      refine x_ret (va_runV (As := [.int (nI k), .int (nI j)]) (rest := []) S (xr_route l D dA E ad sz0 la lp lx ld lr row hn hcu k j (by omega) (by omega)) (cwV 2 hts (lw_V q484 q417 q418 q61 q419) rfl rfl rfl hdX2_route ⟨Nat.le_of_ble_eq_true rfl, Nat.le_of_ble_eq_true rfl⟩) ⟨bb_blind g0_bl _, va_recv K hP (ci := 2) (q0 := 0) rfl rfl, bb_pre (g0_mv G (fun _ _ => rfl) (Nat.le_refl _)) hP _⟩ rfl rfl hl.1 rfl (lv_room (Nat.le_of_ble_eq_true rfl)) dX2_server_28 ⟨Nat.le_refl _, Nat.le_refl _⟩) ?_
      refine lv_iload_n hx hb dX2_server_31 rfl (lv_at hl 3 rfl) ?_
      refine lv_bipush (v := -5) hx hb dX2_server_32 (by decide) ?_
      refine x_icmpo_ne (tgt := 42) hx hb dX2_server_34 (by decide) (fun b hb => Nat.lt_trans (hbd b hb) (by omega)) (fun v_5 h_4 => ?_) (fun h_4 => ?_)
      · have hbv := hbd _ h_4
        refine lv_aload_n hx hb dX2_server_42 rfl (lv_at hl 0 rfl) ?_
        refine lv_iload_n hx hb dX2_server_43 rfl (lv_at hl 3 rfl) ?_
        refine x_top (y := nI v_5) (by rw [h_4]; rfl) ?_
        refine lv_iload_n hx hb dX2_server_44 rfl (lv_at hl 2 rfl) ?_
        refine x_ret (va_runV (As := [.int (nI v_5), .int (nI j)]) (rest := [.int (row (21 + 8 * k + j))]) S (xr_route l D dA E ad sz0 la lp lx ld lr row hn hcu v_5 j (by omega) (by omega)) (cwV 2 hts (lw_V q484 q417 q418 q61 q419) rfl rfl rfl hdX2_route ⟨Nat.le_of_ble_eq_true rfl, Nat.le_of_ble_eq_true rfl⟩) ⟨bb_blind g0_bl _, va_recv K hP (ci := 2) (q0 := 0) rfl rfl, bb_pre (g0_mv G (fun _ _ => rfl) (Nat.le_refl _)) hP _⟩ rfl rfl hl.1 rfl (lv_room (Nat.le_of_ble_eq_true rfl)) dX2_server_45 ⟨Nat.le_refl _, Nat.le_refl _⟩) ?_
        refine lv_icmp_ge (tgt := 54) hx hb dX2_server_48 (by decide) (fun h_6 => ?_) (fun h_6 => ?_)
        · refine lv_iinc (v := nI (k + 1)) (lv' := [(4, .int (nI (k + 1))), (0, .ref la), (1, .int (nI pl)), (2, .int (nI j)), (3, .int (oI a))]) hx hb dX2_server_54 hl (k := 4) rfl (nI_1 k) (by decide) rfl (fun ls hl => ?_)
          refine lv_goto (tgt := 6) hx hb dX2_server_57 (by decide) ?_
          refine ih ls ?_
          show lv_has ls 5 [(0, .ref la), (1, .int (nI pl)), (2, .int (nI j)), (3, .int (oI ((lSvS row pl j) k a))), (4, .int (nI (k + 1)))]
          rw [show oI ((lSvS row pl j) k a) = oI a from (by simp [lSvS, oI_s, oI_n, h_3, h_4, h_6])]
          exact lv_sub hl [1, 2, 3, 4, 0] rfl
        · refine lv_iload hx hb dX2_server_51 (lv_at hl 4 rfl) ?_
          refine lv_istore_n (lv' := [(3, .int (nI k)), (0, .ref la), (1, .int (nI pl)), (2, .int (nI j)), (4, .int (nI k))]) hx hb dX2_server_53 rfl hl (by decide) rfl (fun ls hl => ?_)
          refine lv_iinc (v := nI (k + 1)) (lv' := [(4, .int (nI (k + 1))), (3, .int (nI k)), (0, .ref la), (1, .int (nI pl)), (2, .int (nI j))]) hx hb dX2_server_54 hl (k := 4) rfl (nI_1 k) (by decide) rfl (fun ls hl => ?_)
          refine lv_goto (tgt := 6) hx hb dX2_server_57 (by decide) ?_
          refine ih ls ?_
          show lv_has ls 5 [(0, .ref la), (1, .int (nI pl)), (2, .int (nI j)), (3, .int (oI ((lSvS row pl j) k a))), (4, .int (nI (k + 1)))]
          rw [show oI ((lSvS row pl j) k a) = nI k from (by simp [lSvS, oI_s, oI_n, h_3, h_4, h_6])]
          exact lv_sub hl [2, 3, 4, 1, 0] rfl
      · refine lv_bipush (v := nI 100) hx hb dX2_server_37 (by decide) ?_
        refine lv_goto (tgt := 48) hx hb dX2_server_39 (by decide) ?_
        refine lv_icmp_ge (tgt := 54) hx hb dX2_server_48 (by decide) (fun h_7 => ?_) (fun h_7 => ?_)
        · refine lv_iinc (v := nI (k + 1)) (lv' := [(4, .int (nI (k + 1))), (0, .ref la), (1, .int (nI pl)), (2, .int (nI j)), (3, .int (oI a))]) hx hb dX2_server_54 hl (k := 4) rfl (nI_1 k) (by decide) rfl (fun ls hl => ?_)
          refine lv_goto (tgt := 6) hx hb dX2_server_57 (by decide) ?_
          refine ih ls ?_
          show lv_has ls 5 [(0, .ref la), (1, .int (nI pl)), (2, .int (nI j)), (3, .int (oI ((lSvS row pl j) k a))), (4, .int (nI (k + 1)))]
          rw [show oI ((lSvS row pl j) k a) = oI a from (by simp [lSvS, oI_s, oI_n, h_3, h_4, h_7])]
          exact lv_sub hl [1, 2, 3, 4, 0] rfl
        · refine lv_iload hx hb dX2_server_51 (lv_at hl 4 rfl) ?_
          refine lv_istore_n (lv' := [(3, .int (nI k)), (0, .ref la), (1, .int (nI pl)), (2, .int (nI j)), (4, .int (nI k))]) hx hb dX2_server_53 rfl hl (by decide) rfl (fun ls hl => ?_)
          refine lv_iinc (v := nI (k + 1)) (lv' := [(4, .int (nI (k + 1))), (3, .int (nI k)), (0, .ref la), (1, .int (nI pl)), (2, .int (nI j))]) hx hb dX2_server_54 hl (k := 4) rfl (nI_1 k) (by decide) rfl (fun ls hl => ?_)
          refine lv_goto (tgt := 6) hx hb dX2_server_57 (by decide) ?_
          refine ih ls ?_
          show lv_has ls 5 [(0, .ref la), (1, .int (nI pl)), (2, .int (nI j)), (3, .int (oI ((lSvS row pl j) k a))), (4, .int (nI (k + 1)))]
          rw [show oI ((lSvS row pl j) k a) = nI k from (by simp [lSvS, oI_s, oI_n, h_3, h_4, h_7])]
          exact lv_sub hl [2, 3, 4, 1, 0] rfl
  · intro ls hl
    rw [(lServer_eq row pl j n).1] at hl
    have hl : lv_has ls 5 [(0, .ref la), (1, .int (nI pl)), (2, .int (nI j)), (3, .int (oI (mServer row n pl j))), (4, .int (nI n))] := hl
    show W p l e (rmR 1 40) s m ([.ref la, .int (nI pl), .int (nI j)]).toArray below meth c s.heap [] 0 0 (MQ below (QRet (some (.int (oI (mServer row n pl j))))) ([.ref la, .int (nI pl), .int (nI j)]).toArray s 0 0 (fun _ => False)) (F0 m 6 ls [])
    refine lv_iload hx hb dX2_server_6 (lv_at hl 4 rfl) ?_
    refine lv_aload_n hx hb dX2_server_8 rfl (lv_at hl 0 rfl) ?_
    refine va_get (D := D) (ci := 2) (C := RX2) (T := TX2) (N := 7) hx hb hts in_X2 hown K hP 0 rfl rfl 4 (by decide) (hts _ q119) (fun _ h9 => h9) rfl dX2_server_9 ?_
    refine lv_icmp_ge (tgt := 60) hx hb dX2_server_12 (by decide) (fun _ => ?_) (fun h => absurd (nI_le (by omega) (by omega)) h)
    refine lv_iload_n hx hb dX2_server_60 rfl (lv_at hl 3 rfl) ?_
    exact x_iret hx hb hrt hlk rfl dX2_server_61

set_option maxHeartbeats 4000000 in
theorem xr_lost0 (l : Launch) (D : va_G) (dA : Nat → ClassId) (E : Nat) (ad : Nat → Nat) (sz0 : Nat) (la lp lx ld lr : Nat) (row : Nat → Int32) {n cu : Nat} (hn : n ≤ 7) (hcu : cu ≤ 8) (pl : Nat) (hp : pl < 128) : RO l yX2_lost cX2_lost 3 (some .int) 2 80 [.ref la, .int (nI pl)] (G0 D dA E ad sz0) (fun H => va_P D vwCl (lW dA la lp lx ld lr row n cu) H) (some (.int (oI (fst (lLoP row n pl) cu 0)))) := by
  refine ro_of (by decide) (Nat.le_of_ble_eq_true rfl) ?_
  intro p e s m below meth c S hrt hlk G hP ls hl
  obtain ⟨hx, hb, hml, hown, hts⟩ := id S
  have K := G.1
  have hP : va_P D vwCl [(la, .inr (2, [.ref lp, .ref lx, .ref ld, .ref lr, .int (nI n), .int (nI cu), .int (row 2)])), (lp, .inl (dA 0, 7, .inl (fun k => row (6 + k)))), (lx, .inl (dA 0, 7, .inl (fun k => row (77 + k)))), (ld, .inl (dA 0, 8, .inl (fun k => row (13 + k)))), (lr, .inl (dA 0, 56, .inl (fun k => row (21 + k))))] s.heap := hP
  have hl : lv_has ls 3 [(0, .ref la), (1, .int (nI pl))] := hl
  refine lv_iconst (v := nI 0) hx hb dX2_lost_0 (by decide) ?_
  refine lv_istore_n (lv' := [(2, .int (nI 0)), (0, .ref la), (1, .int (nI pl))]) hx hb dX2_lost_1 rfl hl (by decide) rfl (fun ls hl => ?_)
  refine lpF (lLoP row n pl) cu (fun k ls => lv_has ls 3 [(0, .ref la), (1, .int (nI pl)), (2, .int (nI k))]) (fun a ls => W p l e (rmR 2 80) s m ([.ref la, .int (nI pl)]).toArray below meth c s.heap [] 0 0 (MQ below (QRet (some (.int (oI a)))) ([.ref la, .int (nI pl)]).toArray s 0 0 (fun _ => False)) (F0 m 2 ls [])) ?_ ?_ ls (lv_sub hl [1, 2, 0] rfl)
  · intro k ls v_3 hk_1 hl hv_2 ih
    have hl : lv_has ls 3 [(0, .ref la), (1, .int (nI pl)), (2, .int (nI k))] := hl
    show W p l e (rmR 2 80) s m ([.ref la, .int (nI pl)]).toArray below meth c s.heap [] 0 0 (MQ below (QRet (some (.int (oI v_3)))) ([.ref la, .int (nI pl)]).toArray s 0 0 (fun _ => False)) (F0 m 2 ls [])
    refine lv_iload_n hx hb dX2_lost_2 rfl (lv_at hl 2 rfl) ?_
    refine lv_aload_n hx hb dX2_lost_3 rfl (lv_at hl 0 rfl) ?_
    refine va_get (D := D) (ci := 2) (C := RX2) (T := TX2) (N := 7) hx hb hts in_X2 hown K hP 0 rfl rfl 5 (by decide) (hts _ q123) (fun _ h9 => h9) rfl dX2_lost_4 ?_
    refine lv_icmp_ge (tgt := 29) hx hb dX2_lost_7 (by decide) (fun h => absurd h (nI_ge hk_1 (by omega))) (fun _ => ?_)
    refine lv_aload_n hx hb dX2_lost_10 rfl (lv_at hl 0 rfl) ?_
    refine lv_iload_n hx hb dX2_lost_11 rfl (lv_at hl 1 rfl) ?_
    refine lv_iload_n hx hb dX2_lost_12 rfl (lv_at hl 2 rfl) ?_
    refine x_ret (va_runV (As := [.int (nI pl), .int (nI k)]) (rest := []) S (xr_server l D dA E ad sz0 la lp lx ld lr row hn hcu pl k (by omega) (by omega)) (cwV 2 hts (lw_V q479 q480 q481 q61 q482) rfl rfl rfl hdX2_server ⟨Nat.le_of_ble_eq_true rfl, Nat.le_of_ble_eq_true rfl⟩) ⟨bb_blind g0_bl _, va_recv K hP (ci := 2) (q0 := 0) rfl rfl, bb_pre (g0_mv G (fun _ _ => rfl) (Nat.le_refl _)) hP _⟩ rfl rfl hl.1 rfl (lv_room (Nat.le_of_ble_eq_true rfl)) dX2_lost_13 ⟨Nat.le_refl _, Nat.le_refl _⟩) ?_
    refine lv_bipush (v := -5) hx hb dX2_lost_16 (by decide) ?_
    refine x_icmpo_ne (tgt := 23) hx hb dX2_lost_18 (by decide) (fun b hb => by have := mServer_lt hb; omega) (fun v_6 h_5 => ?_) (fun h_5 => ?_)
    · refine lv_iinc (v := nI (k + 1)) (lv' := [(2, .int (nI (k + 1))), (0, .ref la), (1, .int (nI pl))]) hx hb dX2_lost_23 hl (k := 2) rfl (nI_1 k) (by decide) rfl (fun ls hl => ?_)
      refine lv_goto (tgt := 2) hx hb dX2_lost_26 (by decide) ?_
      refine ih (by simp [lLoP, h_5]) ls ?_
      show lv_has ls 3 [(0, .ref la), (1, .int (nI pl)), (2, .int (nI (k + 1)))]
      exact lv_sub hl [1, 2, 0] rfl
    · refine lv_iload_n hx hb dX2_lost_21 rfl (lv_at hl 2 rfl) ?_
      exact x_iret hx hb hrt hlk (by rw [hv_2 (by simp [lLoP, h_5])]; rfl) dX2_lost_22
  · intro ls hl
    have hl : lv_has ls 3 [(0, .ref la), (1, .int (nI pl)), (2, .int (nI cu))] := hl
    show W p l e (rmR 2 80) s m ([.ref la, .int (nI pl)]).toArray below meth c s.heap [] 0 0 (MQ below (QRet (some (.int (oI none)))) ([.ref la, .int (nI pl)]).toArray s 0 0 (fun _ => False)) (F0 m 2 ls [])
    refine lv_iload_n hx hb dX2_lost_2 rfl (lv_at hl 2 rfl) ?_
    refine lv_aload_n hx hb dX2_lost_3 rfl (lv_at hl 0 rfl) ?_
    refine va_get (D := D) (ci := 2) (C := RX2) (T := TX2) (N := 7) hx hb hts in_X2 hown K hP 0 rfl rfl 5 (by decide) (hts _ q123) (fun _ h9 => h9) rfl dX2_lost_4 ?_
    refine lv_icmp_ge (tgt := 29) hx hb dX2_lost_7 (by decide) (fun _ => ?_) (fun h => absurd (nI_le (by omega) (by omega)) h)
    refine lv_bipush (v := -5) hx hb dX2_lost_29 (by decide) ?_
    exact x_iret hx hb hrt hlk rfl dX2_lost_31

theorem xr_lost (l : Launch) (D : va_G) (dA : Nat → ClassId) (E : Nat) (ad : Nat → Nat) (sz0 : Nat) (la lp lx ld lr : Nat) (row : Nat → Int32) {n cu : Nat} (hn : n ≤ 7) (hcu : cu ≤ 8) (pl : Nat) (hp : pl < 128) : RO l yX2_lost cX2_lost 3 (some .int) 2 80 [.ref la, .int (nI pl)] (G0 D dA E ad sz0) (fun H => va_P D vwCl (lW dA la lp lx ld lr row n cu) H) (some (.int (oI (mMissed row n cu pl)))) := by
  rw [← lost_eq]
  exact xr_lost0 l D dA E ad sz0 la lp lx ld lr row hn hcu pl hp

set_option maxHeartbeats 4000000 in
theorem xr_routesOf (l : Launch) (D : va_G) (dA : Nat → ClassId) (E : Nat) (ad : Nat → Nat) (sz0 : Nat) (la lp lx ld lr : Nat) (row : Nat → Int32) {n cu : Nat} (hn : n ≤ 7) (hcu : cu ≤ 8) (pl : Nat) (hp : pl < 128) (hsv : ∀ c, c < cu → ∃ s, mServer row n pl c = some s) : RO l yX2_routesOf cX2_routesOf 4 (some .int) 2 80 [.ref la, .int (nI pl)] (G0 D dA E ad sz0) (fun H => va_P D vwCl (lW dA la lp lx ld lr row n cu) H) (some (.int (mRoutes row n cu pl))) := by
  refine ro_of (by decide) (Nat.le_of_ble_eq_true rfl) ?_
  intro p e s m below meth c S hrt hlk G hP ls hl
  obtain ⟨hx, hb, hml, hown, hts⟩ := id S
  have K := G.1
  have hP : va_P D vwCl [(la, .inr (2, [.ref lp, .ref lx, .ref ld, .ref lr, .int (nI n), .int (nI cu), .int (row 2)])), (lp, .inl (dA 0, 7, .inl (fun k => row (6 + k)))), (lx, .inl (dA 0, 7, .inl (fun k => row (77 + k)))), (ld, .inl (dA 0, 8, .inl (fun k => row (13 + k)))), (lr, .inl (dA 0, 56, .inl (fun k => row (21 + k))))] s.heap := hP
  have hl : lv_has ls 4 [(0, .ref la), (1, .int (nI pl))] := hl
  refine lv_iconst (v := nI 0) hx hb dX2_routesOf_0 (by decide) ?_
  refine lv_istore_n (lv' := [(2, .int (nI 0)), (0, .ref la), (1, .int (nI pl))]) hx hb dX2_routesOf_1 rfl hl (by decide) rfl (fun ls hl => ?_)
  refine lv_iconst (v := nI 0) hx hb dX2_routesOf_2 (by decide) ?_
  refine lv_istore_n (lv' := [(3, .int (nI 0)), (2, .int (nI 0)), (0, .ref la), (1, .int (nI pl))]) hx hb dX2_routesOf_3 rfl hl (by decide) rfl (fun ls hl => ?_)
  refine lpI (mRoS row n pl) (nI 0) cu (fun k a ls => lv_has ls 4 [(0, .ref la), (1, .int (nI pl)), (2, .int a), (3, .int (nI k))]) (fun ls => W p l e (rmR 2 80) s m ([.ref la, .int (nI pl)]).toArray below meth c s.heap [] 0 0 (MQ below (QRet (some (.int (mRoutes row n cu pl)))) ([.ref la, .int (nI pl)]).toArray s 0 0 (fun _ => False)) (F0 m 4 ls [])) ?_ ?_ ls (lv_sub hl [2, 3, 1, 0] rfl)
  · intro k ls hk_1 hl ih
    obtain ⟨sv, hsk⟩ := hsv k hk_1
    have hsl := mServer_lt hsk
    generalize iter (mRoS row n pl) k 0 (nI 0) = a at *
    have hl : lv_has ls 4 [(0, .ref la), (1, .int (nI pl)), (2, .int a), (3, .int (nI k))] := hl
    show W p l e (rmR 2 80) s m ([.ref la, .int (nI pl)]).toArray below meth c s.heap [] 0 0 (MQ below (QRet (some (.int (mRoutes row n cu pl)))) ([.ref la, .int (nI pl)]).toArray s 0 0 (fun _ => False)) (F0 m 4 ls [])
    refine lv_iload_n hx hb dX2_routesOf_4 rfl (lv_at hl 3 rfl) ?_
    refine lv_aload_n hx hb dX2_routesOf_5 rfl (lv_at hl 0 rfl) ?_
    refine va_get (D := D) (ci := 2) (C := RX2) (T := TX2) (N := 7) hx hb hts in_X2 hown K hP 0 rfl rfl 5 (by decide) (hts _ q123) (fun _ h9 => h9) rfl dX2_routesOf_6 ?_
    refine lv_icmp_ge (tgt := 39) hx hb dX2_routesOf_9 (by decide) (fun h => absurd h (nI_ge hk_1 (by omega))) (fun _ => ?_)
    refine lv_iload_n hx hb dX2_routesOf_12 rfl (lv_at hl 2 rfl) ?_
    refine lv_aload_n hx hb dX2_routesOf_13 rfl (lv_at hl 0 rfl) ?_
    refine va_get (D := D) (ci := 2) (C := RX2) (T := TX2) (N := 7) hx hb hts in_X2 hown K hP 0 rfl rfl 2 (by decide) (hts _ q113) (fun _ h9 => h9) rfl dX2_routesOf_14 ?_
    refine lv_iload_n hx hb dX2_routesOf_17 rfl (lv_at hl 3 rfl) ?_
    refine x_iald hx hb K hP 3 0 rfl rfl k rfl (by omega) (by decide) rfl dX2_routesOf_18 ?_
    refine lv_aload_n hx hb dX2_routesOf_19 rfl (lv_at hl 0 rfl) ?_
    refine lv_aload_n hx hb dX2_routesOf_20 rfl (lv_at hl 0 rfl) ?_
    refine lv_iload_n hx hb dX2_routesOf_21 rfl (lv_at hl 1 rfl) ?_
    refine lv_iload_n hx hb dX2_routesOf_22 rfl (lv_at hl 3 rfl) ?_
    refine x_ret (va_runV (As := [.int (nI pl), .int (nI k)]) (rest := [.ref la, .int (row (13 + k)), .int a]) S (xr_server l D dA E ad sz0 la lp lx ld lr row hn hcu pl k (by omega) (by omega)) (cwV 2 hts (lw_V q479 q480 q481 q61 q482) rfl rfl rfl hdX2_server ⟨Nat.le_of_ble_eq_true rfl, Nat.le_of_ble_eq_true rfl⟩) ⟨bb_blind g0_bl _, va_recv K hP (ci := 2) (q0 := 0) rfl rfl, bb_pre (g0_mv G (fun _ _ => rfl) (Nat.le_refl _)) hP _⟩ rfl rfl hl.1 rfl (lv_room (Nat.le_of_ble_eq_true rfl)) dX2_routesOf_23 ⟨Nat.le_refl _, Nat.le_refl _⟩) ?_
    refine x_top (y := nI sv) (by rw [hsk]; rfl) ?_
    refine lv_iload_n hx hb dX2_routesOf_26 rfl (lv_at hl 3 rfl) ?_
    refine x_ret (va_runV (As := [.int (nI sv), .int (nI k)]) (rest := [.int (row (13 + k)), .int a]) S (xr_route l D dA E ad sz0 la lp lx ld lr row hn hcu sv k (by omega) (by omega)) (cwV 2 hts (lw_V q484 q417 q418 q61 q419) rfl rfl rfl hdX2_route ⟨Nat.le_of_ble_eq_true rfl, Nat.le_of_ble_eq_true rfl⟩) ⟨bb_blind g0_bl _, va_recv K hP (ci := 2) (q0 := 0) rfl rfl, bb_pre (g0_mv G (fun _ _ => rfl) (Nat.le_refl _)) hP _⟩ rfl rfl hl.1 rfl (lv_room (Nat.le_of_ble_eq_true rfl)) dX2_routesOf_27 ⟨Nat.le_refl _, Nat.le_refl _⟩) ?_
    refine lv_imul hx hb dX2_routesOf_30 ?_
    refine lv_iadd hx hb dX2_routesOf_31 ?_
    refine lv_istore_n (lv' := [(2, .int (a + ((row (13 + k)) * (row (21 + 8 * sv + k))))), (0, .ref la), (1, .int (nI pl)), (3, .int (nI k))]) hx hb dX2_routesOf_32 rfl hl (by decide) rfl (fun ls hl => ?_)
    refine lv_iinc (v := nI (k + 1)) (lv' := [(3, .int (nI (k + 1))), (2, .int (a + ((row (13 + k)) * (row (21 + 8 * sv + k))))), (0, .ref la), (1, .int (nI pl))]) hx hb dX2_routesOf_33 hl (k := 3) rfl (nI_1 k) (by decide) rfl (fun ls hl => ?_)
    refine lv_goto (tgt := 4) hx hb dX2_routesOf_36 (by decide) ?_
    refine ih ls ?_
    show lv_has ls 4 [(0, .ref la), (1, .int (nI pl)), (2, .int ((mRoS row n pl) k a)), (3, .int (nI (k + 1)))]
    rw [show (mRoS row n pl) k a = a + ((row (13 + k)) * (row (21 + 8 * sv + k))) from (by simp [mRoS, hsk])]
    exact lv_sub hl [2, 3, 1, 0] rfl
  · intro ls hl
    have hl : lv_has ls 4 [(0, .ref la), (1, .int (nI pl)), (2, .int (mRoutes row n cu pl)), (3, .int (nI cu))] := hl
    show W p l e (rmR 2 80) s m ([.ref la, .int (nI pl)]).toArray below meth c s.heap [] 0 0 (MQ below (QRet (some (.int (mRoutes row n cu pl)))) ([.ref la, .int (nI pl)]).toArray s 0 0 (fun _ => False)) (F0 m 4 ls [])
    refine lv_iload_n hx hb dX2_routesOf_4 rfl (lv_at hl 3 rfl) ?_
    refine lv_aload_n hx hb dX2_routesOf_5 rfl (lv_at hl 0 rfl) ?_
    refine va_get (D := D) (ci := 2) (C := RX2) (T := TX2) (N := 7) hx hb hts in_X2 hown K hP 0 rfl rfl 5 (by decide) (hts _ q123) (fun _ h9 => h9) rfl dX2_routesOf_6 ?_
    refine lv_icmp_ge (tgt := 39) hx hb dX2_routesOf_9 (by decide) (fun _ => ?_) (fun h => absurd (nI_le (by omega) (by omega)) h)
    refine lv_iload_n hx hb dX2_routesOf_39 rfl (lv_at hl 2 rfl) ?_
    exact x_iret hx hb hrt hlk rfl dX2_routesOf_40

set_option maxHeartbeats 4000000 in
theorem xr_cost (l : Launch) (D : va_G) (dA : Nat → ClassId) (E : Nat) (ad : Nat → Nat) (sz0 : Nat) (la lp lx ld lr : Nat) (row : Nat → Int32) {n cu : Nat} (hn : n ≤ 7) (hcu : cu ≤ 8) (pl : Nat) (hp : pl < 128) (hsv : ∀ c, c < cu → ∃ s, mServer row n pl c = some s) : RO l yX2_cost cX2_cost 2 (some .int) 3 120 [.ref la, .int (nI pl)] (G0 D dA E ad sz0) (fun H => va_P D vwCl (lW dA la lp lx ld lr row n cu) H) (some (.int (mCost row n cu pl))) := by
  refine ro_of (by decide) (Nat.le_of_ble_eq_true rfl) ?_
  intro p e s m below meth c S hrt hlk G hP ls hl
  obtain ⟨hx, hb, hml, hown, hts⟩ := id S
  have K := G.1
  have hP : va_P D vwCl [(la, .inr (2, [.ref lp, .ref lx, .ref ld, .ref lr, .int (nI n), .int (nI cu), .int (row 2)])), (lp, .inl (dA 0, 7, .inl (fun k => row (6 + k)))), (lx, .inl (dA 0, 7, .inl (fun k => row (77 + k)))), (ld, .inl (dA 0, 8, .inl (fun k => row (13 + k)))), (lr, .inl (dA 0, 56, .inl (fun k => row (21 + k))))] s.heap := hP
  have hl : lv_has ls 2 [(0, .ref la), (1, .int (nI pl))] := hl
  refine lv_aload_n hx hb dX2_cost_0 rfl (lv_at hl 0 rfl) ?_
  refine lv_iload_n hx hb dX2_cost_1 rfl (lv_at hl 1 rfl) ?_
  refine x_ret (va_runV (As := [.int (nI pl)]) (rest := []) S (xr_pricesOf l D dA E ad sz0 la lp lx ld lr row hn hcu pl (by omega)) (cwV 1 hts (lw_V q606 q576 q577 q61 q578) rfl rfl rfl hdX2_pricesOf ⟨Nat.le_of_ble_eq_true rfl, Nat.le_of_ble_eq_true rfl⟩) ⟨bb_blind g0_bl _, va_recv K hP (ci := 2) (q0 := 0) rfl rfl, bb_pre (g0_mv G (fun _ _ => rfl) (Nat.le_refl _)) hP _⟩ rfl rfl hl.1 rfl (lv_room (Nat.le_of_ble_eq_true rfl)) dX2_cost_2 ⟨Nat.le_refl _, Nat.le_refl _⟩) ?_
  refine lv_aload_n hx hb dX2_cost_5 rfl (lv_at hl 0 rfl) ?_
  refine lv_iload_n hx hb dX2_cost_6 rfl (lv_at hl 1 rfl) ?_
  refine x_ret (va_runV (As := [.int (nI pl)]) (rest := [.int (mPrices row n pl)]) S (xr_routesOf l D dA E ad sz0 la lp lx ld lr row hn hcu pl (by omega) hsv) (cwV 1 hts (lw_V q607 q561 q562 q61 q563) rfl rfl rfl hdX2_routesOf ⟨Nat.le_of_ble_eq_true rfl, Nat.le_of_ble_eq_true rfl⟩) ⟨bb_blind g0_bl _, va_recv K hP (ci := 2) (q0 := 0) rfl rfl, bb_pre (g0_mv G (fun _ _ => rfl) (Nat.le_refl _)) hP _⟩ rfl rfl hl.1 rfl (lv_room (Nat.le_of_ble_eq_true rfl)) dX2_cost_7 ⟨Nat.le_refl _, Nat.le_refl _⟩) ?_
  refine lv_iadd hx hb dX2_cost_10 ?_
  exact x_iret hx hb hrt hlk rfl dX2_cost_11

set_option maxHeartbeats 4000000 in
theorem xr_is2 (l : Launch) (D : va_G) (dA : Nat → ClassId) (E : Nat) (ad : Nat → Nat) (sz0 : Nat) (la lp lx ld lr : Nat) (row : Nat → Int32) {n cu : Nat} (hn : n ≤ 7) (hcu : cu ≤ 8) (t pl : Nat) (hp : pl < 128) : RO l yX11_is cX11_is 3 (some .boolean) 1 40 [.ref t, .ref la, .int (nI pl)] (G0 D dA E ad sz0) (fun H => va_P D vwCl (lW dA la lp lx ld lr row n cu) H) (some (.int (bI (if nI (mMany pl) ≤ row 2 then false else true)))) := by
  refine ro_of (by decide) (Nat.le_of_ble_eq_true rfl) ?_
  intro p e s m below meth c S hrt hlk G hP ls hl
  obtain ⟨hx, hb, hml, hown, hts⟩ := id S
  have K := G.1
  have hP : va_P D vwCl [(la, .inr (2, [.ref lp, .ref lx, .ref ld, .ref lr, .int (nI n), .int (nI cu), .int (row 2)])), (lp, .inl (dA 0, 7, .inl (fun k => row (6 + k)))), (lx, .inl (dA 0, 7, .inl (fun k => row (77 + k)))), (ld, .inl (dA 0, 8, .inl (fun k => row (13 + k)))), (lr, .inl (dA 0, 56, .inl (fun k => row (21 + k))))] s.heap := hP
  have hl : lv_has ls 3 [(0, .ref t), (1, .ref la), (2, .int (nI pl))] := hl
  refine lv_iload_n hx hb dX11_is_0 rfl (lv_at hl 2 rfl) ?_
  refine x_ret (va_runS (As := [.int (nI pl)]) (rest := []) S (xr_bitCount l pl (by omega)) (va_cwS 1 hts (lw_S q467 q432 q76 q433) rfl rfl rfl hdJ12_bitCount ⟨Nat.le_of_ble_eq_true rfl, Nat.le_of_ble_eq_true rfl⟩) ⟨bb_blind tt_bl _, tt_pre _⟩ rfl rfl hl.1 rfl (lv_room (Nat.le_of_ble_eq_true rfl)) dX11_is_1 ⟨Nat.le_refl _, Nat.le_refl _⟩) ?_
  refine lv_aload_n hx hb dX11_is_4 rfl (lv_at hl 1 rfl) ?_
  refine va_getN (D := D) (ci := 2) (C := RX2) (T := TX2) (N := 7) hx hb hts in_X2 hown K hP 0 rfl rfl 6 (by decide) (va_Nw.use rfl (G.2.1 _ q127 rfl)) (fun _ h9 => h9) rfl dX11_is_5 ?_
  refine lv_icmp_le (tgt := 15) hx hb dX11_is_8 (by decide) (fun h_1 => ?_) (fun h_1 => ?_)
  · refine lv_iconst (v := nI 0) hx hb dX11_is_15 (by decide) ?_
    exact x_zret hx hb hrt hlk (by rw [if_pos h_1]; rfl) dX11_is_16
  · refine lv_iconst (v := nI 1) hx hb dX11_is_11 (by decide) ?_
    refine lv_goto (tgt := 16) hx hb dX11_is_12 (by decide) ?_
    exact x_zret hx hb hrt hlk (by rw [if_neg h_1]; rfl) dX11_is_16

set_option maxHeartbeats 4000000 in
theorem xr_is30 (l : Launch) (D : va_G) (dA : Nat → ClassId) (E : Nat) (ad : Nat → Nat) (sz0 : Nat) (la lp lx ld lr : Nat) (row : Nat → Int32) {n cu : Nat} (hn : n ≤ 7) (hcu : cu ≤ 8) (t pl : Nat) (hp : pl < 128) : RO l yX10_is cX10_is 4 (some .boolean) 1 40 [.ref t, .ref la, .int (nI pl)] (G0 D dA E ad sz0) (fun H => va_P D vwCl (lW dA la lp lx ld lr row n cu) H) (some (.int (bI (fst (lExP row pl) n 0).isSome))) := by
  refine ro_of (by decide) (Nat.le_of_ble_eq_true rfl) ?_
  intro p e s m below meth c S hrt hlk G hP ls hl
  obtain ⟨hx, hb, hml, hown, hts⟩ := id S
  have K := G.1
  have hP : va_P D vwCl [(la, .inr (2, [.ref lp, .ref lx, .ref ld, .ref lr, .int (nI n), .int (nI cu), .int (row 2)])), (lp, .inl (dA 0, 7, .inl (fun k => row (6 + k)))), (lx, .inl (dA 0, 7, .inl (fun k => row (77 + k)))), (ld, .inl (dA 0, 8, .inl (fun k => row (13 + k)))), (lr, .inl (dA 0, 56, .inl (fun k => row (21 + k))))] s.heap := hP
  have hl : lv_has ls 4 [(0, .ref t), (1, .ref la), (2, .int (nI pl))] := hl
  refine lv_iconst (v := nI 0) hx hb dX10_is_0 (by decide) ?_
  refine lv_istore_n (lv' := [(3, .int (nI 0)), (0, .ref t), (1, .ref la), (2, .int (nI pl))]) hx hb dX10_is_1 rfl hl (by decide) rfl (fun ls hl => ?_)
  refine lpF (lExP row pl) n (fun k ls => lv_has ls 4 [(0, .ref t), (1, .ref la), (2, .int (nI pl)), (3, .int (nI k))]) (fun a ls => W p l e (rmR 1 40) s m ([.ref t, .ref la, .int (nI pl)]).toArray below meth c s.heap [] 0 0 (MQ below (QRet (some (.int (bI (a).isSome)))) ([.ref t, .ref la, .int (nI pl)]).toArray s 0 0 (fun _ => False)) (F0 m 2 ls [])) ?_ ?_ ls (lv_sub hl [1, 2, 3, 0] rfl)
  · intro k ls v_3 hk_1 hl hv_2 ih
    have hl : lv_has ls 4 [(0, .ref t), (1, .ref la), (2, .int (nI pl)), (3, .int (nI k))] := hl
    show W p l e (rmR 1 40) s m ([.ref t, .ref la, .int (nI pl)]).toArray below meth c s.heap [] 0 0 (MQ below (QRet (some (.int (bI (v_3).isSome)))) ([.ref t, .ref la, .int (nI pl)]).toArray s 0 0 (fun _ => False)) (F0 m 2 ls [])
    refine lv_iload_n hx hb dX10_is_2 rfl (lv_at hl 3 rfl) ?_
    refine lv_aload_n hx hb dX10_is_3 rfl (lv_at hl 1 rfl) ?_
    refine va_getN (D := D) (ci := 2) (C := RX2) (T := TX2) (N := 7) hx hb hts in_X2 hown K hP 0 rfl rfl 4 (by decide) (va_Nw.use rfl (G.2.1 _ q118 rfl)) (fun _ h9 => h9) rfl dX10_is_4 ?_
    refine lv_icmp_ge (tgt := 37) hx hb dX10_is_7 (by decide) (fun h => absurd h (nI_ge hk_1 (by omega))) (fun _ => ?_)
    refine lv_iload_n hx hb dX10_is_10 rfl (lv_at hl 2 rfl) ?_
    refine lv_iload_n hx hb dX10_is_11 rfl (lv_at hl 3 rfl) ?_
    refine x_ret (va_runSN (As := [.int (nI pl), .int (nI k)]) (rest := []) S (xr_has l pl k (by omega) (by omega)) ⟨va_cnB 2 hts (lw_meth q430) rfl rfl rfl (G.2.1 _ q471 rfl) (hts _ q59) hdX0_has ⟨Nat.le_of_ble_eq_true rfl, Nat.le_of_ble_eq_true rfl⟩, hts _ q429, trivial⟩ ⟨bb_blind tt_bl _, tt_pre _⟩ rfl rfl hl.1 rfl (lv_room (Nat.le_of_ble_eq_true rfl)) dX10_is_12 ⟨Nat.le_refl _, Nat.le_refl _⟩) ?_
    refine x_ifb_eq (tgt := 31) hx hb dX10_is_15 (by decide) (fun h_5 => ?_) (fun h_5 => ?_)
    · refine lv_iinc (v := nI (k + 1)) (lv' := [(3, .int (nI (k + 1))), (0, .ref t), (1, .ref la), (2, .int (nI pl))]) hx hb dX10_is_31 hl (k := 3) rfl (nI_1 k) (by decide) rfl (fun ls hl => ?_)
      refine lv_goto (tgt := 2) hx hb dX10_is_34 (by decide) ?_
      refine ih (by simp [lExP, h_5]) ls ?_
      show lv_has ls 4 [(0, .ref t), (1, .ref la), (2, .int (nI pl)), (3, .int (nI (k + 1)))]
      exact lv_sub hl [1, 2, 3, 0] rfl
    · refine lv_aload_n hx hb dX10_is_18 rfl (lv_at hl 1 rfl) ?_
      refine va_getN (D := D) (ci := 2) (C := RX2) (T := TX2) (N := 7) hx hb hts in_X2 hown K hP 0 rfl rfl 1 (by decide) (va_Nw.use rfl (G.2.1 _ q111 rfl)) (fun _ h9 => h9) rfl dX10_is_19 ?_
      refine lv_iload_n hx hb dX10_is_22 rfl (lv_at hl 3 rfl) ?_
      refine x_iald hx hb K hP 2 0 rfl rfl k rfl (by omega) (by decide) rfl dX10_is_23 ?_
      refine lv_iload_n hx hb dX10_is_24 rfl (lv_at hl 2 rfl) ?_
      refine lv_iand hx hb dX10_is_25 ?_
      refine lv_if_eq (tgt := 31) hx hb dX10_is_26 (by decide) (fun h_6 => ?_) (fun h_6 => ?_)
      · refine lv_iinc (v := nI (k + 1)) (lv' := [(3, .int (nI (k + 1))), (0, .ref t), (1, .ref la), (2, .int (nI pl))]) hx hb dX10_is_31 hl (k := 3) rfl (nI_1 k) (by decide) rfl (fun ls hl => ?_)
        refine lv_goto (tgt := 2) hx hb dX10_is_34 (by decide) ?_
        refine ih (by simp [lExP, h_5, h_6]) ls ?_
        show lv_has ls 4 [(0, .ref t), (1, .ref la), (2, .int (nI pl)), (3, .int (nI (k + 1)))]
        exact lv_sub hl [1, 2, 3, 0] rfl
      · refine lv_iconst (v := nI 1) hx hb dX10_is_29 (by decide) ?_
        exact x_zret hx hb hrt hlk (by rw [hv_2 (by simp [lExP, h_5, h_6])]; rfl) dX10_is_30
  · intro ls hl
    have hl : lv_has ls 4 [(0, .ref t), (1, .ref la), (2, .int (nI pl)), (3, .int (nI n))] := hl
    show W p l e (rmR 1 40) s m ([.ref t, .ref la, .int (nI pl)]).toArray below meth c s.heap [] 0 0 (MQ below (QRet (some (.int (bI (none).isSome)))) ([.ref t, .ref la, .int (nI pl)]).toArray s 0 0 (fun _ => False)) (F0 m 2 ls [])
    refine lv_iload_n hx hb dX10_is_2 rfl (lv_at hl 3 rfl) ?_
    refine lv_aload_n hx hb dX10_is_3 rfl (lv_at hl 1 rfl) ?_
    refine va_getN (D := D) (ci := 2) (C := RX2) (T := TX2) (N := 7) hx hb hts in_X2 hown K hP 0 rfl rfl 4 (by decide) (va_Nw.use rfl (G.2.1 _ q118 rfl)) (fun _ h9 => h9) rfl dX10_is_4 ?_
    refine lv_icmp_ge (tgt := 37) hx hb dX10_is_7 (by decide) (fun _ => ?_) (fun h => absurd (nI_le (by omega) (by omega)) h)
    refine lv_iconst (v := nI 0) hx hb dX10_is_37 (by decide) ?_
    exact x_zret hx hb hrt hlk rfl dX10_is_38

theorem xr_is3 (l : Launch) (D : va_G) (dA : Nat → ClassId) (E : Nat) (ad : Nat → Nat) (sz0 : Nat) (la lp lx ld lr : Nat) (row : Nat → Int32) {n cu : Nat} (hn : n ≤ 7) (hcu : cu ≤ 8) (t pl : Nat) (hp : pl < 128) : RO l yX10_is cX10_is 4 (some .boolean) 1 40 [.ref t, .ref la, .int (nI pl)] (G0 D dA E ad sz0) (fun H => va_P D vwCl (lW dA la lp lx ld lr row n cu) H) (some (.int (bI (mExcl row n pl)))) := by
  rw [← excl_eq]
  exact xr_is30 l D dA E ad sz0 la lp lx ld lr row hn hcu t pl hp

set_option maxHeartbeats 4000000 in
theorem xr_is4 (l : Launch) (D : va_G) (dA : Nat → ClassId) (E : Nat) (ad : Nat → Nat) (sz0 : Nat) (la lp lx ld lr : Nat) (row : Nat → Int32) {n cu : Nat} (hn : n ≤ 7) (hcu : cu ≤ 8) (t pl : Nat) (hp : pl < 128) : RO l yX13_is cX13_is 3 (some .boolean) 4 160 [.ref t, .ref la, .int (nI pl)] (G0 D dA E ad sz0) (fun H => va_P D vwCl (lW dA la lp lx ld lr row n cu) H) (some (.int (bI (if mMissed row n cu pl = none then false else true)))) := by
  refine ro_of (by decide) (Nat.le_of_ble_eq_true rfl) ?_
  intro p e s m below meth c S hrt hlk G hP ls hl
  obtain ⟨hx, hb, hml, hown, hts⟩ := id S
  have K := G.1
  have hP : va_P D vwCl [(la, .inr (2, [.ref lp, .ref lx, .ref ld, .ref lr, .int (nI n), .int (nI cu), .int (row 2)])), (lp, .inl (dA 0, 7, .inl (fun k => row (6 + k)))), (lx, .inl (dA 0, 7, .inl (fun k => row (77 + k)))), (ld, .inl (dA 0, 8, .inl (fun k => row (13 + k)))), (lr, .inl (dA 0, 56, .inl (fun k => row (21 + k))))] s.heap := hP
  have hl : lv_has ls 3 [(0, .ref t), (1, .ref la), (2, .int (nI pl))] := hl
  refine lv_aload_n hx hb dX13_is_0 rfl (lv_at hl 1 rfl) ?_
  refine lv_iload_n hx hb dX13_is_1 rfl (lv_at hl 2 rfl) ?_
  refine x_ret (va_runV (As := [.int (nI pl)]) (rest := []) S (xr_lost l D dA E ad sz0 la lp lx ld lr row hn hcu pl (by omega)) (cwV 1 hts (lw_V q475 q476 q477 q61 q478) rfl rfl rfl hdX2_lost ⟨Nat.le_of_ble_eq_true rfl, Nat.le_of_ble_eq_true rfl⟩) ⟨bb_blind g0_bl _, va_recv K hP (ci := 2) (q0 := 0) rfl rfl, bb_pre (g0_mv G (fun _ _ => rfl) (Nat.le_refl _)) hP _⟩ rfl rfl hl.1 rfl (lv_room (Nat.le_of_ble_eq_true rfl)) dX13_is_2 ⟨Nat.le_refl _, Nat.le_refl _⟩) ?_
  refine lv_bipush (v := -5) hx hb dX13_is_5 (by decide) ?_
  refine x_icmpo_eq (tgt := 14) hx hb dX13_is_7 (by decide) (fun b hb => by have := mMissed_lt hb; omega) (fun h_1 => ?_) (fun v_2 h_1 => ?_)
  · refine lv_iconst (v := nI 0) hx hb dX13_is_14 (by decide) ?_
    exact x_zret hx hb hrt hlk (by rw [if_pos h_1]; rfl) dX13_is_15
  · refine lv_iconst (v := nI 1) hx hb dX13_is_10 (by decide) ?_
    refine lv_goto (tgt := 15) hx hb dX13_is_11 (by decide) ?_
    exact x_zret hx hb hrt hlk (by rw [if_neg (by rw [h_1]; exact fun h => by cases h)]; rfl) dX13_is_15

