/-! WALKS (printed by walk.py): within, isOwner, isOne, isShelf, isOpen, isHis, both, worked -/
set_option maxRecDepth 100000
theorem hcV_X2_init : yX2_init.cls = RX2 ∧ yX2_init.cls ≠ "java/lang/invoke/MethodHandle" ∧ yX2_init.cls ≠ "java/lang/invoke/VarHandle" ∧ (parseMethodDescriptor yX2_init.desc).map (fun d => d.parameters.length) = some 0 := by decide +kernel
theorem hcS_X2_init : yX2_init.cls ≠ "java/lang/invoke/MethodHandle" ∧ yX2_init.cls ≠ "java/lang/invoke/VarHandle" ∧ (parseMethodDescriptor yX2_init.desc).map (fun d => d.parameters.length) = some 0 := hcV_X2_init.2
theorem hcV_X2_owner : yX2_owner.cls = RX2 ∧ yX2_owner.cls ≠ "java/lang/invoke/MethodHandle" ∧ yX2_owner.cls ≠ "java/lang/invoke/VarHandle" ∧ (parseMethodDescriptor yX2_owner.desc).map (fun d => d.parameters.length) = some 1 := by decide +kernel
theorem hcS_X2_owner : yX2_owner.cls ≠ "java/lang/invoke/MethodHandle" ∧ yX2_owner.cls ≠ "java/lang/invoke/VarHandle" ∧ (parseMethodDescriptor yX2_owner.desc).map (fun d => d.parameters.length) = some 1 := hcV_X2_owner.2
theorem hcV_X2_within : yX2_within.cls = RX2 ∧ yX2_within.cls ≠ "java/lang/invoke/MethodHandle" ∧ yX2_within.cls ≠ "java/lang/invoke/VarHandle" ∧ (parseMethodDescriptor yX2_within.desc).map (fun d => d.parameters.length) = some 3 := by decide +kernel
theorem hcS_X2_within : yX2_within.cls ≠ "java/lang/invoke/MethodHandle" ∧ yX2_within.cls ≠ "java/lang/invoke/VarHandle" ∧ (parseMethodDescriptor yX2_within.desc).map (fun d => d.parameters.length) = some 3 := hcV_X2_within.2
theorem hcV_X2_promise : yX2_promise.cls = RX2 ∧ yX2_promise.cls ≠ "java/lang/invoke/MethodHandle" ∧ yX2_promise.cls ≠ "java/lang/invoke/VarHandle" ∧ (parseMethodDescriptor yX2_promise.desc).map (fun d => d.parameters.length) = some 3 := by decide +kernel
theorem hcS_X2_promise : yX2_promise.cls ≠ "java/lang/invoke/MethodHandle" ∧ yX2_promise.cls ≠ "java/lang/invoke/VarHandle" ∧ (parseMethodDescriptor yX2_promise.desc).map (fun d => d.parameters.length) = some 3 := hcV_X2_promise.2
theorem hcV_X2_isSuch : yX2_isSuch.cls = RX2 ∧ yX2_isSuch.cls ≠ "java/lang/invoke/MethodHandle" ∧ yX2_isSuch.cls ≠ "java/lang/invoke/VarHandle" ∧ (parseMethodDescriptor yX2_isSuch.desc).map (fun d => d.parameters.length) = some 4 := by decide +kernel
theorem hcS_X2_isSuch : yX2_isSuch.cls ≠ "java/lang/invoke/MethodHandle" ∧ yX2_isSuch.cls ≠ "java/lang/invoke/VarHandle" ∧ (parseMethodDescriptor yX2_isSuch.desc).map (fun d => d.parameters.length) = some 4 := hcV_X2_isSuch.2
theorem hcV_X2_isOwner : yX2_isOwner.cls = RX2 ∧ yX2_isOwner.cls ≠ "java/lang/invoke/MethodHandle" ∧ yX2_isOwner.cls ≠ "java/lang/invoke/VarHandle" ∧ (parseMethodDescriptor yX2_isOwner.desc).map (fun d => d.parameters.length) = some 1 := by decide +kernel
theorem hcS_X2_isOwner : yX2_isOwner.cls ≠ "java/lang/invoke/MethodHandle" ∧ yX2_isOwner.cls ≠ "java/lang/invoke/VarHandle" ∧ (parseMethodDescriptor yX2_isOwner.desc).map (fun d => d.parameters.length) = some 1 := hcV_X2_isOwner.2
theorem hcV_X2_newOne : yX2_newOne.cls = RX2 ∧ yX2_newOne.cls ≠ "java/lang/invoke/MethodHandle" ∧ yX2_newOne.cls ≠ "java/lang/invoke/VarHandle" ∧ (parseMethodDescriptor yX2_newOne.desc).map (fun d => d.parameters.length) = some 4 := by decide +kernel
theorem hcS_X2_newOne : yX2_newOne.cls ≠ "java/lang/invoke/MethodHandle" ∧ yX2_newOne.cls ≠ "java/lang/invoke/VarHandle" ∧ (parseMethodDescriptor yX2_newOne.desc).map (fun d => d.parameters.length) = some 4 := hcV_X2_newOne.2
theorem hcV_X2_becomesOne : yX2_becomesOne.cls = RX2 ∧ yX2_becomesOne.cls ≠ "java/lang/invoke/MethodHandle" ∧ yX2_becomesOne.cls ≠ "java/lang/invoke/VarHandle" ∧ (parseMethodDescriptor yX2_becomesOne.desc).map (fun d => d.parameters.length) = some 6 := by decide +kernel
theorem hcS_X2_becomesOne : yX2_becomesOne.cls ≠ "java/lang/invoke/MethodHandle" ∧ yX2_becomesOne.cls ≠ "java/lang/invoke/VarHandle" ∧ (parseMethodDescriptor yX2_becomesOne.desc).map (fun d => d.parameters.length) = some 6 := hcV_X2_becomesOne.2
theorem hcV_X2_promises : yX2_promises.cls = RX2 ∧ yX2_promises.cls ≠ "java/lang/invoke/MethodHandle" ∧ yX2_promises.cls ≠ "java/lang/invoke/VarHandle" ∧ (parseMethodDescriptor yX2_promises.desc).map (fun d => d.parameters.length) = some 3 := by decide +kernel
theorem hcS_X2_promises : yX2_promises.cls ≠ "java/lang/invoke/MethodHandle" ∧ yX2_promises.cls ≠ "java/lang/invoke/VarHandle" ∧ (parseMethodDescriptor yX2_promises.desc).map (fun d => d.parameters.length) = some 3 := hcV_X2_promises.2
theorem hcV_X2_isShelf : yX2_isShelf.cls = RX2 ∧ yX2_isShelf.cls ≠ "java/lang/invoke/MethodHandle" ∧ yX2_isShelf.cls ≠ "java/lang/invoke/VarHandle" ∧ (parseMethodDescriptor yX2_isShelf.desc).map (fun d => d.parameters.length) = some 1 := by decide +kernel
theorem hcS_X2_isShelf : yX2_isShelf.cls ≠ "java/lang/invoke/MethodHandle" ∧ yX2_isShelf.cls ≠ "java/lang/invoke/VarHandle" ∧ (parseMethodDescriptor yX2_isShelf.desc).map (fun d => d.parameters.length) = some 1 := hcV_X2_isShelf.2
theorem hcV_X2_toldAt : yX2_toldAt.cls = RX2 ∧ yX2_toldAt.cls ≠ "java/lang/invoke/MethodHandle" ∧ yX2_toldAt.cls ≠ "java/lang/invoke/VarHandle" ∧ (parseMethodDescriptor yX2_toldAt.desc).map (fun d => d.parameters.length) = some 2 := by decide +kernel
theorem hcS_X2_toldAt : yX2_toldAt.cls ≠ "java/lang/invoke/MethodHandle" ∧ yX2_toldAt.cls ≠ "java/lang/invoke/VarHandle" ∧ (parseMethodDescriptor yX2_toldAt.desc).map (fun d => d.parameters.length) = some 2 := hcV_X2_toldAt.2
theorem hcV_X2_mend : yX2_mend.cls = RX2 ∧ yX2_mend.cls ≠ "java/lang/invoke/MethodHandle" ∧ yX2_mend.cls ≠ "java/lang/invoke/VarHandle" ∧ (parseMethodDescriptor yX2_mend.desc).map (fun d => d.parameters.length) = some 3 := by decide +kernel
theorem hcS_X2_mend : yX2_mend.cls ≠ "java/lang/invoke/MethodHandle" ∧ yX2_mend.cls ≠ "java/lang/invoke/VarHandle" ∧ (parseMethodDescriptor yX2_mend.desc).map (fun d => d.parameters.length) = some 3 := hcV_X2_mend.2
theorem hcV_X2_isOf : yX2_isOf.cls = RX2 ∧ yX2_isOf.cls ≠ "java/lang/invoke/MethodHandle" ∧ yX2_isOf.cls ≠ "java/lang/invoke/VarHandle" ∧ (parseMethodDescriptor yX2_isOf.desc).map (fun d => d.parameters.length) = some 2 := by decide +kernel
theorem hcS_X2_isOf : yX2_isOf.cls ≠ "java/lang/invoke/MethodHandle" ∧ yX2_isOf.cls ≠ "java/lang/invoke/VarHandle" ∧ (parseMethodDescriptor yX2_isOf.desc).map (fun d => d.parameters.length) = some 2 := hcV_X2_isOf.2
theorem hcV_X2_isOne : yX2_isOne.cls = RX2 ∧ yX2_isOne.cls ≠ "java/lang/invoke/MethodHandle" ∧ yX2_isOne.cls ≠ "java/lang/invoke/VarHandle" ∧ (parseMethodDescriptor yX2_isOne.desc).map (fun d => d.parameters.length) = some 1 := by decide +kernel
theorem hcS_X2_isOne : yX2_isOne.cls ≠ "java/lang/invoke/MethodHandle" ∧ yX2_isOne.cls ≠ "java/lang/invoke/VarHandle" ∧ (parseMethodDescriptor yX2_isOne.desc).map (fun d => d.parameters.length) = some 1 := hcV_X2_isOne.2
theorem hcV_X2_isFit : yX2_isFit.cls = RX2 ∧ yX2_isFit.cls ≠ "java/lang/invoke/MethodHandle" ∧ yX2_isFit.cls ≠ "java/lang/invoke/VarHandle" ∧ (parseMethodDescriptor yX2_isFit.desc).map (fun d => d.parameters.length) = some 2 := by decide +kernel
theorem hcS_X2_isFit : yX2_isFit.cls ≠ "java/lang/invoke/MethodHandle" ∧ yX2_isFit.cls ≠ "java/lang/invoke/VarHandle" ∧ (parseMethodDescriptor yX2_isFit.desc).map (fun d => d.parameters.length) = some 2 := hcV_X2_isFit.2
theorem hcV_X2_get : yX2_get.cls = RX2 ∧ yX2_get.cls ≠ "java/lang/invoke/MethodHandle" ∧ yX2_get.cls ≠ "java/lang/invoke/VarHandle" ∧ (parseMethodDescriptor yX2_get.desc).map (fun d => d.parameters.length) = some 2 := by decide +kernel
theorem hcS_X2_get : yX2_get.cls ≠ "java/lang/invoke/MethodHandle" ∧ yX2_get.cls ≠ "java/lang/invoke/VarHandle" ∧ (parseMethodDescriptor yX2_get.desc).map (fun d => d.parameters.length) = some 2 := hcV_X2_get.2
theorem hcV_X2_becomes : yX2_becomes.cls = RX2 ∧ yX2_becomes.cls ≠ "java/lang/invoke/MethodHandle" ∧ yX2_becomes.cls ≠ "java/lang/invoke/VarHandle" ∧ (parseMethodDescriptor yX2_becomes.desc).map (fun d => d.parameters.length) = some 3 := by decide +kernel
theorem hcS_X2_becomes : yX2_becomes.cls ≠ "java/lang/invoke/MethodHandle" ∧ yX2_becomes.cls ≠ "java/lang/invoke/VarHandle" ∧ (parseMethodDescriptor yX2_becomes.desc).map (fun d => d.parameters.length) = some 3 := hcV_X2_becomes.2
theorem hcV_X2_of : yX2_of.cls = RX2 ∧ yX2_of.cls ≠ "java/lang/invoke/MethodHandle" ∧ yX2_of.cls ≠ "java/lang/invoke/VarHandle" ∧ (parseMethodDescriptor yX2_of.desc).map (fun d => d.parameters.length) = some 2 := by decide +kernel
theorem hcS_X2_of : yX2_of.cls ≠ "java/lang/invoke/MethodHandle" ∧ yX2_of.cls ≠ "java/lang/invoke/VarHandle" ∧ (parseMethodDescriptor yX2_of.desc).map (fun d => d.parameters.length) = some 2 := hcV_X2_of.2
theorem hcV_X2_undo : yX2_undo.cls = RX2 ∧ yX2_undo.cls ≠ "java/lang/invoke/MethodHandle" ∧ yX2_undo.cls ≠ "java/lang/invoke/VarHandle" ∧ (parseMethodDescriptor yX2_undo.desc).map (fun d => d.parameters.length) = some 0 := by decide +kernel
theorem hcS_X2_undo : yX2_undo.cls ≠ "java/lang/invoke/MethodHandle" ∧ yX2_undo.cls ≠ "java/lang/invoke/VarHandle" ∧ (parseMethodDescriptor yX2_undo.desc).map (fun d => d.parameters.length) = some 0 := hcV_X2_undo.2
theorem hcV_X2_redo : yX2_redo.cls = RX2 ∧ yX2_redo.cls ≠ "java/lang/invoke/MethodHandle" ∧ yX2_redo.cls ≠ "java/lang/invoke/VarHandle" ∧ (parseMethodDescriptor yX2_redo.desc).map (fun d => d.parameters.length) = some 0 := by decide +kernel
theorem hcS_X2_redo : yX2_redo.cls ≠ "java/lang/invoke/MethodHandle" ∧ yX2_redo.cls ≠ "java/lang/invoke/VarHandle" ∧ (parseMethodDescriptor yX2_redo.desc).map (fun d => d.parameters.length) = some 0 := hcV_X2_redo.2
theorem hcV_X2_feed : yX2_feed.cls = RX2 ∧ yX2_feed.cls ≠ "java/lang/invoke/MethodHandle" ∧ yX2_feed.cls ≠ "java/lang/invoke/VarHandle" ∧ (parseMethodDescriptor yX2_feed.desc).map (fun d => d.parameters.length) = some 1 := by decide +kernel
theorem hcS_X2_feed : yX2_feed.cls ≠ "java/lang/invoke/MethodHandle" ∧ yX2_feed.cls ≠ "java/lang/invoke/VarHandle" ∧ (parseMethodDescriptor yX2_feed.desc).map (fun d => d.parameters.length) = some 1 := hcV_X2_feed.2
theorem hcV_X2_law : yX2_law.cls = RX2 ∧ yX2_law.cls ≠ "java/lang/invoke/MethodHandle" ∧ yX2_law.cls ≠ "java/lang/invoke/VarHandle" ∧ (parseMethodDescriptor yX2_law.desc).map (fun d => d.parameters.length) = some 0 := by decide +kernel
theorem hcS_X2_law : yX2_law.cls ≠ "java/lang/invoke/MethodHandle" ∧ yX2_law.cls ≠ "java/lang/invoke/VarHandle" ∧ (parseMethodDescriptor yX2_law.desc).map (fun d => d.parameters.length) = some 0 := hcV_X2_law.2
theorem hcV_X2_isLine : yX2_isLine.cls = RX2 ∧ yX2_isLine.cls ≠ "java/lang/invoke/MethodHandle" ∧ yX2_isLine.cls ≠ "java/lang/invoke/VarHandle" ∧ (parseMethodDescriptor yX2_isLine.desc).map (fun d => d.parameters.length) = some 0 := by decide +kernel
theorem hcS_X2_isLine : yX2_isLine.cls ≠ "java/lang/invoke/MethodHandle" ∧ yX2_isLine.cls ≠ "java/lang/invoke/VarHandle" ∧ (parseMethodDescriptor yX2_isLine.desc).map (fun d => d.parameters.length) = some 0 := hcV_X2_isLine.2
theorem hcV_X2_isE : yX2_isE.cls = RX2 ∧ yX2_isE.cls ≠ "java/lang/invoke/MethodHandle" ∧ yX2_isE.cls ≠ "java/lang/invoke/VarHandle" ∧ (parseMethodDescriptor yX2_isE.desc).map (fun d => d.parameters.length) = some 0 := by decide +kernel
theorem hcS_X2_isE : yX2_isE.cls ≠ "java/lang/invoke/MethodHandle" ∧ yX2_isE.cls ≠ "java/lang/invoke/VarHandle" ∧ (parseMethodDescriptor yX2_isE.desc).map (fun d => d.parameters.length) = some 0 := hcV_X2_isE.2
theorem hcV_X2_isA : yX2_isA.cls = RX2 ∧ yX2_isA.cls ≠ "java/lang/invoke/MethodHandle" ∧ yX2_isA.cls ≠ "java/lang/invoke/VarHandle" ∧ (parseMethodDescriptor yX2_isA.desc).map (fun d => d.parameters.length) = some 0 := by decide +kernel
theorem hcS_X2_isA : yX2_isA.cls ≠ "java/lang/invoke/MethodHandle" ∧ yX2_isA.cls ≠ "java/lang/invoke/VarHandle" ∧ (parseMethodDescriptor yX2_isA.desc).map (fun d => d.parameters.length) = some 0 := hcV_X2_isA.2
theorem hcV_X2_isB : yX2_isB.cls = RX2 ∧ yX2_isB.cls ≠ "java/lang/invoke/MethodHandle" ∧ yX2_isB.cls ≠ "java/lang/invoke/VarHandle" ∧ (parseMethodDescriptor yX2_isB.desc).map (fun d => d.parameters.length) = some 0 := by decide +kernel
theorem hcS_X2_isB : yX2_isB.cls ≠ "java/lang/invoke/MethodHandle" ∧ yX2_isB.cls ≠ "java/lang/invoke/VarHandle" ∧ (parseMethodDescriptor yX2_isB.desc).map (fun d => d.parameters.length) = some 0 := hcV_X2_isB.2
theorem hcV_X2_isS : yX2_isS.cls = RX2 ∧ yX2_isS.cls ≠ "java/lang/invoke/MethodHandle" ∧ yX2_isS.cls ≠ "java/lang/invoke/VarHandle" ∧ (parseMethodDescriptor yX2_isS.desc).map (fun d => d.parameters.length) = some 0 := by decide +kernel
theorem hcS_X2_isS : yX2_isS.cls ≠ "java/lang/invoke/MethodHandle" ∧ yX2_isS.cls ≠ "java/lang/invoke/VarHandle" ∧ (parseMethodDescriptor yX2_isS.desc).map (fun d => d.parameters.length) = some 0 := hcV_X2_isS.2
theorem hcV_X2_isP : yX2_isP.cls = RX2 ∧ yX2_isP.cls ≠ "java/lang/invoke/MethodHandle" ∧ yX2_isP.cls ≠ "java/lang/invoke/VarHandle" ∧ (parseMethodDescriptor yX2_isP.desc).map (fun d => d.parameters.length) = some 0 := by decide +kernel
theorem hcS_X2_isP : yX2_isP.cls ≠ "java/lang/invoke/MethodHandle" ∧ yX2_isP.cls ≠ "java/lang/invoke/VarHandle" ∧ (parseMethodDescriptor yX2_isP.desc).map (fun d => d.parameters.length) = some 0 := hcV_X2_isP.2
theorem hcV_X2_isO : yX2_isO.cls = RX2 ∧ yX2_isO.cls ≠ "java/lang/invoke/MethodHandle" ∧ yX2_isO.cls ≠ "java/lang/invoke/VarHandle" ∧ (parseMethodDescriptor yX2_isO.desc).map (fun d => d.parameters.length) = some 0 := by decide +kernel
theorem hcS_X2_isO : yX2_isO.cls ≠ "java/lang/invoke/MethodHandle" ∧ yX2_isO.cls ≠ "java/lang/invoke/VarHandle" ∧ (parseMethodDescriptor yX2_isO.desc).map (fun d => d.parameters.length) = some 0 := hcV_X2_isO.2
theorem hcV_X2_isDigit : yX2_isDigit.cls = RX2 ∧ yX2_isDigit.cls ≠ "java/lang/invoke/MethodHandle" ∧ yX2_isDigit.cls ≠ "java/lang/invoke/VarHandle" ∧ (parseMethodDescriptor yX2_isDigit.desc).map (fun d => d.parameters.length) = some 0 := by decide +kernel
theorem hcS_X2_isDigit : yX2_isDigit.cls ≠ "java/lang/invoke/MethodHandle" ∧ yX2_isDigit.cls ≠ "java/lang/invoke/VarHandle" ∧ (parseMethodDescriptor yX2_isDigit.desc).map (fun d => d.parameters.length) = some 0 := hcV_X2_isDigit.2
theorem hcV_X2_sign : yX2_sign.cls = RX2 ∧ yX2_sign.cls ≠ "java/lang/invoke/MethodHandle" ∧ yX2_sign.cls ≠ "java/lang/invoke/VarHandle" ∧ (parseMethodDescriptor yX2_sign.desc).map (fun d => d.parameters.length) = some 0 := by decide +kernel
theorem hcS_X2_sign : yX2_sign.cls ≠ "java/lang/invoke/MethodHandle" ∧ yX2_sign.cls ≠ "java/lang/invoke/VarHandle" ∧ (parseMethodDescriptor yX2_sign.desc).map (fun d => d.parameters.length) = some 0 := hcV_X2_sign.2
theorem hcV_X2_codes : yX2_codes.cls = RX2 ∧ yX2_codes.cls ≠ "java/lang/invoke/MethodHandle" ∧ yX2_codes.cls ≠ "java/lang/invoke/VarHandle" ∧ (parseMethodDescriptor yX2_codes.desc).map (fun d => d.parameters.length) = some 1 := by decide +kernel
theorem hcS_X2_codes : yX2_codes.cls ≠ "java/lang/invoke/MethodHandle" ∧ yX2_codes.cls ≠ "java/lang/invoke/VarHandle" ∧ (parseMethodDescriptor yX2_codes.desc).map (fun d => d.parameters.length) = some 1 := hcV_X2_codes.2
theorem hcV_X2_nameOf : yX2_nameOf.cls = RX2 ∧ yX2_nameOf.cls ≠ "java/lang/invoke/MethodHandle" ∧ yX2_nameOf.cls ≠ "java/lang/invoke/VarHandle" ∧ (parseMethodDescriptor yX2_nameOf.desc).map (fun d => d.parameters.length) = some 1 := by decide +kernel
theorem hcS_X2_nameOf : yX2_nameOf.cls ≠ "java/lang/invoke/MethodHandle" ∧ yX2_nameOf.cls ≠ "java/lang/invoke/VarHandle" ∧ (parseMethodDescriptor yX2_nameOf.desc).map (fun d => d.parameters.length) = some 1 := hcV_X2_nameOf.2
theorem hcV_X2_is : yX2_is.cls = RX2 ∧ yX2_is.cls ≠ "java/lang/invoke/MethodHandle" ∧ yX2_is.cls ≠ "java/lang/invoke/VarHandle" ∧ (parseMethodDescriptor yX2_is.desc).map (fun d => d.parameters.length) = some 1 := by decide +kernel
theorem hcS_X2_is : yX2_is.cls ≠ "java/lang/invoke/MethodHandle" ∧ yX2_is.cls ≠ "java/lang/invoke/VarHandle" ∧ (parseMethodDescriptor yX2_is.desc).map (fun d => d.parameters.length) = some 1 := hcV_X2_is.2
theorem hcV_X2_storeys : yX2_storeys.cls = RX2 ∧ yX2_storeys.cls ≠ "java/lang/invoke/MethodHandle" ∧ yX2_storeys.cls ≠ "java/lang/invoke/VarHandle" ∧ (parseMethodDescriptor yX2_storeys.desc).map (fun d => d.parameters.length) = some 1 := by decide +kernel
theorem hcS_X2_storeys : yX2_storeys.cls ≠ "java/lang/invoke/MethodHandle" ∧ yX2_storeys.cls ≠ "java/lang/invoke/VarHandle" ∧ (parseMethodDescriptor yX2_storeys.desc).map (fun d => d.parameters.length) = some 1 := hcV_X2_storeys.2
theorem hcV_X2_storeysOf : yX2_storeysOf.cls = RX2 ∧ yX2_storeysOf.cls ≠ "java/lang/invoke/MethodHandle" ∧ yX2_storeysOf.cls ≠ "java/lang/invoke/VarHandle" ∧ (parseMethodDescriptor yX2_storeysOf.desc).map (fun d => d.parameters.length) = some 1 := by decide +kernel
theorem hcS_X2_storeysOf : yX2_storeysOf.cls ≠ "java/lang/invoke/MethodHandle" ∧ yX2_storeysOf.cls ≠ "java/lang/invoke/VarHandle" ∧ (parseMethodDescriptor yX2_storeysOf.desc).map (fun d => d.parameters.length) = some 1 := hcV_X2_storeysOf.2
theorem hcV_X2_isOpen : yX2_isOpen.cls = RX2 ∧ yX2_isOpen.cls ≠ "java/lang/invoke/MethodHandle" ∧ yX2_isOpen.cls ≠ "java/lang/invoke/VarHandle" ∧ (parseMethodDescriptor yX2_isOpen.desc).map (fun d => d.parameters.length) = some 1 := by decide +kernel
theorem hcS_X2_isOpen : yX2_isOpen.cls ≠ "java/lang/invoke/MethodHandle" ∧ yX2_isOpen.cls ≠ "java/lang/invoke/VarHandle" ∧ (parseMethodDescriptor yX2_isOpen.desc).map (fun d => d.parameters.length) = some 1 := hcV_X2_isOpen.2
theorem hcV_X2_byLaw : yX2_byLaw.cls = RX2 ∧ yX2_byLaw.cls ≠ "java/lang/invoke/MethodHandle" ∧ yX2_byLaw.cls ≠ "java/lang/invoke/VarHandle" ∧ (parseMethodDescriptor yX2_byLaw.desc).map (fun d => d.parameters.length) = some 1 := by decide +kernel
theorem hcS_X2_byLaw : yX2_byLaw.cls ≠ "java/lang/invoke/MethodHandle" ∧ yX2_byLaw.cls ≠ "java/lang/invoke/VarHandle" ∧ (parseMethodDescriptor yX2_byLaw.desc).map (fun d => d.parameters.length) = some 1 := hcV_X2_byLaw.2
theorem hcV_X2_isHis : yX2_isHis.cls = RX2 ∧ yX2_isHis.cls ≠ "java/lang/invoke/MethodHandle" ∧ yX2_isHis.cls ≠ "java/lang/invoke/VarHandle" ∧ (parseMethodDescriptor yX2_isHis.desc).map (fun d => d.parameters.length) = some 2 := by decide +kernel
theorem hcS_X2_isHis : yX2_isHis.cls ≠ "java/lang/invoke/MethodHandle" ∧ yX2_isHis.cls ≠ "java/lang/invoke/VarHandle" ∧ (parseMethodDescriptor yX2_isHis.desc).map (fun d => d.parameters.length) = some 2 := hcV_X2_isHis.2
theorem hcV_X2_worked : yX2_worked.cls = RX2 ∧ yX2_worked.cls ≠ "java/lang/invoke/MethodHandle" ∧ yX2_worked.cls ≠ "java/lang/invoke/VarHandle" ∧ (parseMethodDescriptor yX2_worked.desc).map (fun d => d.parameters.length) = some 2 := by decide +kernel
theorem hcS_X2_worked : yX2_worked.cls ≠ "java/lang/invoke/MethodHandle" ∧ yX2_worked.cls ≠ "java/lang/invoke/VarHandle" ∧ (parseMethodDescriptor yX2_worked.desc).map (fun d => d.parameters.length) = some 2 := hcV_X2_worked.2
theorem hcV_X2_both : yX2_both.cls = RX2 ∧ yX2_both.cls ≠ "java/lang/invoke/MethodHandle" ∧ yX2_both.cls ≠ "java/lang/invoke/VarHandle" ∧ (parseMethodDescriptor yX2_both.desc).map (fun d => d.parameters.length) = some 3 := by decide +kernel
theorem hcS_X2_both : yX2_both.cls ≠ "java/lang/invoke/MethodHandle" ∧ yX2_both.cls ≠ "java/lang/invoke/VarHandle" ∧ (parseMethodDescriptor yX2_both.desc).map (fun d => d.parameters.length) = some 3 := hcV_X2_both.2
theorem hcV_X2_high : yX2_high.cls = RX2 ∧ yX2_high.cls ≠ "java/lang/invoke/MethodHandle" ∧ yX2_high.cls ≠ "java/lang/invoke/VarHandle" ∧ (parseMethodDescriptor yX2_high.desc).map (fun d => d.parameters.length) = some 2 := by decide +kernel
theorem hcS_X2_high : yX2_high.cls ≠ "java/lang/invoke/MethodHandle" ∧ yX2_high.cls ≠ "java/lang/invoke/VarHandle" ∧ (parseMethodDescriptor yX2_high.desc).map (fun d => d.parameters.length) = some 2 := hcV_X2_high.2
theorem hcV_X2_ahead : yX2_ahead.cls = RX2 ∧ yX2_ahead.cls ≠ "java/lang/invoke/MethodHandle" ∧ yX2_ahead.cls ≠ "java/lang/invoke/VarHandle" ∧ (parseMethodDescriptor yX2_ahead.desc).map (fun d => d.parameters.length) = some 1 := by decide +kernel
theorem hcS_X2_ahead : yX2_ahead.cls ≠ "java/lang/invoke/MethodHandle" ∧ yX2_ahead.cls ≠ "java/lang/invoke/VarHandle" ∧ (parseMethodDescriptor yX2_ahead.desc).map (fun d => d.parameters.length) = some 1 := hcV_X2_ahead.2
theorem hcV_X2_allHigh : yX2_allHigh.cls = RX2 ∧ yX2_allHigh.cls ≠ "java/lang/invoke/MethodHandle" ∧ yX2_allHigh.cls ≠ "java/lang/invoke/VarHandle" ∧ (parseMethodDescriptor yX2_allHigh.desc).map (fun d => d.parameters.length) = some 0 := by decide +kernel
theorem hcS_X2_allHigh : yX2_allHigh.cls ≠ "java/lang/invoke/MethodHandle" ∧ yX2_allHigh.cls ≠ "java/lang/invoke/VarHandle" ∧ (parseMethodDescriptor yX2_allHigh.desc).map (fun d => d.parameters.length) = some 0 := hcV_X2_allHigh.2
theorem hcV_X2_highOf : yX2_highOf.cls = RX2 ∧ yX2_highOf.cls ≠ "java/lang/invoke/MethodHandle" ∧ yX2_highOf.cls ≠ "java/lang/invoke/VarHandle" ∧ (parseMethodDescriptor yX2_highOf.desc).map (fun d => d.parameters.length) = some 1 := by decide +kernel
theorem hcS_X2_highOf : yX2_highOf.cls ≠ "java/lang/invoke/MethodHandle" ∧ yX2_highOf.cls ≠ "java/lang/invoke/VarHandle" ∧ (parseMethodDescriptor yX2_highOf.desc).map (fun d => d.parameters.length) = some 1 := hcV_X2_highOf.2
theorem hcV_X2_roofOf : yX2_roofOf.cls = RX2 ∧ yX2_roofOf.cls ≠ "java/lang/invoke/MethodHandle" ∧ yX2_roofOf.cls ≠ "java/lang/invoke/VarHandle" ∧ (parseMethodDescriptor yX2_roofOf.desc).map (fun d => d.parameters.length) = some 1 := by decide +kernel
theorem hcS_X2_roofOf : yX2_roofOf.cls ≠ "java/lang/invoke/MethodHandle" ∧ yX2_roofOf.cls ≠ "java/lang/invoke/VarHandle" ∧ (parseMethodDescriptor yX2_roofOf.desc).map (fun d => d.parameters.length) = some 1 := hcV_X2_roofOf.2
theorem hcV_X2_opens : yX2_opens.cls = RX2 ∧ yX2_opens.cls ≠ "java/lang/invoke/MethodHandle" ∧ yX2_opens.cls ≠ "java/lang/invoke/VarHandle" ∧ (parseMethodDescriptor yX2_opens.desc).map (fun d => d.parameters.length) = some 1 := by decide +kernel
theorem hcS_X2_opens : yX2_opens.cls ≠ "java/lang/invoke/MethodHandle" ∧ yX2_opens.cls ≠ "java/lang/invoke/VarHandle" ∧ (parseMethodDescriptor yX2_opens.desc).map (fun d => d.parameters.length) = some 1 := hcV_X2_opens.2
theorem hcV_X2_roof : yX2_roof.cls = RX2 ∧ yX2_roof.cls ≠ "java/lang/invoke/MethodHandle" ∧ yX2_roof.cls ≠ "java/lang/invoke/VarHandle" ∧ (parseMethodDescriptor yX2_roof.desc).map (fun d => d.parameters.length) = some 1 := by decide +kernel
theorem hcS_X2_roof : yX2_roof.cls ≠ "java/lang/invoke/MethodHandle" ∧ yX2_roof.cls ≠ "java/lang/invoke/VarHandle" ∧ (parseMethodDescriptor yX2_roof.desc).map (fun d => d.parameters.length) = some 1 := hcV_X2_roof.2
theorem hcV_X2_falls : yX2_falls.cls = RX2 ∧ yX2_falls.cls ≠ "java/lang/invoke/MethodHandle" ∧ yX2_falls.cls ≠ "java/lang/invoke/VarHandle" ∧ (parseMethodDescriptor yX2_falls.desc).map (fun d => d.parameters.length) = some 2 := by decide +kernel
theorem hcS_X2_falls : yX2_falls.cls ≠ "java/lang/invoke/MethodHandle" ∧ yX2_falls.cls ≠ "java/lang/invoke/VarHandle" ∧ (parseMethodDescriptor yX2_falls.desc).map (fun d => d.parameters.length) = some 2 := hcV_X2_falls.2
theorem hcV_X2_skyline : yX2_skyline.cls = RX2 ∧ yX2_skyline.cls ≠ "java/lang/invoke/MethodHandle" ∧ yX2_skyline.cls ≠ "java/lang/invoke/VarHandle" ∧ (parseMethodDescriptor yX2_skyline.desc).map (fun d => d.parameters.length) = some 1 := by decide +kernel
theorem hcS_X2_skyline : yX2_skyline.cls ≠ "java/lang/invoke/MethodHandle" ∧ yX2_skyline.cls ≠ "java/lang/invoke/VarHandle" ∧ (parseMethodDescriptor yX2_skyline.desc).map (fun d => d.parameters.length) = some 1 := hcV_X2_skyline.2
theorem hcV_X2_view : yX2_view.cls = RX2 ∧ yX2_view.cls ≠ "java/lang/invoke/MethodHandle" ∧ yX2_view.cls ≠ "java/lang/invoke/VarHandle" ∧ (parseMethodDescriptor yX2_view.desc).map (fun d => d.parameters.length) = some 2 := by decide +kernel
theorem hcS_X2_view : yX2_view.cls ≠ "java/lang/invoke/MethodHandle" ∧ yX2_view.cls ≠ "java/lang/invoke/VarHandle" ∧ (parseMethodDescriptor yX2_view.desc).map (fun d => d.parameters.length) = some 2 := hcV_X2_view.2
theorem hcV_X2_what : yX2_what.cls = RX2 ∧ yX2_what.cls ≠ "java/lang/invoke/MethodHandle" ∧ yX2_what.cls ≠ "java/lang/invoke/VarHandle" ∧ (parseMethodDescriptor yX2_what.desc).map (fun d => d.parameters.length) = some 3 := by decide +kernel
theorem hcS_X2_what : yX2_what.cls ≠ "java/lang/invoke/MethodHandle" ∧ yX2_what.cls ≠ "java/lang/invoke/VarHandle" ∧ (parseMethodDescriptor yX2_what.desc).map (fun d => d.parameters.length) = some 3 := hcV_X2_what.2
theorem hcV_X2_stands : yX2_stands.cls = RX2 ∧ yX2_stands.cls ≠ "java/lang/invoke/MethodHandle" ∧ yX2_stands.cls ≠ "java/lang/invoke/VarHandle" ∧ (parseMethodDescriptor yX2_stands.desc).map (fun d => d.parameters.length) = some 2 := by decide +kernel
theorem hcS_X2_stands : yX2_stands.cls ≠ "java/lang/invoke/MethodHandle" ∧ yX2_stands.cls ≠ "java/lang/invoke/VarHandle" ∧ (parseMethodDescriptor yX2_stands.desc).map (fun d => d.parameters.length) = some 2 := hcV_X2_stands.2
theorem hcV_X2_lower : yX2_lower.cls = RX2 ∧ yX2_lower.cls ≠ "java/lang/invoke/MethodHandle" ∧ yX2_lower.cls ≠ "java/lang/invoke/VarHandle" ∧ (parseMethodDescriptor yX2_lower.desc).map (fun d => d.parameters.length) = some 3 := by decide +kernel
theorem hcS_X2_lower : yX2_lower.cls ≠ "java/lang/invoke/MethodHandle" ∧ yX2_lower.cls ≠ "java/lang/invoke/VarHandle" ∧ (parseMethodDescriptor yX2_lower.desc).map (fun d => d.parameters.length) = some 3 := hcV_X2_lower.2
theorem hcV_X2_highWithout : yX2_highWithout.cls = RX2 ∧ yX2_highWithout.cls ≠ "java/lang/invoke/MethodHandle" ∧ yX2_highWithout.cls ≠ "java/lang/invoke/VarHandle" ∧ (parseMethodDescriptor yX2_highWithout.desc).map (fun d => d.parameters.length) = some 2 := by decide +kernel
theorem hcS_X2_highWithout : yX2_highWithout.cls ≠ "java/lang/invoke/MethodHandle" ∧ yX2_highWithout.cls ≠ "java/lang/invoke/VarHandle" ∧ (parseMethodDescriptor yX2_highWithout.desc).map (fun d => d.parameters.length) = some 2 := hcV_X2_highWithout.2
theorem hcV_X2_worthOf : yX2_worthOf.cls = RX2 ∧ yX2_worthOf.cls ≠ "java/lang/invoke/MethodHandle" ∧ yX2_worthOf.cls ≠ "java/lang/invoke/VarHandle" ∧ (parseMethodDescriptor yX2_worthOf.desc).map (fun d => d.parameters.length) = some 1 := by decide +kernel
theorem hcS_X2_worthOf : yX2_worthOf.cls ≠ "java/lang/invoke/MethodHandle" ∧ yX2_worthOf.cls ≠ "java/lang/invoke/VarHandle" ∧ (parseMethodDescriptor yX2_worthOf.desc).map (fun d => d.parameters.length) = some 1 := hcV_X2_worthOf.2
theorem hcV_X2_holds : yX2_holds.cls = RX2 ∧ yX2_holds.cls ≠ "java/lang/invoke/MethodHandle" ∧ yX2_holds.cls ≠ "java/lang/invoke/VarHandle" ∧ (parseMethodDescriptor yX2_holds.desc).map (fun d => d.parameters.length) = some 2 := by decide +kernel
theorem hcS_X2_holds : yX2_holds.cls ≠ "java/lang/invoke/MethodHandle" ∧ yX2_holds.cls ≠ "java/lang/invoke/VarHandle" ∧ (parseMethodDescriptor yX2_holds.desc).map (fun d => d.parameters.length) = some 2 := hcV_X2_holds.2
theorem hcV_X2_holder : yX2_holder.cls = RX2 ∧ yX2_holder.cls ≠ "java/lang/invoke/MethodHandle" ∧ yX2_holder.cls ≠ "java/lang/invoke/VarHandle" ∧ (parseMethodDescriptor yX2_holder.desc).map (fun d => d.parameters.length) = some 1 := by decide +kernel
theorem hcS_X2_holder : yX2_holder.cls ≠ "java/lang/invoke/MethodHandle" ∧ yX2_holder.cls ≠ "java/lang/invoke/VarHandle" ∧ (parseMethodDescriptor yX2_holder.desc).map (fun d => d.parameters.length) = some 1 := hcV_X2_holder.2
theorem hcV_X2_ringOf : yX2_ringOf.cls = RX2 ∧ yX2_ringOf.cls ≠ "java/lang/invoke/MethodHandle" ∧ yX2_ringOf.cls ≠ "java/lang/invoke/VarHandle" ∧ (parseMethodDescriptor yX2_ringOf.desc).map (fun d => d.parameters.length) = some 1 := by decide +kernel
theorem hcS_X2_ringOf : yX2_ringOf.cls ≠ "java/lang/invoke/MethodHandle" ∧ yX2_ringOf.cls ≠ "java/lang/invoke/VarHandle" ∧ (parseMethodDescriptor yX2_ringOf.desc).map (fun d => d.parameters.length) = some 1 := hcV_X2_ringOf.2
theorem hcV_X2_endOf : yX2_endOf.cls = RX2 ∧ yX2_endOf.cls ≠ "java/lang/invoke/MethodHandle" ∧ yX2_endOf.cls ≠ "java/lang/invoke/VarHandle" ∧ (parseMethodDescriptor yX2_endOf.desc).map (fun d => d.parameters.length) = some 1 := by decide +kernel
theorem hcS_X2_endOf : yX2_endOf.cls ≠ "java/lang/invoke/MethodHandle" ∧ yX2_endOf.cls ≠ "java/lang/invoke/VarHandle" ∧ (parseMethodDescriptor yX2_endOf.desc).map (fun d => d.parameters.length) = some 1 := hcV_X2_endOf.2
theorem hcV_X2_owed : yX2_owed.cls = RX2 ∧ yX2_owed.cls ≠ "java/lang/invoke/MethodHandle" ∧ yX2_owed.cls ≠ "java/lang/invoke/VarHandle" ∧ (parseMethodDescriptor yX2_owed.desc).map (fun d => d.parameters.length) = some 1 := by decide +kernel
theorem hcS_X2_owed : yX2_owed.cls ≠ "java/lang/invoke/MethodHandle" ∧ yX2_owed.cls ≠ "java/lang/invoke/VarHandle" ∧ (parseMethodDescriptor yX2_owed.desc).map (fun d => d.parameters.length) = some 1 := hcV_X2_owed.2
theorem hcV_X2_judge : yX2_judge.cls = RX2 ∧ yX2_judge.cls ≠ "java/lang/invoke/MethodHandle" ∧ yX2_judge.cls ≠ "java/lang/invoke/VarHandle" ∧ (parseMethodDescriptor yX2_judge.desc).map (fun d => d.parameters.length) = some 2 := by decide +kernel
theorem hcS_X2_judge : yX2_judge.cls ≠ "java/lang/invoke/MethodHandle" ∧ yX2_judge.cls ≠ "java/lang/invoke/VarHandle" ∧ (parseMethodDescriptor yX2_judge.desc).map (fun d => d.parameters.length) = some 2 := hcV_X2_judge.2
theorem hcV_X2_noBytes : yX2_noBytes.cls = RX2 ∧ yX2_noBytes.cls ≠ "java/lang/invoke/MethodHandle" ∧ yX2_noBytes.cls ≠ "java/lang/invoke/VarHandle" ∧ (parseMethodDescriptor yX2_noBytes.desc).map (fun d => d.parameters.length) = some 1 := by decide +kernel
theorem hcS_X2_noBytes : yX2_noBytes.cls ≠ "java/lang/invoke/MethodHandle" ∧ yX2_noBytes.cls ≠ "java/lang/invoke/VarHandle" ∧ (parseMethodDescriptor yX2_noBytes.desc).map (fun d => d.parameters.length) = some 1 := hcV_X2_noBytes.2
theorem hcV_X2_unlike : yX2_unlike.cls = RX2 ∧ yX2_unlike.cls ≠ "java/lang/invoke/MethodHandle" ∧ yX2_unlike.cls ≠ "java/lang/invoke/VarHandle" ∧ (parseMethodDescriptor yX2_unlike.desc).map (fun d => d.parameters.length) = some 2 := by decide +kernel
theorem hcS_X2_unlike : yX2_unlike.cls ≠ "java/lang/invoke/MethodHandle" ∧ yX2_unlike.cls ≠ "java/lang/invoke/VarHandle" ∧ (parseMethodDescriptor yX2_unlike.desc).map (fun d => d.parameters.length) = some 2 := hcV_X2_unlike.2
theorem hcV_X2_fits : yX2_fits.cls = RX2 ∧ yX2_fits.cls ≠ "java/lang/invoke/MethodHandle" ∧ yX2_fits.cls ≠ "java/lang/invoke/VarHandle" ∧ (parseMethodDescriptor yX2_fits.desc).map (fun d => d.parameters.length) = some 4 := by decide +kernel
theorem hcS_X2_fits : yX2_fits.cls ≠ "java/lang/invoke/MethodHandle" ∧ yX2_fits.cls ≠ "java/lang/invoke/VarHandle" ∧ (parseMethodDescriptor yX2_fits.desc).map (fun d => d.parameters.length) = some 4 := hcV_X2_fits.2
theorem hcV_X2_share : yX2_share.cls = RX2 ∧ yX2_share.cls ≠ "java/lang/invoke/MethodHandle" ∧ yX2_share.cls ≠ "java/lang/invoke/VarHandle" ∧ (parseMethodDescriptor yX2_share.desc).map (fun d => d.parameters.length) = some 2 := by decide +kernel
theorem hcS_X2_share : yX2_share.cls ≠ "java/lang/invoke/MethodHandle" ∧ yX2_share.cls ≠ "java/lang/invoke/VarHandle" ∧ (parseMethodDescriptor yX2_share.desc).map (fun d => d.parameters.length) = some 2 := hcV_X2_share.2
theorem hcV_X2_byTurns : yX2_byTurns.cls = RX2 ∧ yX2_byTurns.cls ≠ "java/lang/invoke/MethodHandle" ∧ yX2_byTurns.cls ≠ "java/lang/invoke/VarHandle" ∧ (parseMethodDescriptor yX2_byTurns.desc).map (fun d => d.parameters.length) = some 3 := by decide +kernel
theorem hcS_X2_byTurns : yX2_byTurns.cls ≠ "java/lang/invoke/MethodHandle" ∧ yX2_byTurns.cls ≠ "java/lang/invoke/VarHandle" ∧ (parseMethodDescriptor yX2_byTurns.desc).map (fun d => d.parameters.length) = some 3 := hcV_X2_byTurns.2
theorem hcV_X2_turnFrom : yX2_turnFrom.cls = RX2 ∧ yX2_turnFrom.cls ≠ "java/lang/invoke/MethodHandle" ∧ yX2_turnFrom.cls ≠ "java/lang/invoke/VarHandle" ∧ (parseMethodDescriptor yX2_turnFrom.desc).map (fun d => d.parameters.length) = some 3 := by decide +kernel
theorem hcS_X2_turnFrom : yX2_turnFrom.cls ≠ "java/lang/invoke/MethodHandle" ∧ yX2_turnFrom.cls ≠ "java/lang/invoke/VarHandle" ∧ (parseMethodDescriptor yX2_turnFrom.desc).map (fun d => d.parameters.length) = some 3 := hcV_X2_turnFrom.2
theorem hcV_X2_mayDo : yX2_mayDo.cls = RX2 ∧ yX2_mayDo.cls ≠ "java/lang/invoke/MethodHandle" ∧ yX2_mayDo.cls ≠ "java/lang/invoke/VarHandle" ∧ (parseMethodDescriptor yX2_mayDo.desc).map (fun d => d.parameters.length) = some 2 := by decide +kernel
theorem hcS_X2_mayDo : yX2_mayDo.cls ≠ "java/lang/invoke/MethodHandle" ∧ yX2_mayDo.cls ≠ "java/lang/invoke/VarHandle" ∧ (parseMethodDescriptor yX2_mayDo.desc).map (fun d => d.parameters.length) = some 2 := hcV_X2_mayDo.2
theorem hcV_X2_drawn : yX2_drawn.cls = RX2 ∧ yX2_drawn.cls ≠ "java/lang/invoke/MethodHandle" ∧ yX2_drawn.cls ≠ "java/lang/invoke/VarHandle" ∧ (parseMethodDescriptor yX2_drawn.desc).map (fun d => d.parameters.length) = some 3 := by decide +kernel
theorem hcS_X2_drawn : yX2_drawn.cls ≠ "java/lang/invoke/MethodHandle" ∧ yX2_drawn.cls ≠ "java/lang/invoke/VarHandle" ∧ (parseMethodDescriptor yX2_drawn.desc).map (fun d => d.parameters.length) = some 3 := hcV_X2_drawn.2
theorem hcV_X2_does : yX2_does.cls = RX2 ∧ yX2_does.cls ≠ "java/lang/invoke/MethodHandle" ∧ yX2_does.cls ≠ "java/lang/invoke/VarHandle" ∧ (parseMethodDescriptor yX2_does.desc).map (fun d => d.parameters.length) = some 2 := by decide +kernel
theorem hcS_X2_does : yX2_does.cls ≠ "java/lang/invoke/MethodHandle" ∧ yX2_does.cls ≠ "java/lang/invoke/VarHandle" ∧ (parseMethodDescriptor yX2_does.desc).map (fun d => d.parameters.length) = some 2 := hcV_X2_does.2
theorem hcV_X2_release : yX2_release.cls = RX2 ∧ yX2_release.cls ≠ "java/lang/invoke/MethodHandle" ∧ yX2_release.cls ≠ "java/lang/invoke/VarHandle" ∧ (parseMethodDescriptor yX2_release.desc).map (fun d => d.parameters.length) = some 1 := by decide +kernel
theorem hcS_X2_release : yX2_release.cls ≠ "java/lang/invoke/MethodHandle" ∧ yX2_release.cls ≠ "java/lang/invoke/VarHandle" ∧ (parseMethodDescriptor yX2_release.desc).map (fun d => d.parameters.length) = some 1 := hcV_X2_release.2
theorem hcV_X2_days : yX2_days.cls = RX2 ∧ yX2_days.cls ≠ "java/lang/invoke/MethodHandle" ∧ yX2_days.cls ≠ "java/lang/invoke/VarHandle" ∧ (parseMethodDescriptor yX2_days.desc).map (fun d => d.parameters.length) = some 1 := by decide +kernel
theorem hcS_X2_days : yX2_days.cls ≠ "java/lang/invoke/MethodHandle" ∧ yX2_days.cls ≠ "java/lang/invoke/VarHandle" ∧ (parseMethodDescriptor yX2_days.desc).map (fun d => d.parameters.length) = some 1 := hcV_X2_days.2
theorem hcV_X2_led : yX2_led.cls = RX2 ∧ yX2_led.cls ≠ "java/lang/invoke/MethodHandle" ∧ yX2_led.cls ≠ "java/lang/invoke/VarHandle" ∧ (parseMethodDescriptor yX2_led.desc).map (fun d => d.parameters.length) = some 1 := by decide +kernel
theorem hcS_X2_led : yX2_led.cls ≠ "java/lang/invoke/MethodHandle" ∧ yX2_led.cls ≠ "java/lang/invoke/VarHandle" ∧ (parseMethodDescriptor yX2_led.desc).map (fun d => d.parameters.length) = some 1 := hcV_X2_led.2
theorem hcV_X2_image : yX2_image.cls = RX2 ∧ yX2_image.cls ≠ "java/lang/invoke/MethodHandle" ∧ yX2_image.cls ≠ "java/lang/invoke/VarHandle" ∧ (parseMethodDescriptor yX2_image.desc).map (fun d => d.parameters.length) = some 0 := by decide +kernel
theorem hcS_X2_image : yX2_image.cls ≠ "java/lang/invoke/MethodHandle" ∧ yX2_image.cls ≠ "java/lang/invoke/VarHandle" ∧ (parseMethodDescriptor yX2_image.desc).map (fun d => d.parameters.length) = some 0 := hcV_X2_image.2
theorem hcV_X2_back : yX2_back.cls = RX2 ∧ yX2_back.cls ≠ "java/lang/invoke/MethodHandle" ∧ yX2_back.cls ≠ "java/lang/invoke/VarHandle" ∧ (parseMethodDescriptor yX2_back.desc).map (fun d => d.parameters.length) = some 0 := by decide +kernel
theorem hcS_X2_back : yX2_back.cls ≠ "java/lang/invoke/MethodHandle" ∧ yX2_back.cls ≠ "java/lang/invoke/VarHandle" ∧ (parseMethodDescriptor yX2_back.desc).map (fun d => d.parameters.length) = some 0 := hcV_X2_back.2
theorem hcV_X2_body : yX2_body.cls = RX2 ∧ yX2_body.cls ≠ "java/lang/invoke/MethodHandle" ∧ yX2_body.cls ≠ "java/lang/invoke/VarHandle" ∧ (parseMethodDescriptor yX2_body.desc).map (fun d => d.parameters.length) = some 1 := by decide +kernel
theorem hcS_X2_body : yX2_body.cls ≠ "java/lang/invoke/MethodHandle" ∧ yX2_body.cls ≠ "java/lang/invoke/VarHandle" ∧ (parseMethodDescriptor yX2_body.desc).map (fun d => d.parameters.length) = some 1 := hcV_X2_body.2
theorem hcV_X2_act : yX2_act.cls = RX2 ∧ yX2_act.cls ≠ "java/lang/invoke/MethodHandle" ∧ yX2_act.cls ≠ "java/lang/invoke/VarHandle" ∧ (parseMethodDescriptor yX2_act.desc).map (fun d => d.parameters.length) = some 3 := by decide +kernel
theorem hcS_X2_act : yX2_act.cls ≠ "java/lang/invoke/MethodHandle" ∧ yX2_act.cls ≠ "java/lang/invoke/VarHandle" ∧ (parseMethodDescriptor yX2_act.desc).map (fun d => d.parameters.length) = some 3 := hcV_X2_act.2
theorem hcV_X2_swearsBy : yX2_swearsBy.cls = RX2 ∧ yX2_swearsBy.cls ≠ "java/lang/invoke/MethodHandle" ∧ yX2_swearsBy.cls ≠ "java/lang/invoke/VarHandle" ∧ (parseMethodDescriptor yX2_swearsBy.desc).map (fun d => d.parameters.length) = some 3 := by decide +kernel
theorem hcS_X2_swearsBy : yX2_swearsBy.cls ≠ "java/lang/invoke/MethodHandle" ∧ yX2_swearsBy.cls ≠ "java/lang/invoke/VarHandle" ∧ (parseMethodDescriptor yX2_swearsBy.desc).map (fun d => d.parameters.length) = some 3 := hcV_X2_swearsBy.2
theorem hcV_X2_ran : yX2_ran.cls = RX2 ∧ yX2_ran.cls ≠ "java/lang/invoke/MethodHandle" ∧ yX2_ran.cls ≠ "java/lang/invoke/VarHandle" ∧ (parseMethodDescriptor yX2_ran.desc).map (fun d => d.parameters.length) = some 1 := by decide +kernel
theorem hcS_X2_ran : yX2_ran.cls ≠ "java/lang/invoke/MethodHandle" ∧ yX2_ran.cls ≠ "java/lang/invoke/VarHandle" ∧ (parseMethodDescriptor yX2_ran.desc).map (fun d => d.parameters.length) = some 1 := hcV_X2_ran.2
theorem hcV_X2_above : yX2_above.cls = RX2 ∧ yX2_above.cls ≠ "java/lang/invoke/MethodHandle" ∧ yX2_above.cls ≠ "java/lang/invoke/VarHandle" ∧ (parseMethodDescriptor yX2_above.desc).map (fun d => d.parameters.length) = some 1 := by decide +kernel
theorem hcS_X2_above : yX2_above.cls ≠ "java/lang/invoke/MethodHandle" ∧ yX2_above.cls ≠ "java/lang/invoke/VarHandle" ∧ (parseMethodDescriptor yX2_above.desc).map (fun d => d.parameters.length) = some 1 := hcV_X2_above.2
theorem hcV_X2_buildsBy : yX2_buildsBy.cls = RX2 ∧ yX2_buildsBy.cls ≠ "java/lang/invoke/MethodHandle" ∧ yX2_buildsBy.cls ≠ "java/lang/invoke/VarHandle" ∧ (parseMethodDescriptor yX2_buildsBy.desc).map (fun d => d.parameters.length) = some 3 := by decide +kernel
theorem hcS_X2_buildsBy : yX2_buildsBy.cls ≠ "java/lang/invoke/MethodHandle" ∧ yX2_buildsBy.cls ≠ "java/lang/invoke/VarHandle" ∧ (parseMethodDescriptor yX2_buildsBy.desc).map (fun d => d.parameters.length) = some 3 := hcV_X2_buildsBy.2
theorem hcV_X2_fallsBy : yX2_fallsBy.cls = RX2 ∧ yX2_fallsBy.cls ≠ "java/lang/invoke/MethodHandle" ∧ yX2_fallsBy.cls ≠ "java/lang/invoke/VarHandle" ∧ (parseMethodDescriptor yX2_fallsBy.desc).map (fun d => d.parameters.length) = some 3 := by decide +kernel
theorem hcS_X2_fallsBy : yX2_fallsBy.cls ≠ "java/lang/invoke/MethodHandle" ∧ yX2_fallsBy.cls ≠ "java/lang/invoke/VarHandle" ∧ (parseMethodDescriptor yX2_fallsBy.desc).map (fun d => d.parameters.length) = some 3 := hcV_X2_fallsBy.2
theorem hcV_X2_tells : yX2_tells.cls = RX2 ∧ yX2_tells.cls ≠ "java/lang/invoke/MethodHandle" ∧ yX2_tells.cls ≠ "java/lang/invoke/VarHandle" ∧ (parseMethodDescriptor yX2_tells.desc).map (fun d => d.parameters.length) = some 3 := by decide +kernel
theorem hcS_X2_tells : yX2_tells.cls ≠ "java/lang/invoke/MethodHandle" ∧ yX2_tells.cls ≠ "java/lang/invoke/VarHandle" ∧ (parseMethodDescriptor yX2_tells.desc).map (fun d => d.parameters.length) = some 3 := hcV_X2_tells.2
theorem hcV_X2_trace : yX2_trace.cls = RX2 ∧ yX2_trace.cls ≠ "java/lang/invoke/MethodHandle" ∧ yX2_trace.cls ≠ "java/lang/invoke/VarHandle" ∧ (parseMethodDescriptor yX2_trace.desc).map (fun d => d.parameters.length) = some 1 := by decide +kernel
theorem hcS_X2_trace : yX2_trace.cls ≠ "java/lang/invoke/MethodHandle" ∧ yX2_trace.cls ≠ "java/lang/invoke/VarHandle" ∧ (parseMethodDescriptor yX2_trace.desc).map (fun d => d.parameters.length) = some 1 := hcV_X2_trace.2
theorem hcV_X2_keep : yX2_keep.cls = RX2 ∧ yX2_keep.cls ≠ "java/lang/invoke/MethodHandle" ∧ yX2_keep.cls ≠ "java/lang/invoke/VarHandle" ∧ (parseMethodDescriptor yX2_keep.desc).map (fun d => d.parameters.length) = some 2 := by decide +kernel
theorem hcS_X2_keep : yX2_keep.cls ≠ "java/lang/invoke/MethodHandle" ∧ yX2_keep.cls ≠ "java/lang/invoke/VarHandle" ∧ (parseMethodDescriptor yX2_keep.desc).map (fun d => d.parameters.length) = some 2 := hcV_X2_keep.2
theorem hcV_X2_row : yX2_row.cls = RX2 ∧ yX2_row.cls ≠ "java/lang/invoke/MethodHandle" ∧ yX2_row.cls ≠ "java/lang/invoke/VarHandle" ∧ (parseMethodDescriptor yX2_row.desc).map (fun d => d.parameters.length) = some 3 := by decide +kernel
theorem hcS_X2_row : yX2_row.cls ≠ "java/lang/invoke/MethodHandle" ∧ yX2_row.cls ≠ "java/lang/invoke/VarHandle" ∧ (parseMethodDescriptor yX2_row.desc).map (fun d => d.parameters.length) = some 3 := hcV_X2_row.2
theorem hcV_X2_put : yX2_put.cls = RX2 ∧ yX2_put.cls ≠ "java/lang/invoke/MethodHandle" ∧ yX2_put.cls ≠ "java/lang/invoke/VarHandle" ∧ (parseMethodDescriptor yX2_put.desc).map (fun d => d.parameters.length) = some 3 := by decide +kernel
theorem hcS_X2_put : yX2_put.cls ≠ "java/lang/invoke/MethodHandle" ∧ yX2_put.cls ≠ "java/lang/invoke/VarHandle" ∧ (parseMethodDescriptor yX2_put.desc).map (fun d => d.parameters.length) = some 3 := hcV_X2_put.2
theorem hcV_X2_isRow : yX2_isRow.cls = RX2 ∧ yX2_isRow.cls ≠ "java/lang/invoke/MethodHandle" ∧ yX2_isRow.cls ≠ "java/lang/invoke/VarHandle" ∧ (parseMethodDescriptor yX2_isRow.desc).map (fun d => d.parameters.length) = some 1 := by decide +kernel
theorem hcS_X2_isRow : yX2_isRow.cls ≠ "java/lang/invoke/MethodHandle" ∧ yX2_isRow.cls ≠ "java/lang/invoke/VarHandle" ∧ (parseMethodDescriptor yX2_isRow.desc).map (fun d => d.parameters.length) = some 1 := hcV_X2_isRow.2
theorem hcV_X2_kept : yX2_kept.cls = RX2 ∧ yX2_kept.cls ≠ "java/lang/invoke/MethodHandle" ∧ yX2_kept.cls ≠ "java/lang/invoke/VarHandle" ∧ (parseMethodDescriptor yX2_kept.desc).map (fun d => d.parameters.length) = some 2 := by decide +kernel
theorem hcS_X2_kept : yX2_kept.cls ≠ "java/lang/invoke/MethodHandle" ∧ yX2_kept.cls ≠ "java/lang/invoke/VarHandle" ∧ (parseMethodDescriptor yX2_kept.desc).map (fun d => d.parameters.length) = some 2 := hcV_X2_kept.2
theorem hcV_X2_element : yX2_element.cls = RX2 ∧ yX2_element.cls ≠ "java/lang/invoke/MethodHandle" ∧ yX2_element.cls ≠ "java/lang/invoke/VarHandle" ∧ (parseMethodDescriptor yX2_element.desc).map (fun d => d.parameters.length) = some 2 := by decide +kernel
theorem hcS_X2_element : yX2_element.cls ≠ "java/lang/invoke/MethodHandle" ∧ yX2_element.cls ≠ "java/lang/invoke/VarHandle" ∧ (parseMethodDescriptor yX2_element.desc).map (fun d => d.parameters.length) = some 2 := hcV_X2_element.2
theorem hcV_X2_shift : yX2_shift.cls = RX2 ∧ yX2_shift.cls ≠ "java/lang/invoke/MethodHandle" ∧ yX2_shift.cls ≠ "java/lang/invoke/VarHandle" ∧ (parseMethodDescriptor yX2_shift.desc).map (fun d => d.parameters.length) = some 5 := by decide +kernel
theorem hcS_X2_shift : yX2_shift.cls ≠ "java/lang/invoke/MethodHandle" ∧ yX2_shift.cls ≠ "java/lang/invoke/VarHandle" ∧ (parseMethodDescriptor yX2_shift.desc).map (fun d => d.parameters.length) = some 5 := hcV_X2_shift.2
theorem hcV_X2_taken : yX2_taken.cls = RX2 ∧ yX2_taken.cls ≠ "java/lang/invoke/MethodHandle" ∧ yX2_taken.cls ≠ "java/lang/invoke/VarHandle" ∧ (parseMethodDescriptor yX2_taken.desc).map (fun d => d.parameters.length) = some 2 := by decide +kernel
theorem hcS_X2_taken : yX2_taken.cls ≠ "java/lang/invoke/MethodHandle" ∧ yX2_taken.cls ≠ "java/lang/invoke/VarHandle" ∧ (parseMethodDescriptor yX2_taken.desc).map (fun d => d.parameters.length) = some 2 := hcV_X2_taken.2
theorem hcV_X2_count : yX2_count.cls = RX2 ∧ yX2_count.cls ≠ "java/lang/invoke/MethodHandle" ∧ yX2_count.cls ≠ "java/lang/invoke/VarHandle" ∧ (parseMethodDescriptor yX2_count.desc).map (fun d => d.parameters.length) = some 1 := by decide +kernel
theorem hcS_X2_count : yX2_count.cls ≠ "java/lang/invoke/MethodHandle" ∧ yX2_count.cls ≠ "java/lang/invoke/VarHandle" ∧ (parseMethodDescriptor yX2_count.desc).map (fun d => d.parameters.length) = some 1 := hcV_X2_count.2
set_option maxRecDepth 100000 in
theorem ct_X2_within {l : Launch} {D : va_G} {E : State → Prop} {B : Nat} (hE : Stab E) {S : AH → Prop}  (v : Int32) (lo : Int32) (hi : Int32) : Ct l D E B yX2_within cX2_within 3 (some .boolean) 0 0 0 0 [.int v, .int lo, .int hi] (S) (RI (bI (btw v lo hi)) (S)) := by
  refine Ct.of (nL := 3) (lv := [some (.int v), some (.int lo), some (.int hi)]) (by decide) (Nat.le_of_ble_eq_true rfl) hE 0 rfl ?_
  generalize hT : RI (bI (btw v lo hi)) (S) = T
  intro zp ze zs zm zb zt zc F hr hnm
  generalize ([.int v, .int lo, .int hi] : List Value).toArray = za at F ⊢
  refine g_iload_n F dX2_within_0 rfl rfl (np := 1) rfl ?_
  refine g_iload_n F dX2_within_1 rfl rfl (np := 2) rfl ?_
  refine g_icmp_lt F dX2_within_2 (tp := 14) (by decide) (np := 5) rfl (fun c2 => ?_) (fun c2 => ?_)
  · refine g_iconst F (v := (nI 0)) dX2_within_14 (by decide) (np := 15) rfl ?_
    have hv : (nI (0) : Int32) = bI (btw v lo hi) := (show (0 : Int32) = _ from (bI_f (by first | exact ⟨‹_›, ‹_›⟩ | (unfold btw; simp_all; done) | (unfold btw; grind))).symm)
    exact g_iret F hr rfl (Nat.le_of_ble_eq_true rfl) (Nat.le_of_ble_eq_true rfl) dX2_within_15 (fun h hs => by rw [← hT]; exact ⟨congrArg (fun z => some (Value.int z)) hv, hs⟩)
  · refine g_iload_n F dX2_within_5 rfl rfl (np := 6) rfl ?_
    refine g_iload_n F dX2_within_6 rfl rfl (np := 7) rfl ?_
    refine g_icmp_gt F dX2_within_7 (tp := 14) (by decide) (np := 10) rfl (fun c7 => ?_) (fun c7 => ?_)
    · refine g_iconst F (v := (nI 0)) dX2_within_14 (by decide) (np := 15) rfl ?_
      have hv : (nI (0) : Int32) = bI (btw v lo hi) := (show (0 : Int32) = _ from (bI_f (by first | exact ⟨‹_›, ‹_›⟩ | (unfold btw; simp_all; done) | (unfold btw; grind))).symm)
      exact g_iret F hr rfl (Nat.le_of_ble_eq_true rfl) (Nat.le_of_ble_eq_true rfl) dX2_within_15 (fun h hs => by rw [← hT]; exact ⟨congrArg (fun z => some (Value.int z)) hv, hs⟩)
    · refine g_iconst F (v := (nI 1)) dX2_within_10 (by decide) (np := 11) rfl ?_
      refine g_goto F dX2_within_11 (np := 15) (by decide) ?_
      have hv : (nI (1) : Int32) = bI (btw v lo hi) := (show (1 : Int32) = _ from (bI_t (by first | exact ⟨‹_›, ‹_›⟩ | (unfold btw; simp_all; done) | (unfold btw; grind))).symm)
      exact g_iret F hr rfl (Nat.le_of_ble_eq_true rfl) (Nat.le_of_ble_eq_true rfl) dX2_within_15 (fun h hs => by rw [← hT]; exact ⟨congrArg (fun z => some (Value.int z)) hv, hs⟩)

set_option maxRecDepth 100000 in
theorem ct_X2_isOwner {l : Launch} {D : va_G} {E : State → Prop} {B : Nat} (hE : Stab E) {ad : Nat → Nat} {h0 : AH} (σ : MSt)  (o : Int32) (hno : σ.1 0 < 2 ^ 30) : Ct l D E B yX2_isOwner cX2_isOwner 2 (some .boolean) 1 22 0 0 [.ref (ad 0), .int o] (MH D ad h0 σ) (RI (bI (inN o (σ.1 0))) (MH D ad h0 σ)) := by
  refine Ct.of (nL := 2) (lv := [some (.ref (ad 0)), some (.int o)]) (by decide) (Nat.le_of_ble_eq_true rfl) hE 0 rfl ?_
  generalize hT : RI (bI (inN o (σ.1 0))) (MH D ad h0 σ) = T
  intro zp ze zs zm zb zt zc F hr hnm
  generalize ([.ref (ad 0), .int o] : List Value).toArray = za at F ⊢
  refine g_iload_n F dX2_isOwner_0 rfl rfl (np := 1) rfl ?_
  refine g_iconst F (v := (nI 0)) dX2_isOwner_1 (by decide) (np := 2) rfl ?_
  refine g_aload_n F dX2_isOwner_2 rfl rfl (np := 3) rfl ?_
  refine h_get F (k := 0) (v := .int (nI (σ.1 0))) (by decide) rfl q1546 dX2_isOwner_3 (np := 6) rfl ?_
  refine g_iconst F (v := (nI 1)) dX2_isOwner_6 (by decide) (np := 7) rfl ?_
  refine g_isub F dX2_isOwner_7 (np := 8) rfl ?_
  refine g_runS F (rest := []) (ct_X2_within hE o (nI (0)) ((nI (σ.1 0)) - (nI (1))) ) (lw_S q1677 q1678 q102 q1679) hcS_X2_within ⟨Nat.le_of_ble_eq_true rfl, Nat.le_of_ble_eq_true rfl⟩ rfl rfl (Nat.le_of_ble_eq_true rfl) dX2_isOwner_8 ⟨Nat.le_of_ble_eq_true rfl, Nat.le_of_ble_eq_true rfl⟩ (np := 11) rfl (k_RI ?_)
  have hv : bI (btw o (nI (0)) ((nI (σ.1 0)) - (nI (1)))) = bI (inN o (σ.1 0)) := bI_c (by exact btw_in (by omega))
  exact g_iret F hr bI_nar (Nat.le_of_ble_eq_true rfl) (Nat.le_of_ble_eq_true rfl) dX2_isOwner_11 (fun h hs => by rw [← hT]; exact ⟨congrArg (fun z => some (Value.int z)) hv, hs⟩)

set_option maxRecDepth 100000 in
theorem ct_X2_isOne {l : Launch} {D : va_G} {E : State → Prop} {B : Nat} (hE : Stab E) {ad : Nat → Nat} {h0 : AH} (σ : MSt)  (p : Int32) (hmn : σ.1 2 < 2 ^ 30) : Ct l D E B yX2_isOne cX2_isOne 2 (some .boolean) 1 22 0 0 [.ref (ad 0), .int p] (MH D ad h0 σ) (RI (bI (inN p (σ.1 2))) (MH D ad h0 σ)) := by
  refine Ct.of (nL := 2) (lv := [some (.ref (ad 0)), some (.int p)]) (by decide) (Nat.le_of_ble_eq_true rfl) hE 0 rfl ?_
  generalize hT : RI (bI (inN p (σ.1 2))) (MH D ad h0 σ) = T
  intro zp ze zs zm zb zt zc F hr hnm
  generalize ([.ref (ad 0), .int p] : List Value).toArray = za at F ⊢
  refine g_iload_n F dX2_isOne_0 rfl rfl (np := 1) rfl ?_
  refine g_iconst F (v := (nI 0)) dX2_isOne_1 (by decide) (np := 2) rfl ?_
  refine g_aload_n F dX2_isOne_2 rfl rfl (np := 3) rfl ?_
  refine h_get F (k := 2) (v := .int (nI (σ.1 2))) (by decide) rfl q1548 dX2_isOne_3 (np := 6) rfl ?_
  refine g_iconst F (v := (nI 1)) dX2_isOne_6 (by decide) (np := 7) rfl ?_
  refine g_isub F dX2_isOne_7 (np := 8) rfl ?_
  refine g_runS F (rest := []) (ct_X2_within hE p (nI (0)) ((nI (σ.1 2)) - (nI (1))) ) (lw_S q1677 q1678 q102 q1679) hcS_X2_within ⟨Nat.le_of_ble_eq_true rfl, Nat.le_of_ble_eq_true rfl⟩ rfl rfl (Nat.le_of_ble_eq_true rfl) dX2_isOne_8 ⟨Nat.le_of_ble_eq_true rfl, Nat.le_of_ble_eq_true rfl⟩ (np := 11) rfl (k_RI ?_)
  have hv : bI (btw p (nI (0)) ((nI (σ.1 2)) - (nI (1)))) = bI (inN p (σ.1 2)) := bI_c (by exact btw_in (by omega))
  exact g_iret F hr bI_nar (Nat.le_of_ble_eq_true rfl) (Nat.le_of_ble_eq_true rfl) dX2_isOne_11 (fun h hs => by rw [← hT]; exact ⟨congrArg (fun z => some (Value.int z)) hv, hs⟩)

set_option maxRecDepth 100000 in
theorem ct_X2_isShelf {l : Launch} {D : va_G} {E : State → Prop} {B : Nat} (hE : Stab E) {S : AH → Prop}  (i : Int32) : Ct l D E B yX2_isShelf cX2_isShelf 1 (some .boolean) 1 22 0 0 [.int i] (S) (RI (bI (inN i 6)) (S)) := by
  refine Ct.of (nL := 1) (lv := [some (.int i)]) (by decide) (Nat.le_of_ble_eq_true rfl) hE 0 rfl ?_
  generalize hT : RI (bI (inN i 6)) (S) = T
  intro zp ze zs zm zb zt zc F hr hnm
  generalize ([.int i] : List Value).toArray = za at F ⊢
  refine g_iload_n F dX2_isShelf_0 rfl rfl (np := 1) rfl ?_
  refine g_iconst F (v := (nI 0)) dX2_isShelf_1 (by decide) (np := 2) rfl ?_
  refine g_iconst F (v := (nI 5)) dX2_isShelf_2 (by decide) (np := 3) rfl ?_
  refine g_runS F (rest := []) (ct_X2_within hE i (nI (0)) (nI (5)) ) (lw_S q1677 q1678 q102 q1679) hcS_X2_within ⟨Nat.le_of_ble_eq_true rfl, Nat.le_of_ble_eq_true rfl⟩ rfl rfl (Nat.le_of_ble_eq_true rfl) dX2_isShelf_3 ⟨Nat.le_of_ble_eq_true rfl, Nat.le_of_ble_eq_true rfl⟩ (np := 6) rfl (k_RI ?_)
  have hv : bI (btw i (nI (0)) (nI (5))) = bI (inN i 6) := bI_c (by exact btw_in (n := 6) (by decide))
  exact g_iret F hr bI_nar (Nat.le_of_ble_eq_true rfl) (Nat.le_of_ble_eq_true rfl) dX2_isShelf_6 (fun h hs => by rw [← hT]; exact ⟨congrArg (fun z => some (Value.int z)) hv, hs⟩)

set_option maxRecDepth 100000 in
theorem ct_X2_isOpen {l : Launch} {D : va_G} {E : State → Prop} {B : Nat} (hE : Stab E) {ad : Nat → Nat} {h0 : AH} (σ : MSt)  (p : Nat) (hp : p < 15) : Ct l D E B yX2_isOpen cX2_isOpen 2 (some .boolean) 0 0 0 0 [.ref (ad 0), .int (nI p)] (MH D ad h0 σ) (RI (bI (sOpen (mP σ) (σ.1 6) p)) (MH D ad h0 σ)) := by
  refine Ct.of (nL := 2) (lv := [some (.ref (ad 0)), some (.int (nI p))]) (by decide) (Nat.le_of_ble_eq_true rfl) hE 0 rfl ?_
  generalize hT : RI (bI (sOpen (mP σ) (σ.1 6) p)) (MH D ad h0 σ) = T
  intro zp ze zs zm zb zt zc F hr hnm
  generalize ([.ref (ad 0), .int (nI p)] : List Value).toArray = za at F ⊢
  refine g_aload_n F dX2_isOpen_0 rfl rfl (np := 1) rfl ?_
  refine h_get F (k := 3) (v := .ref (ad 3)) (by decide) rfl q1549 dX2_isOpen_1 (np := 4) rfl ?_
  refine g_bipush F (v := (nI 60)) dX2_isOpen_4 (by decide) (np := 6) rfl ?_
  refine g_iload_n F dX2_isOpen_6 rfl rfl (np := 7) rfl ?_
  refine g_iaddN F dX2_isOpen_7 (np := 8) rfl ?_
  refine h_ald F (k := 3) (i := 60 + p) (L := 75) (v := σ.2.1 3 (60 + p)) rfl rfl (by decide) (by omega) rfl rfl dX2_isOpen_8 (by decide) (by decide) (np := 9) rfl ?_
  refine g_if_ne F dX2_isOpen_9 (tp := 55) (by decide) (np := 12) rfl (fun c9 => ?_) (fun c9 => ?_)
  · refine g_iconst F (v := (nI 0)) dX2_isOpen_55 (by decide) (np := 56) rfl ?_
    have hv : (nI (0) : Int32) = bI (sOpen (mP σ) (σ.1 6) p) := (show (0 : Int32) = _ from (bI_f (by simp_all [sOpen, mP_0, mP_3, mP_4, mP_5, mP_6, Int32.not_lt, Int32.not_le])).symm)
    exact g_iret F hr rfl (Nat.le_of_ble_eq_true rfl) (Nat.le_of_ble_eq_true rfl) dX2_isOpen_56 (fun h hs => by rw [← hT]; exact ⟨congrArg (fun z => some (Value.int z)) hv, hs⟩)
  · refine g_aload_n F dX2_isOpen_12 rfl rfl (np := 13) rfl ?_
    refine h_get F (k := 3) (v := .ref (ad 3)) (by decide) rfl q1549 dX2_isOpen_13 (np := 16) rfl ?_
    refine g_bipush F (v := (nI 15)) dX2_isOpen_16 (by decide) (np := 18) rfl ?_
    refine g_iload_n F dX2_isOpen_18 rfl rfl (np := 19) rfl ?_
    refine g_iaddN F dX2_isOpen_19 (np := 20) rfl ?_
    refine h_ald F (k := 3) (i := 15 + p) (L := 75) (v := σ.2.1 3 (15 + p)) rfl rfl (by decide) (by omega) rfl rfl dX2_isOpen_20 (by decide) (by decide) (np := 21) rfl ?_
    refine g_iconst F (v := (nI 1)) dX2_isOpen_21 (by decide) (np := 22) rfl ?_
    refine g_icmp_eq F dX2_isOpen_22 (tp := 51) (by decide) (np := 25) rfl (fun c22 => ?_) (fun c22 => ?_)
    · refine g_iconst F (v := (nI 1)) dX2_isOpen_51 (by decide) (np := 52) rfl ?_
      refine g_goto F dX2_isOpen_52 (np := 56) (by decide) ?_
      have hv : (nI (1) : Int32) = bI (sOpen (mP σ) (σ.1 6) p) := (show (1 : Int32) = _ from (bI_t (by simp_all [sOpen, mP_0, mP_3, mP_4, mP_5, mP_6, Int32.not_lt, Int32.not_le])).symm)
      exact g_iret F hr rfl (Nat.le_of_ble_eq_true rfl) (Nat.le_of_ble_eq_true rfl) dX2_isOpen_56 (fun h hs => by rw [← hT]; exact ⟨congrArg (fun z => some (Value.int z)) hv, hs⟩)
    · refine g_aload_n F dX2_isOpen_25 rfl rfl (np := 26) rfl ?_
      refine h_get F (k := 6) (v := .int (nI (σ.1 6))) (by decide) rfl q1552 dX2_isOpen_26 (np := 29) rfl ?_
      refine g_aload_n F dX2_isOpen_29 rfl rfl (np := 30) rfl ?_
      refine h_get F (k := 3) (v := .ref (ad 3)) (by decide) rfl q1549 dX2_isOpen_30 (np := 33) rfl ?_
      refine g_bipush F (v := (nI 45)) dX2_isOpen_33 (by decide) (np := 35) rfl ?_
      refine g_iload_n F dX2_isOpen_35 rfl rfl (np := 36) rfl ?_
      refine g_iaddN F dX2_isOpen_36 (np := 37) rfl ?_
      refine h_ald F (k := 3) (i := 45 + p) (L := 75) (v := σ.2.1 3 (45 + p)) rfl rfl (by decide) (by omega) rfl rfl dX2_isOpen_37 (by decide) (by decide) (np := 38) rfl ?_
      refine g_isub F dX2_isOpen_38 (np := 39) rfl ?_
      refine g_aload_n F dX2_isOpen_39 rfl rfl (np := 40) rfl ?_
      refine h_get F (k := 3) (v := .ref (ad 3)) (by decide) rfl q1549 dX2_isOpen_40 (np := 43) rfl ?_
      refine g_bipush F (v := (nI 30)) dX2_isOpen_43 (by decide) (np := 45) rfl ?_
      refine g_iload_n F dX2_isOpen_45 rfl rfl (np := 46) rfl ?_
      refine g_iaddN F dX2_isOpen_46 (np := 47) rfl ?_
      refine h_ald F (k := 3) (i := 30 + p) (L := 75) (v := σ.2.1 3 (30 + p)) rfl rfl (by decide) (by omega) rfl rfl dX2_isOpen_47 (by decide) (by decide) (np := 48) rfl ?_
      refine g_icmp_ge F dX2_isOpen_48 (tp := 55) (by decide) (np := 51) rfl (fun c48 => ?_) (fun c48 => ?_)
      · refine g_iconst F (v := (nI 0)) dX2_isOpen_55 (by decide) (np := 56) rfl ?_
        have hv : (nI (0) : Int32) = bI (sOpen (mP σ) (σ.1 6) p) := (show (0 : Int32) = _ from (bI_f (by simp_all [sOpen, mP_0, mP_3, mP_4, mP_5, mP_6, Int32.not_lt, Int32.not_le])).symm)
        exact g_iret F hr rfl (Nat.le_of_ble_eq_true rfl) (Nat.le_of_ble_eq_true rfl) dX2_isOpen_56 (fun h hs => by rw [← hT]; exact ⟨congrArg (fun z => some (Value.int z)) hv, hs⟩)
      · refine g_iconst F (v := (nI 1)) dX2_isOpen_51 (by decide) (np := 52) rfl ?_
        refine g_goto F dX2_isOpen_52 (np := 56) (by decide) ?_
        have hv : (nI (1) : Int32) = bI (sOpen (mP σ) (σ.1 6) p) := (show (1 : Int32) = _ from (bI_t (by simp_all [sOpen, mP_0, mP_3, mP_4, mP_5, mP_6, Int32.not_lt, Int32.not_le])).symm)
        exact g_iret F hr rfl (Nat.le_of_ble_eq_true rfl) (Nat.le_of_ble_eq_true rfl) dX2_isOpen_56 (fun h hs => by rw [← hT]; exact ⟨congrArg (fun z => some (Value.int z)) hv, hs⟩)

set_option maxRecDepth 100000 in
theorem ct_X2_isHis {l : Launch} {D : va_G} {E : State → Prop} {B : Nat} (hE : Stab E) {ad : Nat → Nat} {h0 : AH} (σ : MSt)  (p : Nat) (o : Int32) (hp : p < 15) : Ct l D E B yX2_isHis cX2_isHis 3 (some .boolean) 1 21 0 0 [.ref (ad 0), .int (nI p), .int o] (MH D ad h0 σ) (RI (bI (mP σ p 0 = o ∧ sOpen (mP σ) (σ.1 6) p)) (MH D ad h0 σ)) := by
  refine Ct.of (nL := 3) (lv := [some (.ref (ad 0)), some (.int (nI p)), some (.int o)]) (by decide) (Nat.le_of_ble_eq_true rfl) hE 0 rfl ?_
  generalize hT : RI (bI (mP σ p 0 = o ∧ sOpen (mP σ) (σ.1 6) p)) (MH D ad h0 σ) = T
  intro zp ze zs zm zb zt zc F hr hnm
  generalize ([.ref (ad 0), .int (nI p), .int o] : List Value).toArray = za at F ⊢
  refine g_aload_n F dX2_isHis_0 rfl rfl (np := 1) rfl ?_
  refine h_get F (k := 4) (v := .ref (ad 4)) (by decide) rfl q1550 dX2_isHis_1 (np := 4) rfl ?_
  refine g_iload_n F dX2_isHis_4 rfl rfl (np := 5) rfl ?_
  refine h_ald F (k := 4) (i := p) (L := 15) (v := σ.2.1 4 p) rfl rfl (by decide) (by omega) rfl rfl dX2_isHis_5 (by decide) (by decide) (np := 6) rfl ?_
  refine g_iload_n F dX2_isHis_6 rfl rfl (np := 7) rfl ?_
  refine g_icmp_ne F dX2_isHis_7 (tp := 22) (by decide) (np := 10) rfl (fun c7 => ?_) (fun c7 => ?_)
  · refine g_iconst F (v := (nI 0)) dX2_isHis_22 (by decide) (np := 23) rfl ?_
    have hv : (nI (0) : Int32) = bI (mP σ p 0 = o ∧ sOpen (mP σ) (σ.1 6) p) := (show (0 : Int32) = _ from (bI_f (by simp_all [sOpen, mP_0, mP_3, mP_4, mP_5, mP_6, Int32.not_lt, Int32.not_le])).symm)
    exact g_iret F hr rfl (Nat.le_of_ble_eq_true rfl) (Nat.le_of_ble_eq_true rfl) dX2_isHis_23 (fun h hs => by rw [← hT]; exact ⟨congrArg (fun z => some (Value.int z)) hv, hs⟩)
  · refine g_aload_n F dX2_isHis_10 rfl rfl (np := 11) rfl ?_
    refine g_iload_n F dX2_isHis_11 rfl rfl (np := 12) rfl ?_
    refine g_runV F (C := RX2) (ci := 2) (T0 := TX2) (N := 42) (rest := []) (ct_X2_isOpen hE σ p (by first | assumption | omega)) (lw_V q1811 q1813 qs74 q102 q1814) hcV_X2_isOpen ⟨Nat.le_of_ble_eq_true rfl, Nat.le_of_ble_eq_true rfl⟩ rfl (fun h hs => hs.obj) rfl rfl (Nat.le_of_ble_eq_true rfl) dX2_isHis_12 ⟨Nat.le_of_ble_eq_true rfl, Nat.le_of_ble_eq_true rfl⟩ (np := 15) rfl (k_RI ?_)
    refine g_if_eqB F dX2_isHis_15 (tp := 22) (by decide) (np := 18) rfl (fun c15 => ?_) (fun c15 => ?_)
    · refine g_iconst F (v := (nI 0)) dX2_isHis_22 (by decide) (np := 23) rfl ?_
      have hv : (nI (0) : Int32) = bI (mP σ p 0 = o ∧ sOpen (mP σ) (σ.1 6) p) := (show (0 : Int32) = _ from (bI_f (by simp_all [sOpen, mP_0, mP_3, mP_4, mP_5, mP_6, Int32.not_lt, Int32.not_le])).symm)
      exact g_iret F hr rfl (Nat.le_of_ble_eq_true rfl) (Nat.le_of_ble_eq_true rfl) dX2_isHis_23 (fun h hs => by rw [← hT]; exact ⟨congrArg (fun z => some (Value.int z)) hv, hs⟩)
    · refine g_iconst F (v := (nI 1)) dX2_isHis_18 (by decide) (np := 19) rfl ?_
      refine g_goto F dX2_isHis_19 (np := 23) (by decide) ?_
      have hv : (nI (1) : Int32) = bI (mP σ p 0 = o ∧ sOpen (mP σ) (σ.1 6) p) := (show (1 : Int32) = _ from (bI_t (by simp_all [sOpen, mP_0, mP_3, mP_4, mP_5, mP_6, Int32.not_lt, Int32.not_le])).symm)
      exact g_iret F hr rfl (Nat.le_of_ble_eq_true rfl) (Nat.le_of_ble_eq_true rfl) dX2_isHis_23 (fun h hs => by rw [← hT]; exact ⟨congrArg (fun z => some (Value.int z)) hv, hs⟩)

set_option maxRecDepth 100000 in
theorem ct_X2_both {l : Launch} {D : va_G} {E : State → Prop} {B : Nat} (hE : Stab E) {S : AH → Prop}  (c : Nat) (x : Int32) (y : Int32) (hc : 6 ≤ c ∧ c ≤ 15) : Ct l D E B yX2_both cX2_both 3 (some .int) 0 0 0 0 [.int (nI c), .int x, .int y] (S) (RI (zbin c x y) (S)) := by
  refine Ct.of (nL := 3) (lv := [some (.int (nI c)), some (.int x), some (.int y)]) (by decide) (Nat.le_of_ble_eq_true rfl) hE 0 rfl ?_
  generalize hT : RI (zbin c x y) (S) = T
  intro zp ze zs zm zb zt zc F hr hnm
  generalize ([.int (nI c), .int x, .int y] : List Value).toArray = za at F ⊢
  refine g_iload_n F dX2_both_0 rfl rfl (np := 1) rfl ?_
  by_cases k1_6 : (nI (c)) = 6
  · refine g_tabIn F (x := (nI (c))) (v := 6) k1_6 (lo := 6) dX2_both_1 (j := 0) (by decide) (by decide) (by decide) rfl (np := 52) (by decide) ?_
    have e1_6 : c = 6 := (nI_eq (a := c) (b := 6) (by omega) (by decide)).mp (k1_6.trans (by decide))
    refine g_iload_n F dX2_both_52 rfl rfl (np := 53) rfl ?_
    refine g_if_ne F dX2_both_53 (tp := 60) (by decide) (np := 56) rfl (fun c53 => ?_) (fun c53 => ?_)
    · refine g_iconst F (v := (nI 1)) dX2_both_60 (by decide) (np := 61) rfl ?_
      refine g_goto F dX2_both_61 (np := 65) (by decide) ?_
      have hv : nI (1) = zbin c x y := by first | (simp_all [zbin, zn1, nI_0]; done) | (obtain rfl : c = 15 := (by omega); simp_all [zbin, zn1, nI_0]; done)
      exact g_iret F hr rfl (Nat.le_of_ble_eq_true rfl) (Nat.le_of_ble_eq_true rfl) dX2_both_65 (fun h hs => by rw [← hT]; exact ⟨congrArg (fun z => some (Value.int z)) hv, hs⟩)
    · refine g_iload_n F dX2_both_56 rfl rfl (np := 57) rfl ?_
      refine g_if_eq F dX2_both_57 (tp := 64) (by decide) (np := 60) rfl (fun c57 => ?_) (fun c57 => ?_)
      · refine g_iconst F (v := (nI 0)) dX2_both_64 (by decide) (np := 65) rfl ?_
        have hv : nI (0) = zbin c x y := by first | (simp_all [zbin, zn1, nI_0]; done) | (obtain rfl : c = 15 := (by omega); simp_all [zbin, zn1, nI_0]; done)
        exact g_iret F hr rfl (Nat.le_of_ble_eq_true rfl) (Nat.le_of_ble_eq_true rfl) dX2_both_65 (fun h hs => by rw [← hT]; exact ⟨congrArg (fun z => some (Value.int z)) hv, hs⟩)
      · refine g_iconst F (v := (nI 1)) dX2_both_60 (by decide) (np := 61) rfl ?_
        refine g_goto F dX2_both_61 (np := 65) (by decide) ?_
        have hv : nI (1) = zbin c x y := by first | (simp_all [zbin, zn1, nI_0]; done) | (obtain rfl : c = 15 := (by omega); simp_all [zbin, zn1, nI_0]; done)
        exact g_iret F hr rfl (Nat.le_of_ble_eq_true rfl) (Nat.le_of_ble_eq_true rfl) dX2_both_65 (fun h hs => by rw [← hT]; exact ⟨congrArg (fun z => some (Value.int z)) hv, hs⟩)
  by_cases k1_7 : (nI (c)) = 7
  · refine g_tabIn F (x := (nI (c))) (v := 7) k1_7 (lo := 6) dX2_both_1 (j := 1) (by decide) (by decide) (by decide) rfl (np := 66) (by decide) ?_
    have e1_7 : c = 7 := (nI_eq (a := c) (b := 7) (by omega) (by decide)).mp (k1_7.trans (by decide))
    refine g_iload_n F dX2_both_66 rfl rfl (np := 67) rfl ?_
    refine g_if_eq F dX2_both_67 (tp := 78) (by decide) (np := 70) rfl (fun c67 => ?_) (fun c67 => ?_)
    · refine g_iconst F (v := (nI 0)) dX2_both_78 (by decide) (np := 79) rfl ?_
      have hv : nI (0) = zbin c x y := by first | (simp_all [zbin, zn1, nI_0]; done) | (obtain rfl : c = 15 := (by omega); simp_all [zbin, zn1, nI_0]; done)
      exact g_iret F hr rfl (Nat.le_of_ble_eq_true rfl) (Nat.le_of_ble_eq_true rfl) dX2_both_79 (fun h hs => by rw [← hT]; exact ⟨congrArg (fun z => some (Value.int z)) hv, hs⟩)
    · refine g_iload_n F dX2_both_70 rfl rfl (np := 71) rfl ?_
      refine g_if_eq F dX2_both_71 (tp := 78) (by decide) (np := 74) rfl (fun c71 => ?_) (fun c71 => ?_)
      · refine g_iconst F (v := (nI 0)) dX2_both_78 (by decide) (np := 79) rfl ?_
        have hv : nI (0) = zbin c x y := by first | (simp_all [zbin, zn1, nI_0]; done) | (obtain rfl : c = 15 := (by omega); simp_all [zbin, zn1, nI_0]; done)
        exact g_iret F hr rfl (Nat.le_of_ble_eq_true rfl) (Nat.le_of_ble_eq_true rfl) dX2_both_79 (fun h hs => by rw [← hT]; exact ⟨congrArg (fun z => some (Value.int z)) hv, hs⟩)
      · refine g_iconst F (v := (nI 1)) dX2_both_74 (by decide) (np := 75) rfl ?_
        refine g_goto F dX2_both_75 (np := 79) (by decide) ?_
        have hv : nI (1) = zbin c x y := by first | (simp_all [zbin, zn1, nI_0]; done) | (obtain rfl : c = 15 := (by omega); simp_all [zbin, zn1, nI_0]; done)
        exact g_iret F hr rfl (Nat.le_of_ble_eq_true rfl) (Nat.le_of_ble_eq_true rfl) dX2_both_79 (fun h hs => by rw [← hT]; exact ⟨congrArg (fun z => some (Value.int z)) hv, hs⟩)
  by_cases k1_8 : (nI (c)) = 8
  · refine g_tabIn F (x := (nI (c))) (v := 8) k1_8 (lo := 6) dX2_both_1 (j := 2) (by decide) (by decide) (by decide) rfl (np := 80) (by decide) ?_
    have e1_8 : c = 8 := (nI_eq (a := c) (b := 8) (by omega) (by decide)).mp (k1_8.trans (by decide))
    refine g_iload_n F dX2_both_80 rfl rfl (np := 81) rfl ?_
    refine g_iload_n F dX2_both_81 rfl rfl (np := 82) rfl ?_
    refine g_icmp_ge F dX2_both_82 (tp := 89) (by decide) (np := 85) rfl (fun c82 => ?_) (fun c82 => ?_)
    · refine g_iconst F (v := (nI 0)) dX2_both_89 (by decide) (np := 90) rfl ?_
      have hv : nI (0) = zbin c x y := by first | (simp_all [zbin, zn1, nI_0]; done) | (obtain rfl : c = 15 := (by omega); simp_all [zbin, zn1, nI_0]; done)
      exact g_iret F hr rfl (Nat.le_of_ble_eq_true rfl) (Nat.le_of_ble_eq_true rfl) dX2_both_90 (fun h hs => by rw [← hT]; exact ⟨congrArg (fun z => some (Value.int z)) hv, hs⟩)
    · refine g_iconst F (v := (nI 1)) dX2_both_85 (by decide) (np := 86) rfl ?_
      refine g_goto F dX2_both_86 (np := 90) (by decide) ?_
      have hv : nI (1) = zbin c x y := by first | (simp_all [zbin, zn1, nI_0]; done) | (obtain rfl : c = 15 := (by omega); simp_all [zbin, zn1, nI_0]; done)
      exact g_iret F hr rfl (Nat.le_of_ble_eq_true rfl) (Nat.le_of_ble_eq_true rfl) dX2_both_90 (fun h hs => by rw [← hT]; exact ⟨congrArg (fun z => some (Value.int z)) hv, hs⟩)
  by_cases k1_9 : (nI (c)) = 9
  · refine g_tabIn F (x := (nI (c))) (v := 9) k1_9 (lo := 6) dX2_both_1 (j := 3) (by decide) (by decide) (by decide) rfl (np := 91) (by decide) ?_
    have e1_9 : c = 9 := (nI_eq (a := c) (b := 9) (by omega) (by decide)).mp (k1_9.trans (by decide))
    refine g_iload_n F dX2_both_91 rfl rfl (np := 92) rfl ?_
    refine g_iload_n F dX2_both_92 rfl rfl (np := 93) rfl ?_
    refine g_icmp_ne F dX2_both_93 (tp := 100) (by decide) (np := 96) rfl (fun c93 => ?_) (fun c93 => ?_)
    · refine g_iconst F (v := (nI 0)) dX2_both_100 (by decide) (np := 101) rfl ?_
      have hv : nI (0) = zbin c x y := by first | (simp_all [zbin, zn1, nI_0]; done) | (obtain rfl : c = 15 := (by omega); simp_all [zbin, zn1, nI_0]; done)
      exact g_iret F hr rfl (Nat.le_of_ble_eq_true rfl) (Nat.le_of_ble_eq_true rfl) dX2_both_101 (fun h hs => by rw [← hT]; exact ⟨congrArg (fun z => some (Value.int z)) hv, hs⟩)
    · refine g_iconst F (v := (nI 1)) dX2_both_96 (by decide) (np := 97) rfl ?_
      refine g_goto F dX2_both_97 (np := 101) (by decide) ?_
      have hv : nI (1) = zbin c x y := by first | (simp_all [zbin, zn1, nI_0]; done) | (obtain rfl : c = 15 := (by omega); simp_all [zbin, zn1, nI_0]; done)
      exact g_iret F hr rfl (Nat.le_of_ble_eq_true rfl) (Nat.le_of_ble_eq_true rfl) dX2_both_101 (fun h hs => by rw [← hT]; exact ⟨congrArg (fun z => some (Value.int z)) hv, hs⟩)
  by_cases k1_10 : (nI (c)) = 10
  · refine g_tabIn F (x := (nI (c))) (v := 10) k1_10 (lo := 6) dX2_both_1 (j := 4) (by decide) (by decide) (by decide) rfl (np := 102) (by decide) ?_
    have e1_10 : c = 10 := (nI_eq (a := c) (b := 10) (by omega) (by decide)).mp (k1_10.trans (by decide))
    refine g_iload_n F dX2_both_102 rfl rfl (np := 103) rfl ?_
    refine g_iload_n F dX2_both_103 rfl rfl (np := 104) rfl ?_
    refine g_icmp_le F dX2_both_104 (tp := 111) (by decide) (np := 107) rfl (fun c104 => ?_) (fun c104 => ?_)
    · refine g_iconst F (v := (nI 0)) dX2_both_111 (by decide) (np := 112) rfl ?_
      have hv : nI (0) = zbin c x y := by first | (simp_all [zbin, zn1, nI_0]; done) | (obtain rfl : c = 15 := (by omega); simp_all [zbin, zn1, nI_0]; done)
      exact g_iret F hr rfl (Nat.le_of_ble_eq_true rfl) (Nat.le_of_ble_eq_true rfl) dX2_both_112 (fun h hs => by rw [← hT]; exact ⟨congrArg (fun z => some (Value.int z)) hv, hs⟩)
    · refine g_iconst F (v := (nI 1)) dX2_both_107 (by decide) (np := 108) rfl ?_
      refine g_goto F dX2_both_108 (np := 112) (by decide) ?_
      have hv : nI (1) = zbin c x y := by first | (simp_all [zbin, zn1, nI_0]; done) | (obtain rfl : c = 15 := (by omega); simp_all [zbin, zn1, nI_0]; done)
      exact g_iret F hr rfl (Nat.le_of_ble_eq_true rfl) (Nat.le_of_ble_eq_true rfl) dX2_both_112 (fun h hs => by rw [← hT]; exact ⟨congrArg (fun z => some (Value.int z)) hv, hs⟩)
  by_cases k1_11 : (nI (c)) = 11
  · refine g_tabIn F (x := (nI (c))) (v := 11) k1_11 (lo := 6) dX2_both_1 (j := 5) (by decide) (by decide) (by decide) rfl (np := 113) (by decide) ?_
    have e1_11 : c = 11 := (nI_eq (a := c) (b := 11) (by omega) (by decide)).mp (k1_11.trans (by decide))
    refine g_iload_n F dX2_both_113 rfl rfl (np := 114) rfl ?_
    refine g_iload_n F dX2_both_114 rfl rfl (np := 115) rfl ?_
    refine g_iadd F dX2_both_115 (np := 116) rfl ?_
    have hv : x + y = zbin c x y := by first | (simp_all [zbin, zn1, nI_0]; done) | (obtain rfl : c = 15 := (by omega); simp_all [zbin, zn1, nI_0]; done)
    exact g_iret F hr rfl (Nat.le_of_ble_eq_true rfl) (Nat.le_of_ble_eq_true rfl) dX2_both_116 (fun h hs => by rw [← hT]; exact ⟨congrArg (fun z => some (Value.int z)) hv, hs⟩)
  by_cases k1_12 : (nI (c)) = 12
  · refine g_tabIn F (x := (nI (c))) (v := 12) k1_12 (lo := 6) dX2_both_1 (j := 6) (by decide) (by decide) (by decide) rfl (np := 117) (by decide) ?_
    have e1_12 : c = 12 := (nI_eq (a := c) (b := 12) (by omega) (by decide)).mp (k1_12.trans (by decide))
    refine g_iload_n F dX2_both_117 rfl rfl (np := 118) rfl ?_
    refine g_iload_n F dX2_both_118 rfl rfl (np := 119) rfl ?_
    refine g_isub F dX2_both_119 (np := 120) rfl ?_
    have hv : x - y = zbin c x y := by first | (simp_all [zbin, zn1, nI_0]; done) | (obtain rfl : c = 15 := (by omega); simp_all [zbin, zn1, nI_0]; done)
    exact g_iret F hr rfl (Nat.le_of_ble_eq_true rfl) (Nat.le_of_ble_eq_true rfl) dX2_both_120 (fun h hs => by rw [← hT]; exact ⟨congrArg (fun z => some (Value.int z)) hv, hs⟩)
  by_cases k1_13 : (nI (c)) = 13
  · refine g_tabIn F (x := (nI (c))) (v := 13) k1_13 (lo := 6) dX2_both_1 (j := 7) (by decide) (by decide) (by decide) rfl (np := 121) (by decide) ?_
    have e1_13 : c = 13 := (nI_eq (a := c) (b := 13) (by omega) (by decide)).mp (k1_13.trans (by decide))
    refine g_iload_n F dX2_both_121 rfl rfl (np := 122) rfl ?_
    refine g_iload_n F dX2_both_122 rfl rfl (np := 123) rfl ?_
    refine g_imul F dX2_both_123 (np := 124) rfl ?_
    have hv : x * y = zbin c x y := by first | (simp_all [zbin, zn1, nI_0]; done) | (obtain rfl : c = 15 := (by omega); simp_all [zbin, zn1, nI_0]; done)
    exact g_iret F hr rfl (Nat.le_of_ble_eq_true rfl) (Nat.le_of_ble_eq_true rfl) dX2_both_124 (fun h hs => by rw [← hT]; exact ⟨congrArg (fun z => some (Value.int z)) hv, hs⟩)
  by_cases k1_14 : (nI (c)) = 14
  · refine g_tabIn F (x := (nI (c))) (v := 14) k1_14 (lo := 6) dX2_both_1 (j := 8) (by decide) (by decide) (by decide) rfl (np := 125) (by decide) ?_
    have e1_14 : c = 14 := (nI_eq (a := c) (b := 14) (by omega) (by decide)).mp (k1_14.trans (by decide))
    refine g_iload_n F dX2_both_125 rfl rfl (np := 126) rfl ?_
    refine g_if_ne F dX2_both_126 (tp := 133) (by decide) (np := 129) rfl (fun c126 => ?_) (fun c126 => ?_)
    · refine g_iload_n F dX2_both_133 rfl rfl (np := 134) rfl ?_
      refine g_iload_n F dX2_both_134 rfl rfl (np := 135) rfl ?_
      refine g_idiv F dX2_both_135 (by assumption) (np := 136) rfl ?_
      have hv : x / y = zbin c x y := by first | (simp_all [zbin, zn1, nI_0]; done) | (obtain rfl : c = 15 := (by omega); simp_all [zbin, zn1, nI_0]; done)
      exact g_iret F hr rfl (Nat.le_of_ble_eq_true rfl) (Nat.le_of_ble_eq_true rfl) dX2_both_136 (fun h hs => by rw [← hT]; exact ⟨congrArg (fun z => some (Value.int z)) hv, hs⟩)
    · refine g_iconst F (v := (nI 0)) dX2_both_129 (by decide) (np := 130) rfl ?_
      refine g_goto F dX2_both_130 (np := 136) (by decide) ?_
      have hv : nI (0) = zbin c x y := by first | (simp_all [zbin, zn1, nI_0]; done) | (obtain rfl : c = 15 := (by omega); simp_all [zbin, zn1, nI_0]; done)
      exact g_iret F hr rfl (Nat.le_of_ble_eq_true rfl) (Nat.le_of_ble_eq_true rfl) dX2_both_136 (fun h hs => by rw [← hT]; exact ⟨congrArg (fun z => some (Value.int z)) hv, hs⟩)
  have n1_6 : ¬ c = 6 := fun q => k1_6 (by rw [q]; decide)
  have n1_7 : ¬ c = 7 := fun q => k1_7 (by rw [q]; decide)
  have n1_8 : ¬ c = 8 := fun q => k1_8 (by rw [q]; decide)
  have n1_9 : ¬ c = 9 := fun q => k1_9 (by rw [q]; decide)
  have n1_10 : ¬ c = 10 := fun q => k1_10 (by rw [q]; decide)
  have n1_11 : ¬ c = 11 := fun q => k1_11 (by rw [q]; decide)
  have n1_12 : ¬ c = 12 := fun q => k1_12 (by rw [q]; decide)
  have n1_13 : ¬ c = 13 := fun q => k1_13 (by rw [q]; decide)
  have n1_14 : ¬ c = 14 := fun q => k1_14 (by rw [q]; decide)
  refine g_tabOut F (x := (nI (c))) dX2_both_1 (by
    have e6 : ¬ ((nI (c))).toInt = 6 := fun q => k1_6 (Int32.toInt_inj.mp (q.trans (by decide)))
    have e7 : ¬ ((nI (c))).toInt = 7 := fun q => k1_7 (Int32.toInt_inj.mp (q.trans (by decide)))
    have e8 : ¬ ((nI (c))).toInt = 8 := fun q => k1_8 (Int32.toInt_inj.mp (q.trans (by decide)))
    have e9 : ¬ ((nI (c))).toInt = 9 := fun q => k1_9 (Int32.toInt_inj.mp (q.trans (by decide)))
    have e10 : ¬ ((nI (c))).toInt = 10 := fun q => k1_10 (Int32.toInt_inj.mp (q.trans (by decide)))
    have e11 : ¬ ((nI (c))).toInt = 11 := fun q => k1_11 (Int32.toInt_inj.mp (q.trans (by decide)))
    have e12 : ¬ ((nI (c))).toInt = 12 := fun q => k1_12 (Int32.toInt_inj.mp (q.trans (by decide)))
    have e13 : ¬ ((nI (c))).toInt = 13 := fun q => k1_13 (Int32.toInt_inj.mp (q.trans (by decide)))
    have e14 : ¬ ((nI (c))).toInt = 14 := fun q => k1_14 (Int32.toInt_inj.mp (q.trans (by decide)))
    omega) (np := 137) (by decide) ?_
  refine g_iload_n F dX2_both_137 rfl rfl (np := 138) rfl ?_
  refine g_if_ne F dX2_both_138 (tp := 145) (by decide) (np := 141) rfl (fun c138 => ?_) (fun c138 => ?_)
  · refine g_iload_n F dX2_both_145 rfl rfl (np := 146) rfl ?_
    refine g_iload_n F dX2_both_146 rfl rfl (np := 147) rfl ?_
    refine g_irem F dX2_both_147 (by assumption) (np := 148) rfl ?_
    have hv : x - x / y * y = zbin c x y := by first | (simp_all [zbin, zn1, nI_0]; done) | (obtain rfl : c = 15 := (by omega); simp_all [zbin, zn1, nI_0]; done)
    exact g_iret F hr rfl (Nat.le_of_ble_eq_true rfl) (Nat.le_of_ble_eq_true rfl) dX2_both_148 (fun h hs => by rw [← hT]; exact ⟨congrArg (fun z => some (Value.int z)) hv, hs⟩)
  · refine g_iconst F (v := (nI 0)) dX2_both_141 (by decide) (np := 142) rfl ?_
    refine g_goto F dX2_both_142 (np := 148) (by decide) ?_
    have hv : nI (0) = zbin c x y := by first | (simp_all [zbin, zn1, nI_0]; done) | (obtain rfl : c = 15 := (by omega); simp_all [zbin, zn1, nI_0]; done)
    exact g_iret F hr rfl (Nat.le_of_ble_eq_true rfl) (Nat.le_of_ble_eq_true rfl) dX2_both_148 (fun h hs => by rw [← hT]; exact ⟨congrArg (fun z => some (Value.int z)) hv, hs⟩)

set_option maxRecDepth 100000 in
theorem ct_X2_worked {l : Launch} {D : va_G} {E : State → Prop} {B : Nat} (hE : Stab E) {ad : Nat → Nat} {h0 : AH} (σ : MSt) (cd : List Nat) (a : Nat) (b : Nat) (hb : b = a + cd.length) (hb2 : b ≤ 200) (hsg : sg (σ.2.1 14) a cd) (hwf : zwf 0 cd 1) : Ct l D E B yX2_worked cX2_worked 6 (some .int) 1 22 0 0 [.ref (ad 0), .int (nI a), .int (nI b)] (MS D ad h0 σ) (RE (fun (r : Int32) (_ : Nat → Int32) => r = zev (σ.2.1 24) cd) (fun _ sk => MS D ad h0 (skM σ sk))) := by
  refine Ct.of (nL := 6) (lv := [some (.ref (ad 0)), some (.int (nI a)), some (.int (nI b)), none, none, none]) (by decide) (Nat.le_of_ble_eq_true rfl) hE 3 rfl ?_
  generalize hT : RE (fun (r : Int32) (_ : Nat → Int32) => r = zev (σ.2.1 24) cd) (fun _ sk => MS D ad h0 (skM σ sk)) = T
  intro zp ze zs zm zb zt zc F hr hnm
  generalize ([.ref (ad 0), .int (nI a), .int (nI b)] : List Value).toArray = za at F ⊢
  refine g_iconst F (v := (nI 0)) dX2_worked_0 (by decide) (np := 1) rfl ?_
  refine g_istore_n F (lv' := [some (.ref (ad 0)), some (.int (nI a)), some (.int (nI b)), some (.int (nI 0)), none, none]) dX2_worked_1 rfl (by decide) rfl rfl (np := 2) rfl ?_
  refine WG.weak (S' := MS D ad h0 (skM σ (σ.2.1 23))) (fun h hs => by rw [show (skM σ (σ.2.1 23)) = σ from by exact skM_id σ]; exact hs) ?_
  refine g_iload_n F dX2_worked_2 rfl rfl (np := 3) rfl ?_
  refine g_istore F (lv' := [some (.ref (ad 0)), some (.int (nI a)), some (.int (nI b)), some (.int (nI 0)), some (.int (nI a)), none]) dX2_worked_3 (by decide) rfl rfl (np := 5) rfl ?_
  have L5 : ∀ (zn : Nat) (tp : Nat) (i : Nat) (rs : List Nat) (sk : Nat → Int32), (sg (σ.2.1 14) i rs) → (zwf tp rs 1) → (i + rs.length = b) → (tp + rs.length ≤ 200) → (zrun (σ.2.1 24) rs (stk sk tp) = zrun (σ.2.1 24) cd []) → rs.length < zn → WG zp l ze ({ frames := 1, cells := 0, slots := 0, locals := 22 } : Room) zs zm za zb zt zc D B 6 (MQ zb (QT D B T) za zs 0 0 (zA B)) (MS D ad h0 (skM σ sk)) 0 0 5 [some (.ref (ad 0)), some (.int (nI a)), some (.int (nI b)), some (.int (nI tp)), some (.int (nI i)), none] [] := by
    intro zn
    induction zn with
    | zero => intro tp i rs sk h1 h2 h3 h4 h5 hm; exact absurd hm (Nat.not_lt_zero _)
    | succ zn ih5 =>
      intro tp i rs sk h1 h2 h3 h4 h5 hm
      refine g_iload F dX2_worked_5 rfl (np := 7) rfl ?_
      refine g_iload_n F dX2_worked_7 rfl rfl (np := 8) rfl ?_
      refine g_icmp_geN F (by omega) (by omega) dX2_worked_8 (tp := 163) (by decide) (np := 11) rfl (fun c8 => ?_) (fun c8 => ?_)
      · have hrs : rs = [] := by
          cases rs with
          | nil => rfl
          | cons c t => simp at h3; omega
        refine g_aload_n F dX2_worked_163 rfl rfl (np := 164) rfl ?_
        refine m_get F (k := 23) (v := .ref (ad 23)) (by decide) rfl q1569 dX2_worked_164 (np := 167) rfl ?_
        refine g_iconst F (v := (nI 0)) dX2_worked_167 (by decide) (np := 168) rfl ?_
        refine m_ald F (k := 23) (i := 0) (L := 200) (v := sk 0) rfl rfl (by decide) (by decide) rfl rfl dX2_worked_168 (np := 169) rfl ?_
        exact g_iret F hr rfl (Nat.le_of_ble_eq_true rfl) (Nat.le_of_ble_eq_true rfl) dX2_worked_169 (fun h hs => by rw [← hT]; exact ⟨_, sk, (by show sk 0 = _; have ht1 : tp = 1 := (by have h2 := h2; rw [hrs] at h2; exact h2); rw [hrs, ht1] at h5; unfold zev; rw [← h5]; rfl), rfl, hs⟩)
      · obtain ⟨c0, t0, hrs⟩ : ∃ c0 t0, rs = c0 :: t0 := by
          cases rs with
          | nil => simp at h3; omega
          | cons c t => exact ⟨c, t, rfl⟩
        subst hrs
        obtain ⟨h1a, h1b⟩ := h1
        obtain ⟨h2a, h2b⟩ := h2
        simp only [List.length_cons] at h3 h4 hm
        refine g_aload_n F dX2_worked_11 rfl rfl (np := 12) rfl ?_
        refine m_get F (k := 14) (v := .ref (ad 14)) (by decide) rfl q1560 dX2_worked_12 (np := 15) rfl ?_
        refine g_iload F dX2_worked_15 rfl (np := 17) rfl ?_
        refine m_ald F (k := 14) (i := i) (L := 200) (v := σ.2.1 14 i) rfl rfl (by decide) (by omega) rfl rfl dX2_worked_17 (np := 18) rfl ?_
        refine WG.eqv (st' := [.int (nI c0)]) (congrArg (fun z => ([.int z] : List Value)) (show (σ.2.1 14 i) = (nI c0) from by exact h1a)) rfl ?_
        refine g_istore F (lv' := [some (.ref (ad 0)), some (.int (nI a)), some (.int (nI b)), some (.int (nI tp)), some (.int (nI i)), some (.int (nI c0))]) dX2_worked_18 (by decide) rfl rfl (np := 20) rfl ?_
        refine g_iload F dX2_worked_20 rfl (np := 22) rfl ?_
        refine g_bipush F (v := (nI 18)) dX2_worked_22 (by decide) (np := 24) rfl ?_
        refine g_icmp_geN F (by omega) (by decide) dX2_worked_24 (tp := 33) (by decide) (np := 27) rfl (fun c24 => ?_) (fun c24 => ?_)
        · refine g_aload_n F dX2_worked_33 rfl rfl (np := 34) rfl ?_
          refine m_get F (k := 23) (v := .ref (ad 23)) (by decide) rfl q1569 dX2_worked_34 (np := 37) rfl ?_
          refine g_iload_n F dX2_worked_37 rfl rfl (np := 38) rfl ?_
          refine g_iinc F (v := (nI (tp + 1))) (lv' := [some (.ref (ad 0)), some (.int (nI a)), some (.int (nI b)), some (.int (nI (tp + 1))), some (.int (nI i)), some (.int (nI c0))]) dX2_worked_38 rfl (nI_add _ _) (by decide) rfl rfl (np := 41) rfl ?_
          refine g_iload F dX2_worked_41 rfl (np := 43) rfl ?_
          refine g_bipush F (v := (nI 18)) dX2_worked_43 (by decide) (np := 45) rfl ?_
          refine g_icmp_ltN F (by omega) (by decide) dX2_worked_45 (tp := 56) (by decide) (np := 48) rfl (fun c45 => ?_) (fun c45 => ?_)
          · refine g_aload_n F dX2_worked_56 rfl rfl (np := 57) rfl ?_
            refine m_get F (k := 24) (v := .ref (ad 24)) (by decide) rfl q1570 dX2_worked_57 (np := 60) rfl ?_
            refine g_iload F dX2_worked_60 rfl (np := 62) rfl ?_
            refine m_ald F (k := 24) (i := c0) (L := 6) (v := σ.2.1 24 c0) rfl rfl (by decide) (by omega) rfl rfl dX2_worked_62 (np := 63) rfl ?_
            refine m_ast F (k := 23) (i := tp) (L := 200) rfl rfl (by decide) (by omega) rfl dX2_worked_63 (np := 64) rfl ?_
            refine WG.weak (S' := MS D ad h0 (skM σ (va_up sk tp (σ.2.1 24 c0)))) (fun h hs => by rw [← skM_sA]; exact hs) ?_
            refine g_goto F dX2_worked_64 (np := 157) (by decide) ?_
            refine g_iinc F (v := (nI (i + 1))) (lv' := [some (.ref (ad 0)), some (.int (nI a)), some (.int (nI b)), some (.int (nI (tp + 1))), some (.int (nI (i + 1))), some (.int (nI c0))]) dX2_worked_157 rfl (nI_add _ _) (by decide) rfl rfl (np := 160) rfl ?_
            refine g_goto F dX2_worked_160 (np := 5) (by decide) ?_
            refine WG.dropL (i := 5) (lv' := [some (.ref (ad 0)), some (.int (nI a)), some (.int (nI b)), some (.int (nI (tp + 1))), some (.int (nI (i + 1))), none]) rfl ?_
            exact ih5 (tp + 1) (i + 1) t0 ((va_up sk tp (σ.2.1 24 c0))) (by exact h1b) (by first | exact h2d | (rw [if_pos (by omega)] at h2b; exact h2b)) (by first | assumption | omega) (by first | assumption | omega) (by (rw [← h5]; show zrun _ t0 _ = zrun _ t0 (zstep _ c0 _); congr 1; first | (rw [stk_push, zstep_num (by omega)]; done) | (rw [stk_push, zstep_nm (by omega)]; done) | (rw [stk_set (by omega), stk_pos (f := sk) (n := tp) (by omega), zstep_un (by omega)]; simp_all [zn1, nI_0, skM, va_up]; done) | (rw [stk_set (by omega), stk_pos (f := sk) (n := tp) (by omega), stk_pos (f := sk) (n := tp - 1) (by omega), zstep_bin (by omega)]; done))) (by omega)
          · refine g_iload F dX2_worked_48 rfl (np := 50) rfl ?_
            refine g_bipush F (v := (nI 18)) dX2_worked_50 (by decide) (np := 52) rfl ?_
            refine g_isubN F (by omega) dX2_worked_52 (np := 53) rfl ?_
            refine g_goto F dX2_worked_53 (np := 63) (by decide) ?_
            refine m_ast F (k := 23) (i := tp) (L := 200) rfl rfl (by decide) (by omega) rfl dX2_worked_63 (np := 64) rfl ?_
            refine WG.weak (S' := MS D ad h0 (skM σ (va_up sk tp (nI (c0 - 18))))) (fun h hs => by rw [← skM_sA]; exact hs) ?_
            refine g_goto F dX2_worked_64 (np := 157) (by decide) ?_
            refine g_iinc F (v := (nI (i + 1))) (lv' := [some (.ref (ad 0)), some (.int (nI a)), some (.int (nI b)), some (.int (nI (tp + 1))), some (.int (nI (i + 1))), some (.int (nI c0))]) dX2_worked_157 rfl (nI_add _ _) (by decide) rfl rfl (np := 160) rfl ?_
            refine g_goto F dX2_worked_160 (np := 5) (by decide) ?_
            refine WG.dropL (i := 5) (lv' := [some (.ref (ad 0)), some (.int (nI a)), some (.int (nI b)), some (.int (nI (tp + 1))), some (.int (nI (i + 1))), none]) rfl ?_
            exact ih5 (tp + 1) (i + 1) t0 ((va_up sk tp (nI (c0 - 18)))) (by exact h1b) (by first | exact h2d | (rw [if_pos (by omega)] at h2b; exact h2b)) (by first | assumption | omega) (by first | assumption | omega) (by (rw [← h5]; show zrun _ t0 _ = zrun _ t0 (zstep _ c0 _); congr 1; first | (rw [stk_push, zstep_num (by omega)]; done) | (rw [stk_push, zstep_nm (by omega)]; done) | (rw [stk_set (by omega), stk_pos (f := sk) (n := tp) (by omega), zstep_un (by omega)]; simp_all [zn1, nI_0, skM, va_up]; done) | (rw [stk_set (by omega), stk_pos (f := sk) (n := tp) (by omega), stk_pos (f := sk) (n := tp - 1) (by omega), zstep_bin (by omega)]; done))) (by omega)
        · refine g_iload F dX2_worked_27 rfl (np := 29) rfl ?_
          refine g_iconst F (v := (nI 5)) dX2_worked_29 (by decide) (np := 30) rfl ?_
          refine g_icmp_gtN F (by omega) (by decide) dX2_worked_30 (tp := 67) (by decide) (np := 33) rfl (fun c30 => ?_) (fun c30 => ?_)
          · refine g_iload F dX2_worked_67 rfl (np := 69) rfl ?_
            refine g_bipush F (v := (nI 16)) dX2_worked_69 (by decide) (np := 71) rfl ?_
            refine g_icmp_eqN F (by omega) (by decide) dX2_worked_71 (tp := 81) (by decide) (np := 74) rfl (fun c71 => ?_) (fun c71 => ?_)
            · rw [if_neg (by omega), if_pos (by omega)] at h2b
              obtain ⟨h2c, h2d⟩ := h2b
              refine g_aload_n F dX2_worked_81 rfl rfl (np := 82) rfl ?_
              refine m_get F (k := 23) (v := .ref (ad 23)) (by decide) rfl q1569 dX2_worked_82 (np := 85) rfl ?_
              refine g_iload_n F dX2_worked_85 rfl rfl (np := 86) rfl ?_
              refine g_iconst F (v := (nI 1)) dX2_worked_86 (by decide) (np := 87) rfl ?_
              refine g_isubN F (by omega) dX2_worked_87 (np := 88) rfl ?_
              refine g_iload F dX2_worked_88 rfl (np := 90) rfl ?_
              refine g_bipush F (v := (nI 17)) dX2_worked_90 (by decide) (np := 92) rfl ?_
              refine g_icmp_neN F (by omega) (by decide) dX2_worked_92 (tp := 107) (by decide) (np := 95) rfl (fun c92 => ?_) (fun c92 => ?_)
              · refine g_aload_n F dX2_worked_107 rfl rfl (np := 108) rfl ?_
                refine m_get F (k := 23) (v := .ref (ad 23)) (by decide) rfl q1569 dX2_worked_108 (np := 111) rfl ?_
                refine g_iload_n F dX2_worked_111 rfl rfl (np := 112) rfl ?_
                refine g_iconst F (v := (nI 1)) dX2_worked_112 (by decide) (np := 113) rfl ?_
                refine g_isubN F (by omega) dX2_worked_113 (np := 114) rfl ?_
                refine m_ald F (k := 23) (i := tp - 1) (L := 200) (v := sk (tp - 1)) rfl rfl (by decide) (by omega) rfl rfl dX2_worked_114 (np := 115) rfl ?_
                refine g_if_ne F dX2_worked_115 (tp := 122) (by decide) (np := 118) rfl (fun c115 => ?_) (fun c115 => ?_)
                · refine g_iconst F (v := (nI 0)) dX2_worked_122 (by decide) (np := 123) rfl ?_
                  refine m_ast F (k := 23) (i := tp - 1) (L := 200) rfl rfl (by decide) (by omega) rfl dX2_worked_123 (np := 124) rfl ?_
                  refine WG.weak (S' := MS D ad h0 (skM σ (va_up sk (tp - 1) (nI (0))))) (fun h hs => by rw [← skM_sA]; exact hs) ?_
                  refine g_goto F dX2_worked_124 (np := 157) (by decide) ?_
                  refine g_iinc F (v := (nI (i + 1))) (lv' := [some (.ref (ad 0)), some (.int (nI a)), some (.int (nI b)), some (.int (nI tp)), some (.int (nI (i + 1))), some (.int (nI c0))]) dX2_worked_157 rfl (nI_add _ _) (by decide) rfl rfl (np := 160) rfl ?_
                  refine g_goto F dX2_worked_160 (np := 5) (by decide) ?_
                  refine WG.dropL (i := 5) (lv' := [some (.ref (ad 0)), some (.int (nI a)), some (.int (nI b)), some (.int (nI tp)), some (.int (nI (i + 1))), none]) rfl ?_
                  exact ih5 tp (i + 1) t0 ((va_up sk (tp - 1) (nI (0)))) (by exact h1b) (by first | exact h2d | (rw [if_pos (by omega)] at h2b; exact h2b)) (by first | assumption | omega) (by first | assumption | omega) (by (rw [← h5]; show zrun _ t0 _ = zrun _ t0 (zstep _ c0 _); congr 1; first | (rw [stk_push, zstep_num (by omega)]; done) | (rw [stk_push, zstep_nm (by omega)]; done) | (rw [stk_set (by omega), stk_pos (f := sk) (n := tp) (by omega), zstep_un (by omega)]; simp_all [zn1, nI_0, skM, va_up]; done) | (rw [stk_set (by omega), stk_pos (f := sk) (n := tp) (by omega), stk_pos (f := sk) (n := tp - 1) (by omega), zstep_bin (by omega)]; done))) (by omega)
                · refine g_iconst F (v := (nI 1)) dX2_worked_118 (by decide) (np := 119) rfl ?_
                  refine g_goto F dX2_worked_119 (np := 123) (by decide) ?_
                  refine m_ast F (k := 23) (i := tp - 1) (L := 200) rfl rfl (by decide) (by omega) rfl dX2_worked_123 (np := 124) rfl ?_
                  refine WG.weak (S' := MS D ad h0 (skM σ (va_up sk (tp - 1) (nI (1))))) (fun h hs => by rw [← skM_sA]; exact hs) ?_
                  refine g_goto F dX2_worked_124 (np := 157) (by decide) ?_
                  refine g_iinc F (v := (nI (i + 1))) (lv' := [some (.ref (ad 0)), some (.int (nI a)), some (.int (nI b)), some (.int (nI tp)), some (.int (nI (i + 1))), some (.int (nI c0))]) dX2_worked_157 rfl (nI_add _ _) (by decide) rfl rfl (np := 160) rfl ?_
                  refine g_goto F dX2_worked_160 (np := 5) (by decide) ?_
                  refine WG.dropL (i := 5) (lv' := [some (.ref (ad 0)), some (.int (nI a)), some (.int (nI b)), some (.int (nI tp)), some (.int (nI (i + 1))), none]) rfl ?_
                  exact ih5 tp (i + 1) t0 ((va_up sk (tp - 1) (nI (1)))) (by exact h1b) (by first | exact h2d | (rw [if_pos (by omega)] at h2b; exact h2b)) (by first | assumption | omega) (by first | assumption | omega) (by (rw [← h5]; show zrun _ t0 _ = zrun _ t0 (zstep _ c0 _); congr 1; first | (rw [stk_push, zstep_num (by omega)]; done) | (rw [stk_push, zstep_nm (by omega)]; done) | (rw [stk_set (by omega), stk_pos (f := sk) (n := tp) (by omega), zstep_un (by omega)]; simp_all [zn1, nI_0, skM, va_up]; done) | (rw [stk_set (by omega), stk_pos (f := sk) (n := tp) (by omega), stk_pos (f := sk) (n := tp - 1) (by omega), zstep_bin (by omega)]; done))) (by omega)
              · refine g_aload_n F dX2_worked_95 rfl rfl (np := 96) rfl ?_
                refine m_get F (k := 23) (v := .ref (ad 23)) (by decide) rfl q1569 dX2_worked_96 (np := 99) rfl ?_
                refine g_iload_n F dX2_worked_99 rfl rfl (np := 100) rfl ?_
                refine g_iconst F (v := (nI 1)) dX2_worked_100 (by decide) (np := 101) rfl ?_
                refine g_isubN F (by omega) dX2_worked_101 (np := 102) rfl ?_
                refine m_ald F (k := 23) (i := tp - 1) (L := 200) (v := sk (tp - 1)) rfl rfl (by decide) (by omega) rfl rfl dX2_worked_102 (np := 103) rfl ?_
                refine g_ineg F dX2_worked_103 (np := 104) rfl ?_
                refine g_goto F dX2_worked_104 (np := 123) (by decide) ?_
                refine m_ast F (k := 23) (i := tp - 1) (L := 200) rfl rfl (by decide) (by omega) rfl dX2_worked_123 (np := 124) rfl ?_
                refine WG.weak (S' := MS D ad h0 (skM σ (va_up sk (tp - 1) (-(sk (tp - 1)))))) (fun h hs => by rw [← skM_sA]; exact hs) ?_
                refine g_goto F dX2_worked_124 (np := 157) (by decide) ?_
                refine g_iinc F (v := (nI (i + 1))) (lv' := [some (.ref (ad 0)), some (.int (nI a)), some (.int (nI b)), some (.int (nI tp)), some (.int (nI (i + 1))), some (.int (nI c0))]) dX2_worked_157 rfl (nI_add _ _) (by decide) rfl rfl (np := 160) rfl ?_
                refine g_goto F dX2_worked_160 (np := 5) (by decide) ?_
                refine WG.dropL (i := 5) (lv' := [some (.ref (ad 0)), some (.int (nI a)), some (.int (nI b)), some (.int (nI tp)), some (.int (nI (i + 1))), none]) rfl ?_
                exact ih5 tp (i + 1) t0 ((va_up sk (tp - 1) (-(sk (tp - 1))))) (by exact h1b) (by first | exact h2d | (rw [if_pos (by omega)] at h2b; exact h2b)) (by first | assumption | omega) (by first | assumption | omega) (by (rw [← h5]; show zrun _ t0 _ = zrun _ t0 (zstep _ c0 _); congr 1; first | (rw [stk_push, zstep_num (by omega)]; done) | (rw [stk_push, zstep_nm (by omega)]; done) | (rw [stk_set (by omega), stk_pos (f := sk) (n := tp) (by omega), zstep_un (by omega)]; simp_all [zn1, nI_0, skM, va_up]; done) | (rw [stk_set (by omega), stk_pos (f := sk) (n := tp) (by omega), stk_pos (f := sk) (n := tp - 1) (by omega), zstep_bin (by omega)]; done))) (by omega)
            · refine g_iload F dX2_worked_74 rfl (np := 76) rfl ?_
              refine g_bipush F (v := (nI 17)) dX2_worked_76 (by decide) (np := 78) rfl ?_
              refine g_icmp_neN F (by omega) (by decide) dX2_worked_78 (tp := 127) (by decide) (np := 81) rfl (fun c78 => ?_) (fun c78 => ?_)
              · rw [if_neg (by omega), if_neg (by omega)] at h2b
                obtain ⟨h2c, h2d⟩ := h2b
                refine g_iinc F (v := (nI (tp - 1))) (lv' := [some (.ref (ad 0)), some (.int (nI a)), some (.int (nI b)), some (.int (nI (tp - 1))), some (.int (nI i)), some (.int (nI c0))]) dX2_worked_127 rfl (zi_dec (by omega)) (by decide) rfl rfl (np := 130) rfl ?_
                refine g_aload_n F dX2_worked_130 rfl rfl (np := 131) rfl ?_
                refine m_get F (k := 23) (v := .ref (ad 23)) (by decide) rfl q1569 dX2_worked_131 (np := 134) rfl ?_
                refine g_iload_n F dX2_worked_134 rfl rfl (np := 135) rfl ?_
                refine g_iconst F (v := (nI 1)) dX2_worked_135 (by decide) (np := 136) rfl ?_
                refine g_isubN F (by omega) dX2_worked_136 (np := 137) rfl ?_
                refine g_iload F dX2_worked_137 rfl (np := 139) rfl ?_
                refine g_aload_n F dX2_worked_139 rfl rfl (np := 140) rfl ?_
                refine m_get F (k := 23) (v := .ref (ad 23)) (by decide) rfl q1569 dX2_worked_140 (np := 143) rfl ?_
                refine g_iload_n F dX2_worked_143 rfl rfl (np := 144) rfl ?_
                refine g_iconst F (v := (nI 1)) dX2_worked_144 (by decide) (np := 145) rfl ?_
                refine g_isubN F (by omega) dX2_worked_145 (np := 146) rfl ?_
                refine m_ald F (k := 23) (i := (tp - 1) - 1) (L := 200) (v := sk ((tp - 1) - 1)) rfl rfl (by decide) (by omega) rfl rfl dX2_worked_146 (np := 147) rfl ?_
                refine g_aload_n F dX2_worked_147 rfl rfl (np := 148) rfl ?_
                refine m_get F (k := 23) (v := .ref (ad 23)) (by decide) rfl q1569 dX2_worked_148 (np := 151) rfl ?_
                refine g_iload_n F dX2_worked_151 rfl rfl (np := 152) rfl ?_
                refine m_ald F (k := 23) (i := tp - 1) (L := 200) (v := sk (tp - 1)) rfl rfl (by decide) (by omega) rfl rfl dX2_worked_152 (np := 153) rfl ?_
                refine g_runS F (rest := [.int (nI ((tp - 1) - 1)), .ref (ad 23)]) (ct_X2_both hE c0 (sk ((tp - 1) - 1)) (sk (tp - 1)) (by first | assumption | omega)) (lw_S q1828 q1829 q102 q1830) hcS_X2_both ⟨Nat.le_of_ble_eq_true rfl, Nat.le_of_ble_eq_true rfl⟩ rfl rfl (Nat.le_of_ble_eq_true rfl) dX2_worked_153 ⟨Nat.le_of_ble_eq_true rfl, Nat.le_of_ble_eq_true rfl⟩ (np := 156) rfl (k_RI ?_)
                refine m_ast F (k := 23) (i := (tp - 1) - 1) (L := 200) rfl rfl (by decide) (by omega) rfl dX2_worked_156 (np := 157) rfl ?_
                refine WG.weak (S' := MS D ad h0 (skM σ (va_up sk ((tp - 1) - 1) (zbin c0 (sk ((tp - 1) - 1)) (sk (tp - 1)))))) (fun h hs => by rw [← skM_sA]; exact hs) ?_
                refine g_iinc F (v := (nI (i + 1))) (lv' := [some (.ref (ad 0)), some (.int (nI a)), some (.int (nI b)), some (.int (nI (tp - 1))), some (.int (nI (i + 1))), some (.int (nI c0))]) dX2_worked_157 rfl (nI_add _ _) (by decide) rfl rfl (np := 160) rfl ?_
                refine g_goto F dX2_worked_160 (np := 5) (by decide) ?_
                refine WG.dropL (i := 5) (lv' := [some (.ref (ad 0)), some (.int (nI a)), some (.int (nI b)), some (.int (nI (tp - 1))), some (.int (nI (i + 1))), none]) rfl ?_
                exact ih5 (tp - 1) (i + 1) t0 ((va_up sk ((tp - 1) - 1) (zbin c0 (sk ((tp - 1) - 1)) (sk (tp - 1))))) (by exact h1b) (by first | exact h2d | (rw [if_pos (by omega)] at h2b; exact h2b)) (by first | assumption | omega) (by first | assumption | omega) (by (rw [← h5]; show zrun _ t0 _ = zrun _ t0 (zstep _ c0 _); congr 1; first | (rw [stk_push, zstep_num (by omega)]; done) | (rw [stk_push, zstep_nm (by omega)]; done) | (rw [stk_set (by omega), stk_pos (f := sk) (n := tp) (by omega), zstep_un (by omega)]; simp_all [zn1, nI_0, skM, va_up]; done) | (rw [stk_set (by omega), stk_pos (f := sk) (n := tp) (by omega), stk_pos (f := sk) (n := tp - 1) (by omega), zstep_bin (by omega)]; done))) (by omega)
              · rw [if_neg (by omega), if_pos (by omega)] at h2b
                obtain ⟨h2c, h2d⟩ := h2b
                refine g_aload_n F dX2_worked_81 rfl rfl (np := 82) rfl ?_
                refine m_get F (k := 23) (v := .ref (ad 23)) (by decide) rfl q1569 dX2_worked_82 (np := 85) rfl ?_
                refine g_iload_n F dX2_worked_85 rfl rfl (np := 86) rfl ?_
                refine g_iconst F (v := (nI 1)) dX2_worked_86 (by decide) (np := 87) rfl ?_
                refine g_isubN F (by omega) dX2_worked_87 (np := 88) rfl ?_
                refine g_iload F dX2_worked_88 rfl (np := 90) rfl ?_
                refine g_bipush F (v := (nI 17)) dX2_worked_90 (by decide) (np := 92) rfl ?_
                refine g_icmp_neN F (by omega) (by decide) dX2_worked_92 (tp := 107) (by decide) (np := 95) rfl (fun c92 => ?_) (fun c92 => ?_)
                · refine g_aload_n F dX2_worked_107 rfl rfl (np := 108) rfl ?_
                  refine m_get F (k := 23) (v := .ref (ad 23)) (by decide) rfl q1569 dX2_worked_108 (np := 111) rfl ?_
                  refine g_iload_n F dX2_worked_111 rfl rfl (np := 112) rfl ?_
                  refine g_iconst F (v := (nI 1)) dX2_worked_112 (by decide) (np := 113) rfl ?_
                  refine g_isubN F (by omega) dX2_worked_113 (np := 114) rfl ?_
                  refine m_ald F (k := 23) (i := tp - 1) (L := 200) (v := sk (tp - 1)) rfl rfl (by decide) (by omega) rfl rfl dX2_worked_114 (np := 115) rfl ?_
                  refine g_if_ne F dX2_worked_115 (tp := 122) (by decide) (np := 118) rfl (fun c115 => ?_) (fun c115 => ?_)
                  · refine g_iconst F (v := (nI 0)) dX2_worked_122 (by decide) (np := 123) rfl ?_
                    refine m_ast F (k := 23) (i := tp - 1) (L := 200) rfl rfl (by decide) (by omega) rfl dX2_worked_123 (np := 124) rfl ?_
                    refine WG.weak (S' := MS D ad h0 (skM σ (va_up sk (tp - 1) (nI (0))))) (fun h hs => by rw [← skM_sA]; exact hs) ?_
                    refine g_goto F dX2_worked_124 (np := 157) (by decide) ?_
                    refine g_iinc F (v := (nI (i + 1))) (lv' := [some (.ref (ad 0)), some (.int (nI a)), some (.int (nI b)), some (.int (nI tp)), some (.int (nI (i + 1))), some (.int (nI c0))]) dX2_worked_157 rfl (nI_add _ _) (by decide) rfl rfl (np := 160) rfl ?_
                    refine g_goto F dX2_worked_160 (np := 5) (by decide) ?_
                    refine WG.dropL (i := 5) (lv' := [some (.ref (ad 0)), some (.int (nI a)), some (.int (nI b)), some (.int (nI tp)), some (.int (nI (i + 1))), none]) rfl ?_
                    exact ih5 tp (i + 1) t0 ((va_up sk (tp - 1) (nI (0)))) (by exact h1b) (by first | exact h2d | (rw [if_pos (by omega)] at h2b; exact h2b)) (by first | assumption | omega) (by first | assumption | omega) (by (rw [← h5]; show zrun _ t0 _ = zrun _ t0 (zstep _ c0 _); congr 1; first | (rw [stk_push, zstep_num (by omega)]; done) | (rw [stk_push, zstep_nm (by omega)]; done) | (rw [stk_set (by omega), stk_pos (f := sk) (n := tp) (by omega), zstep_un (by omega)]; simp_all [zn1, nI_0, skM, va_up]; done) | (rw [stk_set (by omega), stk_pos (f := sk) (n := tp) (by omega), stk_pos (f := sk) (n := tp - 1) (by omega), zstep_bin (by omega)]; done))) (by omega)
                  · refine g_iconst F (v := (nI 1)) dX2_worked_118 (by decide) (np := 119) rfl ?_
                    refine g_goto F dX2_worked_119 (np := 123) (by decide) ?_
                    refine m_ast F (k := 23) (i := tp - 1) (L := 200) rfl rfl (by decide) (by omega) rfl dX2_worked_123 (np := 124) rfl ?_
                    refine WG.weak (S' := MS D ad h0 (skM σ (va_up sk (tp - 1) (nI (1))))) (fun h hs => by rw [← skM_sA]; exact hs) ?_
                    refine g_goto F dX2_worked_124 (np := 157) (by decide) ?_
                    refine g_iinc F (v := (nI (i + 1))) (lv' := [some (.ref (ad 0)), some (.int (nI a)), some (.int (nI b)), some (.int (nI tp)), some (.int (nI (i + 1))), some (.int (nI c0))]) dX2_worked_157 rfl (nI_add _ _) (by decide) rfl rfl (np := 160) rfl ?_
                    refine g_goto F dX2_worked_160 (np := 5) (by decide) ?_
                    refine WG.dropL (i := 5) (lv' := [some (.ref (ad 0)), some (.int (nI a)), some (.int (nI b)), some (.int (nI tp)), some (.int (nI (i + 1))), none]) rfl ?_
                    exact ih5 tp (i + 1) t0 ((va_up sk (tp - 1) (nI (1)))) (by exact h1b) (by first | exact h2d | (rw [if_pos (by omega)] at h2b; exact h2b)) (by first | assumption | omega) (by first | assumption | omega) (by (rw [← h5]; show zrun _ t0 _ = zrun _ t0 (zstep _ c0 _); congr 1; first | (rw [stk_push, zstep_num (by omega)]; done) | (rw [stk_push, zstep_nm (by omega)]; done) | (rw [stk_set (by omega), stk_pos (f := sk) (n := tp) (by omega), zstep_un (by omega)]; simp_all [zn1, nI_0, skM, va_up]; done) | (rw [stk_set (by omega), stk_pos (f := sk) (n := tp) (by omega), stk_pos (f := sk) (n := tp - 1) (by omega), zstep_bin (by omega)]; done))) (by omega)
                · refine g_aload_n F dX2_worked_95 rfl rfl (np := 96) rfl ?_
                  refine m_get F (k := 23) (v := .ref (ad 23)) (by decide) rfl q1569 dX2_worked_96 (np := 99) rfl ?_
                  refine g_iload_n F dX2_worked_99 rfl rfl (np := 100) rfl ?_
                  refine g_iconst F (v := (nI 1)) dX2_worked_100 (by decide) (np := 101) rfl ?_
                  refine g_isubN F (by omega) dX2_worked_101 (np := 102) rfl ?_
                  refine m_ald F (k := 23) (i := tp - 1) (L := 200) (v := sk (tp - 1)) rfl rfl (by decide) (by omega) rfl rfl dX2_worked_102 (np := 103) rfl ?_
                  refine g_ineg F dX2_worked_103 (np := 104) rfl ?_
                  refine g_goto F dX2_worked_104 (np := 123) (by decide) ?_
                  refine m_ast F (k := 23) (i := tp - 1) (L := 200) rfl rfl (by decide) (by omega) rfl dX2_worked_123 (np := 124) rfl ?_
                  refine WG.weak (S' := MS D ad h0 (skM σ (va_up sk (tp - 1) (-(sk (tp - 1)))))) (fun h hs => by rw [← skM_sA]; exact hs) ?_
                  refine g_goto F dX2_worked_124 (np := 157) (by decide) ?_
                  refine g_iinc F (v := (nI (i + 1))) (lv' := [some (.ref (ad 0)), some (.int (nI a)), some (.int (nI b)), some (.int (nI tp)), some (.int (nI (i + 1))), some (.int (nI c0))]) dX2_worked_157 rfl (nI_add _ _) (by decide) rfl rfl (np := 160) rfl ?_
                  refine g_goto F dX2_worked_160 (np := 5) (by decide) ?_
                  refine WG.dropL (i := 5) (lv' := [some (.ref (ad 0)), some (.int (nI a)), some (.int (nI b)), some (.int (nI tp)), some (.int (nI (i + 1))), none]) rfl ?_
                  exact ih5 tp (i + 1) t0 ((va_up sk (tp - 1) (-(sk (tp - 1))))) (by exact h1b) (by first | exact h2d | (rw [if_pos (by omega)] at h2b; exact h2b)) (by first | assumption | omega) (by first | assumption | omega) (by (rw [← h5]; show zrun _ t0 _ = zrun _ t0 (zstep _ c0 _); congr 1; first | (rw [stk_push, zstep_num (by omega)]; done) | (rw [stk_push, zstep_nm (by omega)]; done) | (rw [stk_set (by omega), stk_pos (f := sk) (n := tp) (by omega), zstep_un (by omega)]; simp_all [zn1, nI_0, skM, va_up]; done) | (rw [stk_set (by omega), stk_pos (f := sk) (n := tp) (by omega), stk_pos (f := sk) (n := tp - 1) (by omega), zstep_bin (by omega)]; done))) (by omega)
          · refine g_aload_n F dX2_worked_33 rfl rfl (np := 34) rfl ?_
            refine m_get F (k := 23) (v := .ref (ad 23)) (by decide) rfl q1569 dX2_worked_34 (np := 37) rfl ?_
            refine g_iload_n F dX2_worked_37 rfl rfl (np := 38) rfl ?_
            refine g_iinc F (v := (nI (tp + 1))) (lv' := [some (.ref (ad 0)), some (.int (nI a)), some (.int (nI b)), some (.int (nI (tp + 1))), some (.int (nI i)), some (.int (nI c0))]) dX2_worked_38 rfl (nI_add _ _) (by decide) rfl rfl (np := 41) rfl ?_
            refine g_iload F dX2_worked_41 rfl (np := 43) rfl ?_
            refine g_bipush F (v := (nI 18)) dX2_worked_43 (by decide) (np := 45) rfl ?_
            refine g_icmp_ltN F (by omega) (by decide) dX2_worked_45 (tp := 56) (by decide) (np := 48) rfl (fun c45 => ?_) (fun c45 => ?_)
            · refine g_aload_n F dX2_worked_56 rfl rfl (np := 57) rfl ?_
              refine m_get F (k := 24) (v := .ref (ad 24)) (by decide) rfl q1570 dX2_worked_57 (np := 60) rfl ?_
              refine g_iload F dX2_worked_60 rfl (np := 62) rfl ?_
              refine m_ald F (k := 24) (i := c0) (L := 6) (v := σ.2.1 24 c0) rfl rfl (by decide) (by omega) rfl rfl dX2_worked_62 (np := 63) rfl ?_
              refine m_ast F (k := 23) (i := tp) (L := 200) rfl rfl (by decide) (by omega) rfl dX2_worked_63 (np := 64) rfl ?_
              refine WG.weak (S' := MS D ad h0 (skM σ (va_up sk tp (σ.2.1 24 c0)))) (fun h hs => by rw [← skM_sA]; exact hs) ?_
              refine g_goto F dX2_worked_64 (np := 157) (by decide) ?_
              refine g_iinc F (v := (nI (i + 1))) (lv' := [some (.ref (ad 0)), some (.int (nI a)), some (.int (nI b)), some (.int (nI (tp + 1))), some (.int (nI (i + 1))), some (.int (nI c0))]) dX2_worked_157 rfl (nI_add _ _) (by decide) rfl rfl (np := 160) rfl ?_
              refine g_goto F dX2_worked_160 (np := 5) (by decide) ?_
              refine WG.dropL (i := 5) (lv' := [some (.ref (ad 0)), some (.int (nI a)), some (.int (nI b)), some (.int (nI (tp + 1))), some (.int (nI (i + 1))), none]) rfl ?_
              exact ih5 (tp + 1) (i + 1) t0 ((va_up sk tp (σ.2.1 24 c0))) (by exact h1b) (by first | exact h2d | (rw [if_pos (by omega)] at h2b; exact h2b)) (by first | assumption | omega) (by first | assumption | omega) (by (rw [← h5]; show zrun _ t0 _ = zrun _ t0 (zstep _ c0 _); congr 1; first | (rw [stk_push, zstep_num (by omega)]; done) | (rw [stk_push, zstep_nm (by omega)]; done) | (rw [stk_set (by omega), stk_pos (f := sk) (n := tp) (by omega), zstep_un (by omega)]; simp_all [zn1, nI_0, skM, va_up]; done) | (rw [stk_set (by omega), stk_pos (f := sk) (n := tp) (by omega), stk_pos (f := sk) (n := tp - 1) (by omega), zstep_bin (by omega)]; done))) (by omega)
            · refine g_iload F dX2_worked_48 rfl (np := 50) rfl ?_
              refine g_bipush F (v := (nI 18)) dX2_worked_50 (by decide) (np := 52) rfl ?_
              refine g_isubN F (by omega) dX2_worked_52 (np := 53) rfl ?_
              refine g_goto F dX2_worked_53 (np := 63) (by decide) ?_
              refine m_ast F (k := 23) (i := tp) (L := 200) rfl rfl (by decide) (by omega) rfl dX2_worked_63 (np := 64) rfl ?_
              refine WG.weak (S' := MS D ad h0 (skM σ (va_up sk tp (nI (c0 - 18))))) (fun h hs => by rw [← skM_sA]; exact hs) ?_
              refine g_goto F dX2_worked_64 (np := 157) (by decide) ?_
              refine g_iinc F (v := (nI (i + 1))) (lv' := [some (.ref (ad 0)), some (.int (nI a)), some (.int (nI b)), some (.int (nI (tp + 1))), some (.int (nI (i + 1))), some (.int (nI c0))]) dX2_worked_157 rfl (nI_add _ _) (by decide) rfl rfl (np := 160) rfl ?_
              refine g_goto F dX2_worked_160 (np := 5) (by decide) ?_
              refine WG.dropL (i := 5) (lv' := [some (.ref (ad 0)), some (.int (nI a)), some (.int (nI b)), some (.int (nI (tp + 1))), some (.int (nI (i + 1))), none]) rfl ?_
              exact ih5 (tp + 1) (i + 1) t0 ((va_up sk tp (nI (c0 - 18)))) (by exact h1b) (by first | exact h2d | (rw [if_pos (by omega)] at h2b; exact h2b)) (by first | assumption | omega) (by first | assumption | omega) (by (rw [← h5]; show zrun _ t0 _ = zrun _ t0 (zstep _ c0 _); congr 1; first | (rw [stk_push, zstep_num (by omega)]; done) | (rw [stk_push, zstep_nm (by omega)]; done) | (rw [stk_set (by omega), stk_pos (f := sk) (n := tp) (by omega), zstep_un (by omega)]; simp_all [zn1, nI_0, skM, va_up]; done) | (rw [stk_set (by omega), stk_pos (f := sk) (n := tp) (by omega), stk_pos (f := sk) (n := tp - 1) (by omega), zstep_bin (by omega)]; done))) (by omega)
  exact L5 _ 0 a cd ((σ.2.1 23)) (by exact hsg) (by exact hwf) (by first | assumption | omega) (by first | assumption | omega) (by rfl) (Nat.lt_succ_self _)
