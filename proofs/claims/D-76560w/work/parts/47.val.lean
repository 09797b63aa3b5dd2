/-! WALKS (printed by walk.py): value, value, value, value, is, value -/
set_option maxRecDepth 100000
theorem hcV_X0_init : yX0_init.cls = RX0 ∧ yX0_init.cls ≠ "java/lang/invoke/MethodHandle" ∧ yX0_init.cls ≠ "java/lang/invoke/VarHandle" ∧ (parseMethodDescriptor yX0_init.desc).map (fun d => d.parameters.length) = some 0 := by decide +kernel
theorem hcS_X0_init : yX0_init.cls ≠ "java/lang/invoke/MethodHandle" ∧ yX0_init.cls ≠ "java/lang/invoke/VarHandle" ∧ (parseMethodDescriptor yX0_init.desc).map (fun d => d.parameters.length) = some 0 := hcV_X0_init.2
theorem hcV_X0_owner : yX0_owner.cls = RX0 ∧ yX0_owner.cls ≠ "java/lang/invoke/MethodHandle" ∧ yX0_owner.cls ≠ "java/lang/invoke/VarHandle" ∧ (parseMethodDescriptor yX0_owner.desc).map (fun d => d.parameters.length) = some 1 := by decide +kernel
theorem hcS_X0_owner : yX0_owner.cls ≠ "java/lang/invoke/MethodHandle" ∧ yX0_owner.cls ≠ "java/lang/invoke/VarHandle" ∧ (parseMethodDescriptor yX0_owner.desc).map (fun d => d.parameters.length) = some 1 := hcV_X0_owner.2
theorem hcV_X0_in : yX0_in.cls = RX0 ∧ yX0_in.cls ≠ "java/lang/invoke/MethodHandle" ∧ yX0_in.cls ≠ "java/lang/invoke/VarHandle" ∧ (parseMethodDescriptor yX0_in.desc).map (fun d => d.parameters.length) = some 3 := by decide +kernel
theorem hcS_X0_in : yX0_in.cls ≠ "java/lang/invoke/MethodHandle" ∧ yX0_in.cls ≠ "java/lang/invoke/VarHandle" ∧ (parseMethodDescriptor yX0_in.desc).map (fun d => d.parameters.length) = some 3 := hcV_X0_in.2
theorem hcV_X0_promise : yX0_promise.cls = RX0 ∧ yX0_promise.cls ≠ "java/lang/invoke/MethodHandle" ∧ yX0_promise.cls ≠ "java/lang/invoke/VarHandle" ∧ (parseMethodDescriptor yX0_promise.desc).map (fun d => d.parameters.length) = some 3 := by decide +kernel
theorem hcS_X0_promise : yX0_promise.cls ≠ "java/lang/invoke/MethodHandle" ∧ yX0_promise.cls ≠ "java/lang/invoke/VarHandle" ∧ (parseMethodDescriptor yX0_promise.desc).map (fun d => d.parameters.length) = some 3 := hcV_X0_promise.2
theorem hcV_X0_mayPromise : yX0_mayPromise.cls = RX0 ∧ yX0_mayPromise.cls ≠ "java/lang/invoke/MethodHandle" ∧ yX0_mayPromise.cls ≠ "java/lang/invoke/VarHandle" ∧ (parseMethodDescriptor yX0_mayPromise.desc).map (fun d => d.parameters.length) = some 4 := by decide +kernel
theorem hcS_X0_mayPromise : yX0_mayPromise.cls ≠ "java/lang/invoke/MethodHandle" ∧ yX0_mayPromise.cls ≠ "java/lang/invoke/VarHandle" ∧ (parseMethodDescriptor yX0_mayPromise.desc).map (fun d => d.parameters.length) = some 4 := hcV_X0_mayPromise.2
theorem hcV_X0_isOwner : yX0_isOwner.cls = RX0 ∧ yX0_isOwner.cls ≠ "java/lang/invoke/MethodHandle" ∧ yX0_isOwner.cls ≠ "java/lang/invoke/VarHandle" ∧ (parseMethodDescriptor yX0_isOwner.desc).map (fun d => d.parameters.length) = some 1 := by decide +kernel
theorem hcS_X0_isOwner : yX0_isOwner.cls ≠ "java/lang/invoke/MethodHandle" ∧ yX0_isOwner.cls ≠ "java/lang/invoke/VarHandle" ∧ (parseMethodDescriptor yX0_isOwner.desc).map (fun d => d.parameters.length) = some 1 := hcV_X0_isOwner.2
theorem hcV_X0_addPromise : yX0_addPromise.cls = RX0 ∧ yX0_addPromise.cls ≠ "java/lang/invoke/MethodHandle" ∧ yX0_addPromise.cls ≠ "java/lang/invoke/VarHandle" ∧ (parseMethodDescriptor yX0_addPromise.desc).map (fun d => d.parameters.length) = some 4 := by decide +kernel
theorem hcS_X0_addPromise : yX0_addPromise.cls ≠ "java/lang/invoke/MethodHandle" ∧ yX0_addPromise.cls ≠ "java/lang/invoke/VarHandle" ∧ (parseMethodDescriptor yX0_addPromise.desc).map (fun d => d.parameters.length) = some 4 := hcV_X0_addPromise.2
theorem hcV_X0_promises : yX0_promises.cls = RX0 ∧ yX0_promises.cls ≠ "java/lang/invoke/MethodHandle" ∧ yX0_promises.cls ≠ "java/lang/invoke/VarHandle" ∧ (parseMethodDescriptor yX0_promises.desc).map (fun d => d.parameters.length) = some 3 := by decide +kernel
theorem hcS_X0_promises : yX0_promises.cls ≠ "java/lang/invoke/MethodHandle" ∧ yX0_promises.cls ≠ "java/lang/invoke/VarHandle" ∧ (parseMethodDescriptor yX0_promises.desc).map (fun d => d.parameters.length) = some 3 := hcV_X0_promises.2
theorem hcV_X0_isShelf : yX0_isShelf.cls = RX0 ∧ yX0_isShelf.cls ≠ "java/lang/invoke/MethodHandle" ∧ yX0_isShelf.cls ≠ "java/lang/invoke/VarHandle" ∧ (parseMethodDescriptor yX0_isShelf.desc).map (fun d => d.parameters.length) = some 1 := by decide +kernel
theorem hcS_X0_isShelf : yX0_isShelf.cls ≠ "java/lang/invoke/MethodHandle" ∧ yX0_isShelf.cls ≠ "java/lang/invoke/VarHandle" ∧ (parseMethodDescriptor yX0_isShelf.desc).map (fun d => d.parameters.length) = some 1 := hcV_X0_isShelf.2
theorem hcV_X0_undo : yX0_undo.cls = RX0 ∧ yX0_undo.cls ≠ "java/lang/invoke/MethodHandle" ∧ yX0_undo.cls ≠ "java/lang/invoke/VarHandle" ∧ (parseMethodDescriptor yX0_undo.desc).map (fun d => d.parameters.length) = some 0 := by decide +kernel
theorem hcS_X0_undo : yX0_undo.cls ≠ "java/lang/invoke/MethodHandle" ∧ yX0_undo.cls ≠ "java/lang/invoke/VarHandle" ∧ (parseMethodDescriptor yX0_undo.desc).map (fun d => d.parameters.length) = some 0 := hcV_X0_undo.2
theorem hcV_X0_setTo : yX0_setTo.cls = RX0 ∧ yX0_setTo.cls ≠ "java/lang/invoke/MethodHandle" ∧ yX0_setTo.cls ≠ "java/lang/invoke/VarHandle" ∧ (parseMethodDescriptor yX0_setTo.desc).map (fun d => d.parameters.length) = some 3 := by decide +kernel
theorem hcS_X0_setTo : yX0_setTo.cls ≠ "java/lang/invoke/MethodHandle" ∧ yX0_setTo.cls ≠ "java/lang/invoke/VarHandle" ∧ (parseMethodDescriptor yX0_setTo.desc).map (fun d => d.parameters.length) = some 3 := hcV_X0_setTo.2
theorem hcV_X0_redo : yX0_redo.cls = RX0 ∧ yX0_redo.cls ≠ "java/lang/invoke/MethodHandle" ∧ yX0_redo.cls ≠ "java/lang/invoke/VarHandle" ∧ (parseMethodDescriptor yX0_redo.desc).map (fun d => d.parameters.length) = some 0 := by decide +kernel
theorem hcS_X0_redo : yX0_redo.cls ≠ "java/lang/invoke/MethodHandle" ∧ yX0_redo.cls ≠ "java/lang/invoke/VarHandle" ∧ (parseMethodDescriptor yX0_redo.desc).map (fun d => d.parameters.length) = some 0 := hcV_X0_redo.2
theorem hcV_X0_mend : yX0_mend.cls = RX0 ∧ yX0_mend.cls ≠ "java/lang/invoke/MethodHandle" ∧ yX0_mend.cls ≠ "java/lang/invoke/VarHandle" ∧ (parseMethodDescriptor yX0_mend.desc).map (fun d => d.parameters.length) = some 3 := by decide +kernel
theorem hcS_X0_mend : yX0_mend.cls ≠ "java/lang/invoke/MethodHandle" ∧ yX0_mend.cls ≠ "java/lang/invoke/VarHandle" ∧ (parseMethodDescriptor yX0_mend.desc).map (fun d => d.parameters.length) = some 3 := hcV_X0_mend.2
theorem hcV_X0_isOf : yX0_isOf.cls = RX0 ∧ yX0_isOf.cls ≠ "java/lang/invoke/MethodHandle" ∧ yX0_isOf.cls ≠ "java/lang/invoke/VarHandle" ∧ (parseMethodDescriptor yX0_isOf.desc).map (fun d => d.parameters.length) = some 2 := by decide +kernel
theorem hcS_X0_isOf : yX0_isOf.cls ≠ "java/lang/invoke/MethodHandle" ∧ yX0_isOf.cls ≠ "java/lang/invoke/VarHandle" ∧ (parseMethodDescriptor yX0_isOf.desc).map (fun d => d.parameters.length) = some 2 := hcV_X0_isOf.2
theorem hcV_X0_isPromise : yX0_isPromise.cls = RX0 ∧ yX0_isPromise.cls ≠ "java/lang/invoke/MethodHandle" ∧ yX0_isPromise.cls ≠ "java/lang/invoke/VarHandle" ∧ (parseMethodDescriptor yX0_isPromise.desc).map (fun d => d.parameters.length) = some 1 := by decide +kernel
theorem hcS_X0_isPromise : yX0_isPromise.cls ≠ "java/lang/invoke/MethodHandle" ∧ yX0_isPromise.cls ≠ "java/lang/invoke/VarHandle" ∧ (parseMethodDescriptor yX0_isPromise.desc).map (fun d => d.parameters.length) = some 1 := hcV_X0_isPromise.2
theorem hcV_X0_mayBe : yX0_mayBe.cls = RX0 ∧ yX0_mayBe.cls ≠ "java/lang/invoke/MethodHandle" ∧ yX0_mayBe.cls ≠ "java/lang/invoke/VarHandle" ∧ (parseMethodDescriptor yX0_mayBe.desc).map (fun d => d.parameters.length) = some 2 := by decide +kernel
theorem hcS_X0_mayBe : yX0_mayBe.cls ≠ "java/lang/invoke/MethodHandle" ∧ yX0_mayBe.cls ≠ "java/lang/invoke/VarHandle" ∧ (parseMethodDescriptor yX0_mayBe.desc).map (fun d => d.parameters.length) = some 2 := hcV_X0_mayBe.2
theorem hcV_X0_valueOf : yX0_valueOf.cls = RX0 ∧ yX0_valueOf.cls ≠ "java/lang/invoke/MethodHandle" ∧ yX0_valueOf.cls ≠ "java/lang/invoke/VarHandle" ∧ (parseMethodDescriptor yX0_valueOf.desc).map (fun d => d.parameters.length) = some 2 := by decide +kernel
theorem hcS_X0_valueOf : yX0_valueOf.cls ≠ "java/lang/invoke/MethodHandle" ∧ yX0_valueOf.cls ≠ "java/lang/invoke/VarHandle" ∧ (parseMethodDescriptor yX0_valueOf.desc).map (fun d => d.parameters.length) = some 2 := hcV_X0_valueOf.2
theorem hcV_X0_become : yX0_become.cls = RX0 ∧ yX0_become.cls ≠ "java/lang/invoke/MethodHandle" ∧ yX0_become.cls ≠ "java/lang/invoke/VarHandle" ∧ (parseMethodDescriptor yX0_become.desc).map (fun d => d.parameters.length) = some 4 := by decide +kernel
theorem hcS_X0_become : yX0_become.cls ≠ "java/lang/invoke/MethodHandle" ∧ yX0_become.cls ≠ "java/lang/invoke/VarHandle" ∧ (parseMethodDescriptor yX0_become.desc).map (fun d => d.parameters.length) = some 4 := hcV_X0_become.2
theorem hcV_X0_of : yX0_of.cls = RX0 ∧ yX0_of.cls ≠ "java/lang/invoke/MethodHandle" ∧ yX0_of.cls ≠ "java/lang/invoke/VarHandle" ∧ (parseMethodDescriptor yX0_of.desc).map (fun d => d.parameters.length) = some 2 := by decide +kernel
theorem hcS_X0_of : yX0_of.cls ≠ "java/lang/invoke/MethodHandle" ∧ yX0_of.cls ≠ "java/lang/invoke/VarHandle" ∧ (parseMethodDescriptor yX0_of.desc).map (fun d => d.parameters.length) = some 2 := hcV_X0_of.2
theorem hcV_X0_feed : yX0_feed.cls = RX0 ∧ yX0_feed.cls ≠ "java/lang/invoke/MethodHandle" ∧ yX0_feed.cls ≠ "java/lang/invoke/VarHandle" ∧ (parseMethodDescriptor yX0_feed.desc).map (fun d => d.parameters.length) = some 1 := by decide +kernel
theorem hcS_X0_feed : yX0_feed.cls ≠ "java/lang/invoke/MethodHandle" ∧ yX0_feed.cls ≠ "java/lang/invoke/VarHandle" ∧ (parseMethodDescriptor yX0_feed.desc).map (fun d => d.parameters.length) = some 1 := hcV_X0_feed.2
theorem hcV_X0_law : yX0_law.cls = RX0 ∧ yX0_law.cls ≠ "java/lang/invoke/MethodHandle" ∧ yX0_law.cls ≠ "java/lang/invoke/VarHandle" ∧ (parseMethodDescriptor yX0_law.desc).map (fun d => d.parameters.length) = some 0 := by decide +kernel
theorem hcS_X0_law : yX0_law.cls ≠ "java/lang/invoke/MethodHandle" ∧ yX0_law.cls ≠ "java/lang/invoke/VarHandle" ∧ (parseMethodDescriptor yX0_law.desc).map (fun d => d.parameters.length) = some 0 := hcV_X0_law.2
theorem hcV_X0_storeys : yX0_storeys.cls = RX0 ∧ yX0_storeys.cls ≠ "java/lang/invoke/MethodHandle" ∧ yX0_storeys.cls ≠ "java/lang/invoke/VarHandle" ∧ (parseMethodDescriptor yX0_storeys.desc).map (fun d => d.parameters.length) = some 1 := by decide +kernel
theorem hcS_X0_storeys : yX0_storeys.cls ≠ "java/lang/invoke/MethodHandle" ∧ yX0_storeys.cls ≠ "java/lang/invoke/VarHandle" ∧ (parseMethodDescriptor yX0_storeys.desc).map (fun d => d.parameters.length) = some 1 := hcV_X0_storeys.2
theorem hcV_X0_storeysOf : yX0_storeysOf.cls = RX0 ∧ yX0_storeysOf.cls ≠ "java/lang/invoke/MethodHandle" ∧ yX0_storeysOf.cls ≠ "java/lang/invoke/VarHandle" ∧ (parseMethodDescriptor yX0_storeysOf.desc).map (fun d => d.parameters.length) = some 2 := by decide +kernel
theorem hcS_X0_storeysOf : yX0_storeysOf.cls ≠ "java/lang/invoke/MethodHandle" ∧ yX0_storeysOf.cls ≠ "java/lang/invoke/VarHandle" ∧ (parseMethodDescriptor yX0_storeysOf.desc).map (fun d => d.parameters.length) = some 2 := hcV_X0_storeysOf.2
theorem hcV_X0_openBy : yX0_openBy.cls = RX0 ∧ yX0_openBy.cls ≠ "java/lang/invoke/MethodHandle" ∧ yX0_openBy.cls ≠ "java/lang/invoke/VarHandle" ∧ (parseMethodDescriptor yX0_openBy.desc).map (fun d => d.parameters.length) = some 2 := by decide +kernel
theorem hcS_X0_openBy : yX0_openBy.cls ≠ "java/lang/invoke/MethodHandle" ∧ yX0_openBy.cls ≠ "java/lang/invoke/VarHandle" ∧ (parseMethodDescriptor yX0_openBy.desc).map (fun d => d.parameters.length) = some 2 := hcV_X0_openBy.2
theorem hcV_X0_gives : yX0_gives.cls = RX0 ∧ yX0_gives.cls ≠ "java/lang/invoke/MethodHandle" ∧ yX0_gives.cls ≠ "java/lang/invoke/VarHandle" ∧ (parseMethodDescriptor yX0_gives.desc).map (fun d => d.parameters.length) = some 0 := by decide +kernel
theorem hcS_X0_gives : yX0_gives.cls ≠ "java/lang/invoke/MethodHandle" ∧ yX0_gives.cls ≠ "java/lang/invoke/VarHandle" ∧ (parseMethodDescriptor yX0_gives.desc).map (fun d => d.parameters.length) = some 0 := hcV_X0_gives.2
theorem hcV_X0_high : yX0_high.cls = RX0 ∧ yX0_high.cls ≠ "java/lang/invoke/MethodHandle" ∧ yX0_high.cls ≠ "java/lang/invoke/VarHandle" ∧ (parseMethodDescriptor yX0_high.desc).map (fun d => d.parameters.length) = some 2 := by decide +kernel
theorem hcS_X0_high : yX0_high.cls ≠ "java/lang/invoke/MethodHandle" ∧ yX0_high.cls ≠ "java/lang/invoke/VarHandle" ∧ (parseMethodDescriptor yX0_high.desc).map (fun d => d.parameters.length) = some 2 := hcV_X0_high.2
theorem hcV_X0_areDays : yX0_areDays.cls = RX0 ∧ yX0_areDays.cls ≠ "java/lang/invoke/MethodHandle" ∧ yX0_areDays.cls ≠ "java/lang/invoke/VarHandle" ∧ (parseMethodDescriptor yX0_areDays.desc).map (fun d => d.parameters.length) = some 1 := by decide +kernel
theorem hcS_X0_areDays : yX0_areDays.cls ≠ "java/lang/invoke/MethodHandle" ∧ yX0_areDays.cls ≠ "java/lang/invoke/VarHandle" ∧ (parseMethodDescriptor yX0_areDays.desc).map (fun d => d.parameters.length) = some 1 := hcV_X0_areDays.2
theorem hcV_X0_dayBehind : yX0_dayBehind.cls = RX0 ∧ yX0_dayBehind.cls ≠ "java/lang/invoke/MethodHandle" ∧ yX0_dayBehind.cls ≠ "java/lang/invoke/VarHandle" ∧ (parseMethodDescriptor yX0_dayBehind.desc).map (fun d => d.parameters.length) = some 1 := by decide +kernel
theorem hcS_X0_dayBehind : yX0_dayBehind.cls ≠ "java/lang/invoke/MethodHandle" ∧ yX0_dayBehind.cls ≠ "java/lang/invoke/VarHandle" ∧ (parseMethodDescriptor yX0_dayBehind.desc).map (fun d => d.parameters.length) = some 1 := hcV_X0_dayBehind.2
theorem hcV_X0_allHigh : yX0_allHigh.cls = RX0 ∧ yX0_allHigh.cls ≠ "java/lang/invoke/MethodHandle" ∧ yX0_allHigh.cls ≠ "java/lang/invoke/VarHandle" ∧ (parseMethodDescriptor yX0_allHigh.desc).map (fun d => d.parameters.length) = some 1 := by decide +kernel
theorem hcS_X0_allHigh : yX0_allHigh.cls ≠ "java/lang/invoke/MethodHandle" ∧ yX0_allHigh.cls ≠ "java/lang/invoke/VarHandle" ∧ (parseMethodDescriptor yX0_allHigh.desc).map (fun d => d.parameters.length) = some 1 := hcV_X0_allHigh.2
theorem hcV_X0_highOf : yX0_highOf.cls = RX0 ∧ yX0_highOf.cls ≠ "java/lang/invoke/MethodHandle" ∧ yX0_highOf.cls ≠ "java/lang/invoke/VarHandle" ∧ (parseMethodDescriptor yX0_highOf.desc).map (fun d => d.parameters.length) = some 2 := by decide +kernel
theorem hcS_X0_highOf : yX0_highOf.cls ≠ "java/lang/invoke/MethodHandle" ∧ yX0_highOf.cls ≠ "java/lang/invoke/VarHandle" ∧ (parseMethodDescriptor yX0_highOf.desc).map (fun d => d.parameters.length) = some 2 := hcV_X0_highOf.2
theorem hcV_X0_opens : yX0_opens.cls = RX0 ∧ yX0_opens.cls ≠ "java/lang/invoke/MethodHandle" ∧ yX0_opens.cls ≠ "java/lang/invoke/VarHandle" ∧ (parseMethodDescriptor yX0_opens.desc).map (fun d => d.parameters.length) = some 1 := by decide +kernel
theorem hcS_X0_opens : yX0_opens.cls ≠ "java/lang/invoke/MethodHandle" ∧ yX0_opens.cls ≠ "java/lang/invoke/VarHandle" ∧ (parseMethodDescriptor yX0_opens.desc).map (fun d => d.parameters.length) = some 1 := hcV_X0_opens.2
theorem hcV_X0_roof : yX0_roof.cls = RX0 ∧ yX0_roof.cls ≠ "java/lang/invoke/MethodHandle" ∧ yX0_roof.cls ≠ "java/lang/invoke/VarHandle" ∧ (parseMethodDescriptor yX0_roof.desc).map (fun d => d.parameters.length) = some 1 := by decide +kernel
theorem hcS_X0_roof : yX0_roof.cls ≠ "java/lang/invoke/MethodHandle" ∧ yX0_roof.cls ≠ "java/lang/invoke/VarHandle" ∧ (parseMethodDescriptor yX0_roof.desc).map (fun d => d.parameters.length) = some 1 := hcV_X0_roof.2
theorem hcV_X0_roofOf : yX0_roofOf.cls = RX0 ∧ yX0_roofOf.cls ≠ "java/lang/invoke/MethodHandle" ∧ yX0_roofOf.cls ≠ "java/lang/invoke/VarHandle" ∧ (parseMethodDescriptor yX0_roofOf.desc).map (fun d => d.parameters.length) = some 1 := by decide +kernel
theorem hcS_X0_roofOf : yX0_roofOf.cls ≠ "java/lang/invoke/MethodHandle" ∧ yX0_roofOf.cls ≠ "java/lang/invoke/VarHandle" ∧ (parseMethodDescriptor yX0_roofOf.desc).map (fun d => d.parameters.length) = some 1 := hcV_X0_roofOf.2
theorem hcV_X0_falls : yX0_falls.cls = RX0 ∧ yX0_falls.cls ≠ "java/lang/invoke/MethodHandle" ∧ yX0_falls.cls ≠ "java/lang/invoke/VarHandle" ∧ (parseMethodDescriptor yX0_falls.desc).map (fun d => d.parameters.length) = some 2 := by decide +kernel
theorem hcS_X0_falls : yX0_falls.cls ≠ "java/lang/invoke/MethodHandle" ∧ yX0_falls.cls ≠ "java/lang/invoke/VarHandle" ∧ (parseMethodDescriptor yX0_falls.desc).map (fun d => d.parameters.length) = some 2 := hcV_X0_falls.2
theorem hcV_X0_skyline : yX0_skyline.cls = RX0 ∧ yX0_skyline.cls ≠ "java/lang/invoke/MethodHandle" ∧ yX0_skyline.cls ≠ "java/lang/invoke/VarHandle" ∧ (parseMethodDescriptor yX0_skyline.desc).map (fun d => d.parameters.length) = some 1 := by decide +kernel
theorem hcS_X0_skyline : yX0_skyline.cls ≠ "java/lang/invoke/MethodHandle" ∧ yX0_skyline.cls ≠ "java/lang/invoke/VarHandle" ∧ (parseMethodDescriptor yX0_skyline.desc).map (fun d => d.parameters.length) = some 1 := hcV_X0_skyline.2
theorem hcV_X0_tallest : yX0_tallest.cls = RX0 ∧ yX0_tallest.cls ≠ "java/lang/invoke/MethodHandle" ∧ yX0_tallest.cls ≠ "java/lang/invoke/VarHandle" ∧ (parseMethodDescriptor yX0_tallest.desc).map (fun d => d.parameters.length) = some 0 := by decide +kernel
theorem hcS_X0_tallest : yX0_tallest.cls ≠ "java/lang/invoke/MethodHandle" ∧ yX0_tallest.cls ≠ "java/lang/invoke/VarHandle" ∧ (parseMethodDescriptor yX0_tallest.desc).map (fun d => d.parameters.length) = some 0 := hcV_X0_tallest.2
theorem hcV_X0_view : yX0_view.cls = RX0 ∧ yX0_view.cls ≠ "java/lang/invoke/MethodHandle" ∧ yX0_view.cls ≠ "java/lang/invoke/VarHandle" ∧ (parseMethodDescriptor yX0_view.desc).map (fun d => d.parameters.length) = some 2 := by decide +kernel
theorem hcS_X0_view : yX0_view.cls ≠ "java/lang/invoke/MethodHandle" ∧ yX0_view.cls ≠ "java/lang/invoke/VarHandle" ∧ (parseMethodDescriptor yX0_view.desc).map (fun d => d.parameters.length) = some 2 := hcV_X0_view.2
theorem hcV_X0_what : yX0_what.cls = RX0 ∧ yX0_what.cls ≠ "java/lang/invoke/MethodHandle" ∧ yX0_what.cls ≠ "java/lang/invoke/VarHandle" ∧ (parseMethodDescriptor yX0_what.desc).map (fun d => d.parameters.length) = some 3 := by decide +kernel
theorem hcS_X0_what : yX0_what.cls ≠ "java/lang/invoke/MethodHandle" ∧ yX0_what.cls ≠ "java/lang/invoke/VarHandle" ∧ (parseMethodDescriptor yX0_what.desc).map (fun d => d.parameters.length) = some 3 := hcV_X0_what.2
theorem hcV_X0_leastWorth : yX0_leastWorth.cls = RX0 ∧ yX0_leastWorth.cls ≠ "java/lang/invoke/MethodHandle" ∧ yX0_leastWorth.cls ≠ "java/lang/invoke/VarHandle" ∧ (parseMethodDescriptor yX0_leastWorth.desc).map (fun d => d.parameters.length) = some 5 := by decide +kernel
theorem hcS_X0_leastWorth : yX0_leastWorth.cls ≠ "java/lang/invoke/MethodHandle" ∧ yX0_leastWorth.cls ≠ "java/lang/invoke/VarHandle" ∧ (parseMethodDescriptor yX0_leastWorth.desc).map (fun d => d.parameters.length) = some 5 := hcV_X0_leastWorth.2
theorem hcV_X0_standsSo : yX0_standsSo.cls = RX0 ∧ yX0_standsSo.cls ≠ "java/lang/invoke/MethodHandle" ∧ yX0_standsSo.cls ≠ "java/lang/invoke/VarHandle" ∧ (parseMethodDescriptor yX0_standsSo.desc).map (fun d => d.parameters.length) = some 3 := by decide +kernel
theorem hcS_X0_standsSo : yX0_standsSo.cls ≠ "java/lang/invoke/MethodHandle" ∧ yX0_standsSo.cls ≠ "java/lang/invoke/VarHandle" ∧ (parseMethodDescriptor yX0_standsSo.desc).map (fun d => d.parameters.length) = some 3 := hcV_X0_standsSo.2
theorem hcV_X0_lower : yX0_lower.cls = RX0 ∧ yX0_lower.cls ≠ "java/lang/invoke/MethodHandle" ∧ yX0_lower.cls ≠ "java/lang/invoke/VarHandle" ∧ (parseMethodDescriptor yX0_lower.desc).map (fun d => d.parameters.length) = some 3 := by decide +kernel
theorem hcS_X0_lower : yX0_lower.cls ≠ "java/lang/invoke/MethodHandle" ∧ yX0_lower.cls ≠ "java/lang/invoke/VarHandle" ∧ (parseMethodDescriptor yX0_lower.desc).map (fun d => d.parameters.length) = some 3 := hcV_X0_lower.2
theorem hcV_X0_bestLower : yX0_bestLower.cls = RX0 ∧ yX0_bestLower.cls ≠ "java/lang/invoke/MethodHandle" ∧ yX0_bestLower.cls ≠ "java/lang/invoke/VarHandle" ∧ (parseMethodDescriptor yX0_bestLower.desc).map (fun d => d.parameters.length) = some 2 := by decide +kernel
theorem hcS_X0_bestLower : yX0_bestLower.cls ≠ "java/lang/invoke/MethodHandle" ∧ yX0_bestLower.cls ≠ "java/lang/invoke/VarHandle" ∧ (parseMethodDescriptor yX0_bestLower.desc).map (fun d => d.parameters.length) = some 2 := hcV_X0_bestLower.2
theorem hcV_X0_mayDo : yX0_mayDo.cls = RX0 ∧ yX0_mayDo.cls ≠ "java/lang/invoke/MethodHandle" ∧ yX0_mayDo.cls ≠ "java/lang/invoke/VarHandle" ∧ (parseMethodDescriptor yX0_mayDo.desc).map (fun d => d.parameters.length) = some 1 := by decide +kernel
theorem hcS_X0_mayDo : yX0_mayDo.cls ≠ "java/lang/invoke/MethodHandle" ∧ yX0_mayDo.cls ≠ "java/lang/invoke/VarHandle" ∧ (parseMethodDescriptor yX0_mayDo.desc).map (fun d => d.parameters.length) = some 1 := hcV_X0_mayDo.2
theorem hcV_X0_lowers : yX0_lowers.cls = RX0 ∧ yX0_lowers.cls ≠ "java/lang/invoke/MethodHandle" ∧ yX0_lowers.cls ≠ "java/lang/invoke/VarHandle" ∧ (parseMethodDescriptor yX0_lowers.desc).map (fun d => d.parameters.length) = some 3 := by decide +kernel
theorem hcS_X0_lowers : yX0_lowers.cls ≠ "java/lang/invoke/MethodHandle" ∧ yX0_lowers.cls ≠ "java/lang/invoke/VarHandle" ∧ (parseMethodDescriptor yX0_lowers.desc).map (fun d => d.parameters.length) = some 3 := hcV_X0_lowers.2
theorem hcV_X0_has : yX0_has.cls = RX0 ∧ yX0_has.cls ≠ "java/lang/invoke/MethodHandle" ∧ yX0_has.cls ≠ "java/lang/invoke/VarHandle" ∧ (parseMethodDescriptor yX0_has.desc).map (fun d => d.parameters.length) = some 2 := by decide +kernel
theorem hcS_X0_has : yX0_has.cls ≠ "java/lang/invoke/MethodHandle" ∧ yX0_has.cls ≠ "java/lang/invoke/VarHandle" ∧ (parseMethodDescriptor yX0_has.desc).map (fun d => d.parameters.length) = some 2 := hcV_X0_has.2
theorem hcV_X0_isBetter : yX0_isBetter.cls = RX0 ∧ yX0_isBetter.cls ≠ "java/lang/invoke/MethodHandle" ∧ yX0_isBetter.cls ≠ "java/lang/invoke/VarHandle" ∧ (parseMethodDescriptor yX0_isBetter.desc).map (fun d => d.parameters.length) = some 2 := by decide +kernel
theorem hcS_X0_isBetter : yX0_isBetter.cls ≠ "java/lang/invoke/MethodHandle" ∧ yX0_isBetter.cls ≠ "java/lang/invoke/VarHandle" ∧ (parseMethodDescriptor yX0_isBetter.desc).map (fun d => d.parameters.length) = some 2 := hcV_X0_isBetter.2
theorem hcV_X0_worthOf : yX0_worthOf.cls = RX0 ∧ yX0_worthOf.cls ≠ "java/lang/invoke/MethodHandle" ∧ yX0_worthOf.cls ≠ "java/lang/invoke/VarHandle" ∧ (parseMethodDescriptor yX0_worthOf.desc).map (fun d => d.parameters.length) = some 1 := by decide +kernel
theorem hcS_X0_worthOf : yX0_worthOf.cls ≠ "java/lang/invoke/MethodHandle" ∧ yX0_worthOf.cls ≠ "java/lang/invoke/VarHandle" ∧ (parseMethodDescriptor yX0_worthOf.desc).map (fun d => d.parameters.length) = some 1 := hcV_X0_worthOf.2
theorem hcV_X0_holds : yX0_holds.cls = RX0 ∧ yX0_holds.cls ≠ "java/lang/invoke/MethodHandle" ∧ yX0_holds.cls ≠ "java/lang/invoke/VarHandle" ∧ (parseMethodDescriptor yX0_holds.desc).map (fun d => d.parameters.length) = some 2 := by decide +kernel
theorem hcS_X0_holds : yX0_holds.cls ≠ "java/lang/invoke/MethodHandle" ∧ yX0_holds.cls ≠ "java/lang/invoke/VarHandle" ∧ (parseMethodDescriptor yX0_holds.desc).map (fun d => d.parameters.length) = some 2 := hcV_X0_holds.2
theorem hcV_X0_holder : yX0_holder.cls = RX0 ∧ yX0_holder.cls ≠ "java/lang/invoke/MethodHandle" ∧ yX0_holder.cls ≠ "java/lang/invoke/VarHandle" ∧ (parseMethodDescriptor yX0_holder.desc).map (fun d => d.parameters.length) = some 1 := by decide +kernel
theorem hcS_X0_holder : yX0_holder.cls ≠ "java/lang/invoke/MethodHandle" ∧ yX0_holder.cls ≠ "java/lang/invoke/VarHandle" ∧ (parseMethodDescriptor yX0_holder.desc).map (fun d => d.parameters.length) = some 1 := hcV_X0_holder.2
theorem hcV_X0_ringOf : yX0_ringOf.cls = RX0 ∧ yX0_ringOf.cls ≠ "java/lang/invoke/MethodHandle" ∧ yX0_ringOf.cls ≠ "java/lang/invoke/VarHandle" ∧ (parseMethodDescriptor yX0_ringOf.desc).map (fun d => d.parameters.length) = some 1 := by decide +kernel
theorem hcS_X0_ringOf : yX0_ringOf.cls ≠ "java/lang/invoke/MethodHandle" ∧ yX0_ringOf.cls ≠ "java/lang/invoke/VarHandle" ∧ (parseMethodDescriptor yX0_ringOf.desc).map (fun d => d.parameters.length) = some 1 := hcV_X0_ringOf.2
theorem hcV_X0_endOf : yX0_endOf.cls = RX0 ∧ yX0_endOf.cls ≠ "java/lang/invoke/MethodHandle" ∧ yX0_endOf.cls ≠ "java/lang/invoke/VarHandle" ∧ (parseMethodDescriptor yX0_endOf.desc).map (fun d => d.parameters.length) = some 1 := by decide +kernel
theorem hcS_X0_endOf : yX0_endOf.cls ≠ "java/lang/invoke/MethodHandle" ∧ yX0_endOf.cls ≠ "java/lang/invoke/VarHandle" ∧ (parseMethodDescriptor yX0_endOf.desc).map (fun d => d.parameters.length) = some 1 := hcV_X0_endOf.2
theorem hcV_X0_owedTo : yX0_owedTo.cls = RX0 ∧ yX0_owedTo.cls ≠ "java/lang/invoke/MethodHandle" ∧ yX0_owedTo.cls ≠ "java/lang/invoke/VarHandle" ∧ (parseMethodDescriptor yX0_owedTo.desc).map (fun d => d.parameters.length) = some 1 := by decide +kernel
theorem hcS_X0_owedTo : yX0_owedTo.cls ≠ "java/lang/invoke/MethodHandle" ∧ yX0_owedTo.cls ≠ "java/lang/invoke/VarHandle" ∧ (parseMethodDescriptor yX0_owedTo.desc).map (fun d => d.parameters.length) = some 1 := hcV_X0_owedTo.2
theorem hcV_X0_judge : yX0_judge.cls = RX0 ∧ yX0_judge.cls ≠ "java/lang/invoke/MethodHandle" ∧ yX0_judge.cls ≠ "java/lang/invoke/VarHandle" ∧ (parseMethodDescriptor yX0_judge.desc).map (fun d => d.parameters.length) = some 2 := by decide +kernel
theorem hcS_X0_judge : yX0_judge.cls ≠ "java/lang/invoke/MethodHandle" ∧ yX0_judge.cls ≠ "java/lang/invoke/VarHandle" ∧ (parseMethodDescriptor yX0_judge.desc).map (fun d => d.parameters.length) = some 2 := hcV_X0_judge.2
theorem hcV_X0_layRow : yX0_layRow.cls = RX0 ∧ yX0_layRow.cls ≠ "java/lang/invoke/MethodHandle" ∧ yX0_layRow.cls ≠ "java/lang/invoke/VarHandle" ∧ (parseMethodDescriptor yX0_layRow.desc).map (fun d => d.parameters.length) = some 1 := by decide +kernel
theorem hcS_X0_layRow : yX0_layRow.cls ≠ "java/lang/invoke/MethodHandle" ∧ yX0_layRow.cls ≠ "java/lang/invoke/VarHandle" ∧ (parseMethodDescriptor yX0_layRow.desc).map (fun d => d.parameters.length) = some 1 := hcV_X0_layRow.2
theorem hcV_X0_wrongDay : yX0_wrongDay.cls = RX0 ∧ yX0_wrongDay.cls ≠ "java/lang/invoke/MethodHandle" ∧ yX0_wrongDay.cls ≠ "java/lang/invoke/VarHandle" ∧ (parseMethodDescriptor yX0_wrongDay.desc).map (fun d => d.parameters.length) = some 1 := by decide +kernel
theorem hcS_X0_wrongDay : yX0_wrongDay.cls ≠ "java/lang/invoke/MethodHandle" ∧ yX0_wrongDay.cls ≠ "java/lang/invoke/VarHandle" ∧ (parseMethodDescriptor yX0_wrongDay.desc).map (fun d => d.parameters.length) = some 1 := hcV_X0_wrongDay.2
theorem hcV_X0_fits : yX0_fits.cls = RX0 ∧ yX0_fits.cls ≠ "java/lang/invoke/MethodHandle" ∧ yX0_fits.cls ≠ "java/lang/invoke/VarHandle" ∧ (parseMethodDescriptor yX0_fits.desc).map (fun d => d.parameters.length) = some 4 := by decide +kernel
theorem hcS_X0_fits : yX0_fits.cls ≠ "java/lang/invoke/MethodHandle" ∧ yX0_fits.cls ≠ "java/lang/invoke/VarHandle" ∧ (parseMethodDescriptor yX0_fits.desc).map (fun d => d.parameters.length) = some 4 := hcV_X0_fits.2
theorem hcV_X0_byWorths : yX0_byWorths.cls = RX0 ∧ yX0_byWorths.cls ≠ "java/lang/invoke/MethodHandle" ∧ yX0_byWorths.cls ≠ "java/lang/invoke/VarHandle" ∧ (parseMethodDescriptor yX0_byWorths.desc).map (fun d => d.parameters.length) = some 3 := by decide +kernel
theorem hcS_X0_byWorths : yX0_byWorths.cls ≠ "java/lang/invoke/MethodHandle" ∧ yX0_byWorths.cls ≠ "java/lang/invoke/VarHandle" ∧ (parseMethodDescriptor yX0_byWorths.desc).map (fun d => d.parameters.length) = some 3 := hcV_X0_byWorths.2
theorem hcV_X0_byLasts : yX0_byLasts.cls = RX0 ∧ yX0_byLasts.cls ≠ "java/lang/invoke/MethodHandle" ∧ yX0_byLasts.cls ≠ "java/lang/invoke/VarHandle" ∧ (parseMethodDescriptor yX0_byLasts.desc).map (fun d => d.parameters.length) = some 3 := by decide +kernel
theorem hcS_X0_byLasts : yX0_byLasts.cls ≠ "java/lang/invoke/MethodHandle" ∧ yX0_byLasts.cls ≠ "java/lang/invoke/VarHandle" ∧ (parseMethodDescriptor yX0_byLasts.desc).map (fun d => d.parameters.length) = some 3 := hcV_X0_byLasts.2
theorem hcV_X0_share : yX0_share.cls = RX0 ∧ yX0_share.cls ≠ "java/lang/invoke/MethodHandle" ∧ yX0_share.cls ≠ "java/lang/invoke/VarHandle" ∧ (parseMethodDescriptor yX0_share.desc).map (fun d => d.parameters.length) = some 2 := by decide +kernel
theorem hcS_X0_share : yX0_share.cls ≠ "java/lang/invoke/MethodHandle" ∧ yX0_share.cls ≠ "java/lang/invoke/VarHandle" ∧ (parseMethodDescriptor yX0_share.desc).map (fun d => d.parameters.length) = some 2 := hcV_X0_share.2
theorem hcV_X0_byTurns : yX0_byTurns.cls = RX0 ∧ yX0_byTurns.cls ≠ "java/lang/invoke/MethodHandle" ∧ yX0_byTurns.cls ≠ "java/lang/invoke/VarHandle" ∧ (parseMethodDescriptor yX0_byTurns.desc).map (fun d => d.parameters.length) = some 3 := by decide +kernel
theorem hcS_X0_byTurns : yX0_byTurns.cls ≠ "java/lang/invoke/MethodHandle" ∧ yX0_byTurns.cls ≠ "java/lang/invoke/VarHandle" ∧ (parseMethodDescriptor yX0_byTurns.desc).map (fun d => d.parameters.length) = some 3 := hcV_X0_byTurns.2
theorem hcV_X0_bestOf : yX0_bestOf.cls = RX0 ∧ yX0_bestOf.cls ≠ "java/lang/invoke/MethodHandle" ∧ yX0_bestOf.cls ≠ "java/lang/invoke/VarHandle" ∧ (parseMethodDescriptor yX0_bestOf.desc).map (fun d => d.parameters.length) = some 2 := by decide +kernel
theorem hcS_X0_bestOf : yX0_bestOf.cls ≠ "java/lang/invoke/MethodHandle" ∧ yX0_bestOf.cls ≠ "java/lang/invoke/VarHandle" ∧ (parseMethodDescriptor yX0_bestOf.desc).map (fun d => d.parameters.length) = some 2 := hcV_X0_bestOf.2
theorem hcV_X0_byDeed : yX0_byDeed.cls = RX0 ∧ yX0_byDeed.cls ≠ "java/lang/invoke/MethodHandle" ∧ yX0_byDeed.cls ≠ "java/lang/invoke/VarHandle" ∧ (parseMethodDescriptor yX0_byDeed.desc).map (fun d => d.parameters.length) = some 3 := by decide +kernel
theorem hcS_X0_byDeed : yX0_byDeed.cls ≠ "java/lang/invoke/MethodHandle" ∧ yX0_byDeed.cls ≠ "java/lang/invoke/VarHandle" ∧ (parseMethodDescriptor yX0_byDeed.desc).map (fun d => d.parameters.length) = some 3 := hcV_X0_byDeed.2
theorem hcV_X0_drawn : yX0_drawn.cls = RX0 ∧ yX0_drawn.cls ≠ "java/lang/invoke/MethodHandle" ∧ yX0_drawn.cls ≠ "java/lang/invoke/VarHandle" ∧ (parseMethodDescriptor yX0_drawn.desc).map (fun d => d.parameters.length) = some 3 := by decide +kernel
theorem hcS_X0_drawn : yX0_drawn.cls ≠ "java/lang/invoke/MethodHandle" ∧ yX0_drawn.cls ≠ "java/lang/invoke/VarHandle" ∧ (parseMethodDescriptor yX0_drawn.desc).map (fun d => d.parameters.length) = some 3 := hcV_X0_drawn.2
theorem hcV_X0_doneBits : yX0_doneBits.cls = RX0 ∧ yX0_doneBits.cls ≠ "java/lang/invoke/MethodHandle" ∧ yX0_doneBits.cls ≠ "java/lang/invoke/VarHandle" ∧ (parseMethodDescriptor yX0_doneBits.desc).map (fun d => d.parameters.length) = some 0 := by decide +kernel
theorem hcS_X0_doneBits : yX0_doneBits.cls ≠ "java/lang/invoke/MethodHandle" ∧ yX0_doneBits.cls ≠ "java/lang/invoke/VarHandle" ∧ (parseMethodDescriptor yX0_doneBits.desc).map (fun d => d.parameters.length) = some 0 := hcV_X0_doneBits.2
theorem hcV_X0_goDraw : yX0_goDraw.cls = RX0 ∧ yX0_goDraw.cls ≠ "java/lang/invoke/MethodHandle" ∧ yX0_goDraw.cls ≠ "java/lang/invoke/VarHandle" ∧ (parseMethodDescriptor yX0_goDraw.desc).map (fun d => d.parameters.length) = some 3 := by decide +kernel
theorem hcS_X0_goDraw : yX0_goDraw.cls ≠ "java/lang/invoke/MethodHandle" ∧ yX0_goDraw.cls ≠ "java/lang/invoke/VarHandle" ∧ (parseMethodDescriptor yX0_goDraw.desc).map (fun d => d.parameters.length) = some 3 := hcV_X0_goDraw.2
theorem hcV_X0_layDone : yX0_layDone.cls = RX0 ∧ yX0_layDone.cls ≠ "java/lang/invoke/MethodHandle" ∧ yX0_layDone.cls ≠ "java/lang/invoke/VarHandle" ∧ (parseMethodDescriptor yX0_layDone.desc).map (fun d => d.parameters.length) = some 1 := by decide +kernel
theorem hcS_X0_layDone : yX0_layDone.cls ≠ "java/lang/invoke/MethodHandle" ∧ yX0_layDone.cls ≠ "java/lang/invoke/VarHandle" ∧ (parseMethodDescriptor yX0_layDone.desc).map (fun d => d.parameters.length) = some 1 := hcV_X0_layDone.2
theorem hcV_X0_does : yX0_does.cls = RX0 ∧ yX0_does.cls ≠ "java/lang/invoke/MethodHandle" ∧ yX0_does.cls ≠ "java/lang/invoke/VarHandle" ∧ (parseMethodDescriptor yX0_does.desc).map (fun d => d.parameters.length) = some 2 := by decide +kernel
theorem hcS_X0_does : yX0_does.cls ≠ "java/lang/invoke/MethodHandle" ∧ yX0_does.cls ≠ "java/lang/invoke/VarHandle" ∧ (parseMethodDescriptor yX0_does.desc).map (fun d => d.parameters.length) = some 2 := hcV_X0_does.2
theorem hcV_X0_release : yX0_release.cls = RX0 ∧ yX0_release.cls ≠ "java/lang/invoke/MethodHandle" ∧ yX0_release.cls ≠ "java/lang/invoke/VarHandle" ∧ (parseMethodDescriptor yX0_release.desc).map (fun d => d.parameters.length) = some 1 := by decide +kernel
theorem hcS_X0_release : yX0_release.cls ≠ "java/lang/invoke/MethodHandle" ∧ yX0_release.cls ≠ "java/lang/invoke/VarHandle" ∧ (parseMethodDescriptor yX0_release.desc).map (fun d => d.parameters.length) = some 1 := hcV_X0_release.2
theorem hcV_X0_days : yX0_days.cls = RX0 ∧ yX0_days.cls ≠ "java/lang/invoke/MethodHandle" ∧ yX0_days.cls ≠ "java/lang/invoke/VarHandle" ∧ (parseMethodDescriptor yX0_days.desc).map (fun d => d.parameters.length) = some 1 := by decide +kernel
theorem hcS_X0_days : yX0_days.cls ≠ "java/lang/invoke/MethodHandle" ∧ yX0_days.cls ≠ "java/lang/invoke/VarHandle" ∧ (parseMethodDescriptor yX0_days.desc).map (fun d => d.parameters.length) = some 1 := hcV_X0_days.2
theorem hcV_X0_led : yX0_led.cls = RX0 ∧ yX0_led.cls ≠ "java/lang/invoke/MethodHandle" ∧ yX0_led.cls ≠ "java/lang/invoke/VarHandle" ∧ (parseMethodDescriptor yX0_led.desc).map (fun d => d.parameters.length) = some 1 := by decide +kernel
theorem hcS_X0_led : yX0_led.cls ≠ "java/lang/invoke/MethodHandle" ∧ yX0_led.cls ≠ "java/lang/invoke/VarHandle" ∧ (parseMethodDescriptor yX0_led.desc).map (fun d => d.parameters.length) = some 1 := hcV_X0_led.2
theorem hcV_X0_image : yX0_image.cls = RX0 ∧ yX0_image.cls ≠ "java/lang/invoke/MethodHandle" ∧ yX0_image.cls ≠ "java/lang/invoke/VarHandle" ∧ (parseMethodDescriptor yX0_image.desc).map (fun d => d.parameters.length) = some 0 := by decide +kernel
theorem hcS_X0_image : yX0_image.cls ≠ "java/lang/invoke/MethodHandle" ∧ yX0_image.cls ≠ "java/lang/invoke/VarHandle" ∧ (parseMethodDescriptor yX0_image.desc).map (fun d => d.parameters.length) = some 0 := hcV_X0_image.2
theorem hcV_X0_back : yX0_back.cls = RX0 ∧ yX0_back.cls ≠ "java/lang/invoke/MethodHandle" ∧ yX0_back.cls ≠ "java/lang/invoke/VarHandle" ∧ (parseMethodDescriptor yX0_back.desc).map (fun d => d.parameters.length) = some 0 := by decide +kernel
theorem hcS_X0_back : yX0_back.cls ≠ "java/lang/invoke/MethodHandle" ∧ yX0_back.cls ≠ "java/lang/invoke/VarHandle" ∧ (parseMethodDescriptor yX0_back.desc).map (fun d => d.parameters.length) = some 0 := hcV_X0_back.2
theorem hcV_X0_body : yX0_body.cls = RX0 ∧ yX0_body.cls ≠ "java/lang/invoke/MethodHandle" ∧ yX0_body.cls ≠ "java/lang/invoke/VarHandle" ∧ (parseMethodDescriptor yX0_body.desc).map (fun d => d.parameters.length) = some 1 := by decide +kernel
theorem hcS_X0_body : yX0_body.cls ≠ "java/lang/invoke/MethodHandle" ∧ yX0_body.cls ≠ "java/lang/invoke/VarHandle" ∧ (parseMethodDescriptor yX0_body.desc).map (fun d => d.parameters.length) = some 1 := hcV_X0_body.2
theorem hcV_X0_bodyOf : yX0_bodyOf.cls = RX0 ∧ yX0_bodyOf.cls ≠ "java/lang/invoke/MethodHandle" ∧ yX0_bodyOf.cls ≠ "java/lang/invoke/VarHandle" ∧ (parseMethodDescriptor yX0_bodyOf.desc).map (fun d => d.parameters.length) = some 1 := by decide +kernel
theorem hcS_X0_bodyOf : yX0_bodyOf.cls ≠ "java/lang/invoke/MethodHandle" ∧ yX0_bodyOf.cls ≠ "java/lang/invoke/VarHandle" ∧ (parseMethodDescriptor yX0_bodyOf.desc).map (fun d => d.parameters.length) = some 1 := hcV_X0_bodyOf.2
theorem hcV_X0_act : yX0_act.cls = RX0 ∧ yX0_act.cls ≠ "java/lang/invoke/MethodHandle" ∧ yX0_act.cls ≠ "java/lang/invoke/VarHandle" ∧ (parseMethodDescriptor yX0_act.desc).map (fun d => d.parameters.length) = some 3 := by decide +kernel
theorem hcS_X0_act : yX0_act.cls ≠ "java/lang/invoke/MethodHandle" ∧ yX0_act.cls ≠ "java/lang/invoke/VarHandle" ∧ (parseMethodDescriptor yX0_act.desc).map (fun d => d.parameters.length) = some 3 := hcV_X0_act.2
theorem hcV_X0_isBody : yX0_isBody.cls = RX0 ∧ yX0_isBody.cls ≠ "java/lang/invoke/MethodHandle" ∧ yX0_isBody.cls ≠ "java/lang/invoke/VarHandle" ∧ (parseMethodDescriptor yX0_isBody.desc).map (fun d => d.parameters.length) = some 1 := by decide +kernel
theorem hcS_X0_isBody : yX0_isBody.cls ≠ "java/lang/invoke/MethodHandle" ∧ yX0_isBody.cls ≠ "java/lang/invoke/VarHandle" ∧ (parseMethodDescriptor yX0_isBody.desc).map (fun d => d.parameters.length) = some 1 := hcV_X0_isBody.2
theorem hcV_X0_ran : yX0_ran.cls = RX0 ∧ yX0_ran.cls ≠ "java/lang/invoke/MethodHandle" ∧ yX0_ran.cls ≠ "java/lang/invoke/VarHandle" ∧ (parseMethodDescriptor yX0_ran.desc).map (fun d => d.parameters.length) = some 1 := by decide +kernel
theorem hcS_X0_ran : yX0_ran.cls ≠ "java/lang/invoke/MethodHandle" ∧ yX0_ran.cls ≠ "java/lang/invoke/VarHandle" ∧ (parseMethodDescriptor yX0_ran.desc).map (fun d => d.parameters.length) = some 1 := hcV_X0_ran.2
theorem hcV_X0_trace : yX0_trace.cls = RX0 ∧ yX0_trace.cls ≠ "java/lang/invoke/MethodHandle" ∧ yX0_trace.cls ≠ "java/lang/invoke/VarHandle" ∧ (parseMethodDescriptor yX0_trace.desc).map (fun d => d.parameters.length) = some 1 := by decide +kernel
theorem hcS_X0_trace : yX0_trace.cls ≠ "java/lang/invoke/MethodHandle" ∧ yX0_trace.cls ≠ "java/lang/invoke/VarHandle" ∧ (parseMethodDescriptor yX0_trace.desc).map (fun d => d.parameters.length) = some 1 := hcV_X0_trace.2
theorem hcV_X0_keep : yX0_keep.cls = RX0 ∧ yX0_keep.cls ≠ "java/lang/invoke/MethodHandle" ∧ yX0_keep.cls ≠ "java/lang/invoke/VarHandle" ∧ (parseMethodDescriptor yX0_keep.desc).map (fun d => d.parameters.length) = some 2 := by decide +kernel
theorem hcS_X0_keep : yX0_keep.cls ≠ "java/lang/invoke/MethodHandle" ∧ yX0_keep.cls ≠ "java/lang/invoke/VarHandle" ∧ (parseMethodDescriptor yX0_keep.desc).map (fun d => d.parameters.length) = some 2 := hcV_X0_keep.2
theorem hcV_X0_row : yX0_row.cls = RX0 ∧ yX0_row.cls ≠ "java/lang/invoke/MethodHandle" ∧ yX0_row.cls ≠ "java/lang/invoke/VarHandle" ∧ (parseMethodDescriptor yX0_row.desc).map (fun d => d.parameters.length) = some 3 := by decide +kernel
theorem hcS_X0_row : yX0_row.cls ≠ "java/lang/invoke/MethodHandle" ∧ yX0_row.cls ≠ "java/lang/invoke/VarHandle" ∧ (parseMethodDescriptor yX0_row.desc).map (fun d => d.parameters.length) = some 3 := hcV_X0_row.2
theorem hcV_X0_newRow : yX0_newRow.cls = RX0 ∧ yX0_newRow.cls ≠ "java/lang/invoke/MethodHandle" ∧ yX0_newRow.cls ≠ "java/lang/invoke/VarHandle" ∧ (parseMethodDescriptor yX0_newRow.desc).map (fun d => d.parameters.length) = some 2 := by decide +kernel
theorem hcS_X0_newRow : yX0_newRow.cls ≠ "java/lang/invoke/MethodHandle" ∧ yX0_newRow.cls ≠ "java/lang/invoke/VarHandle" ∧ (parseMethodDescriptor yX0_newRow.desc).map (fun d => d.parameters.length) = some 2 := hcV_X0_newRow.2
theorem hcV_X0_put : yX0_put.cls = RX0 ∧ yX0_put.cls ≠ "java/lang/invoke/MethodHandle" ∧ yX0_put.cls ≠ "java/lang/invoke/VarHandle" ∧ (parseMethodDescriptor yX0_put.desc).map (fun d => d.parameters.length) = some 3 := by decide +kernel
theorem hcS_X0_put : yX0_put.cls ≠ "java/lang/invoke/MethodHandle" ∧ yX0_put.cls ≠ "java/lang/invoke/VarHandle" ∧ (parseMethodDescriptor yX0_put.desc).map (fun d => d.parameters.length) = some 3 := hcV_X0_put.2
theorem hcV_X0_element : yX0_element.cls = RX0 ∧ yX0_element.cls ≠ "java/lang/invoke/MethodHandle" ∧ yX0_element.cls ≠ "java/lang/invoke/VarHandle" ∧ (parseMethodDescriptor yX0_element.desc).map (fun d => d.parameters.length) = some 2 := by decide +kernel
theorem hcS_X0_element : yX0_element.cls ≠ "java/lang/invoke/MethodHandle" ∧ yX0_element.cls ≠ "java/lang/invoke/VarHandle" ∧ (parseMethodDescriptor yX0_element.desc).map (fun d => d.parameters.length) = some 2 := hcV_X0_element.2
theorem hcV_X0_shift : yX0_shift.cls = RX0 ∧ yX0_shift.cls ≠ "java/lang/invoke/MethodHandle" ∧ yX0_shift.cls ≠ "java/lang/invoke/VarHandle" ∧ (parseMethodDescriptor yX0_shift.desc).map (fun d => d.parameters.length) = some 5 := by decide +kernel
theorem hcS_X0_shift : yX0_shift.cls ≠ "java/lang/invoke/MethodHandle" ∧ yX0_shift.cls ≠ "java/lang/invoke/VarHandle" ∧ (parseMethodDescriptor yX0_shift.desc).map (fun d => d.parameters.length) = some 5 := hcV_X0_shift.2
theorem hcV_X0_taken : yX0_taken.cls = RX0 ∧ yX0_taken.cls ≠ "java/lang/invoke/MethodHandle" ∧ yX0_taken.cls ≠ "java/lang/invoke/VarHandle" ∧ (parseMethodDescriptor yX0_taken.desc).map (fun d => d.parameters.length) = some 2 := by decide +kernel
theorem hcS_X0_taken : yX0_taken.cls ≠ "java/lang/invoke/MethodHandle" ∧ yX0_taken.cls ≠ "java/lang/invoke/VarHandle" ∧ (parseMethodDescriptor yX0_taken.desc).map (fun d => d.parameters.length) = some 2 := hcV_X0_taken.2
theorem hcV_X0_count : yX0_count.cls = RX0 ∧ yX0_count.cls ≠ "java/lang/invoke/MethodHandle" ∧ yX0_count.cls ≠ "java/lang/invoke/VarHandle" ∧ (parseMethodDescriptor yX0_count.desc).map (fun d => d.parameters.length) = some 1 := by decide +kernel
theorem hcS_X0_count : yX0_count.cls ≠ "java/lang/invoke/MethodHandle" ∧ yX0_count.cls ≠ "java/lang/invoke/VarHandle" ∧ (parseMethodDescriptor yX0_count.desc).map (fun d => d.parameters.length) = some 1 := hcV_X0_count.2
theorem hcV_X1_init : yX1_init.cls = RX1 ∧ yX1_init.cls ≠ "java/lang/invoke/MethodHandle" ∧ yX1_init.cls ≠ "java/lang/invoke/VarHandle" ∧ (parseMethodDescriptor yX1_init.desc).map (fun d => d.parameters.length) = some 0 := by decide +kernel
theorem hcS_X1_init : yX1_init.cls ≠ "java/lang/invoke/MethodHandle" ∧ yX1_init.cls ≠ "java/lang/invoke/VarHandle" ∧ (parseMethodDescriptor yX1_init.desc).map (fun d => d.parameters.length) = some 0 := hcV_X1_init.2
theorem hcV_X1_clear : yX1_clear.cls = RX1 ∧ yX1_clear.cls ≠ "java/lang/invoke/MethodHandle" ∧ yX1_clear.cls ≠ "java/lang/invoke/VarHandle" ∧ (parseMethodDescriptor yX1_clear.desc).map (fun d => d.parameters.length) = some 0 := by decide +kernel
theorem hcS_X1_clear : yX1_clear.cls ≠ "java/lang/invoke/MethodHandle" ∧ yX1_clear.cls ≠ "java/lang/invoke/VarHandle" ∧ (parseMethodDescriptor yX1_clear.desc).map (fun d => d.parameters.length) = some 0 := hcV_X1_clear.2
theorem hcV_X10_init : yX10_init.cls = RX10 ∧ yX10_init.cls ≠ "java/lang/invoke/MethodHandle" ∧ yX10_init.cls ≠ "java/lang/invoke/VarHandle" ∧ (parseMethodDescriptor yX10_init.desc).map (fun d => d.parameters.length) = some 1 := by decide +kernel
theorem hcS_X10_init : yX10_init.cls ≠ "java/lang/invoke/MethodHandle" ∧ yX10_init.cls ≠ "java/lang/invoke/VarHandle" ∧ (parseMethodDescriptor yX10_init.desc).map (fun d => d.parameters.length) = some 1 := hcV_X10_init.2
theorem hcV_X10_value : yX10_value.cls = RX10 ∧ yX10_value.cls ≠ "java/lang/invoke/MethodHandle" ∧ yX10_value.cls ≠ "java/lang/invoke/VarHandle" ∧ (parseMethodDescriptor yX10_value.desc).map (fun d => d.parameters.length) = some 1 := by decide +kernel
theorem hcS_X10_value : yX10_value.cls ≠ "java/lang/invoke/MethodHandle" ∧ yX10_value.cls ≠ "java/lang/invoke/VarHandle" ∧ (parseMethodDescriptor yX10_value.desc).map (fun d => d.parameters.length) = some 1 := hcV_X10_value.2
theorem hcV_X11_init : yX11_init.cls = RX11 ∧ yX11_init.cls ≠ "java/lang/invoke/MethodHandle" ∧ yX11_init.cls ≠ "java/lang/invoke/VarHandle" ∧ (parseMethodDescriptor yX11_init.desc).map (fun d => d.parameters.length) = some 1 := by decide +kernel
theorem hcS_X11_init : yX11_init.cls ≠ "java/lang/invoke/MethodHandle" ∧ yX11_init.cls ≠ "java/lang/invoke/VarHandle" ∧ (parseMethodDescriptor yX11_init.desc).map (fun d => d.parameters.length) = some 1 := hcV_X11_init.2
theorem hcV_X11_value : yX11_value.cls = RX11 ∧ yX11_value.cls ≠ "java/lang/invoke/MethodHandle" ∧ yX11_value.cls ≠ "java/lang/invoke/VarHandle" ∧ (parseMethodDescriptor yX11_value.desc).map (fun d => d.parameters.length) = some 1 := by decide +kernel
theorem hcS_X11_value : yX11_value.cls ≠ "java/lang/invoke/MethodHandle" ∧ yX11_value.cls ≠ "java/lang/invoke/VarHandle" ∧ (parseMethodDescriptor yX11_value.desc).map (fun d => d.parameters.length) = some 1 := hcV_X11_value.2
theorem hcV_X12_init : yX12_init.cls = RX12 ∧ yX12_init.cls ≠ "java/lang/invoke/MethodHandle" ∧ yX12_init.cls ≠ "java/lang/invoke/VarHandle" ∧ (parseMethodDescriptor yX12_init.desc).map (fun d => d.parameters.length) = some 1 := by decide +kernel
theorem hcS_X12_init : yX12_init.cls ≠ "java/lang/invoke/MethodHandle" ∧ yX12_init.cls ≠ "java/lang/invoke/VarHandle" ∧ (parseMethodDescriptor yX12_init.desc).map (fun d => d.parameters.length) = some 1 := hcV_X12_init.2
theorem hcV_X12_value : yX12_value.cls = RX12 ∧ yX12_value.cls ≠ "java/lang/invoke/MethodHandle" ∧ yX12_value.cls ≠ "java/lang/invoke/VarHandle" ∧ (parseMethodDescriptor yX12_value.desc).map (fun d => d.parameters.length) = some 1 := by decide +kernel
theorem hcS_X12_value : yX12_value.cls ≠ "java/lang/invoke/MethodHandle" ∧ yX12_value.cls ≠ "java/lang/invoke/VarHandle" ∧ (parseMethodDescriptor yX12_value.desc).map (fun d => d.parameters.length) = some 1 := hcV_X12_value.2
theorem hcV_X13_init : yX13_init.cls = RX13 ∧ yX13_init.cls ≠ "java/lang/invoke/MethodHandle" ∧ yX13_init.cls ≠ "java/lang/invoke/VarHandle" ∧ (parseMethodDescriptor yX13_init.desc).map (fun d => d.parameters.length) = some 3 := by decide +kernel
theorem hcS_X13_init : yX13_init.cls ≠ "java/lang/invoke/MethodHandle" ∧ yX13_init.cls ≠ "java/lang/invoke/VarHandle" ∧ (parseMethodDescriptor yX13_init.desc).map (fun d => d.parameters.length) = some 3 := hcV_X13_init.2
theorem hcV_X13_value : yX13_value.cls = RX13 ∧ yX13_value.cls ≠ "java/lang/invoke/MethodHandle" ∧ yX13_value.cls ≠ "java/lang/invoke/VarHandle" ∧ (parseMethodDescriptor yX13_value.desc).map (fun d => d.parameters.length) = some 1 := by decide +kernel
theorem hcS_X13_value : yX13_value.cls ≠ "java/lang/invoke/MethodHandle" ∧ yX13_value.cls ≠ "java/lang/invoke/VarHandle" ∧ (parseMethodDescriptor yX13_value.desc).map (fun d => d.parameters.length) = some 1 := hcV_X13_value.2
theorem hcV_X13_is : yX13_is.cls = RX13 ∧ yX13_is.cls ≠ "java/lang/invoke/MethodHandle" ∧ yX13_is.cls ≠ "java/lang/invoke/VarHandle" ∧ (parseMethodDescriptor yX13_is.desc).map (fun d => d.parameters.length) = some 1 := by decide +kernel
theorem hcS_X13_is : yX13_is.cls ≠ "java/lang/invoke/MethodHandle" ∧ yX13_is.cls ≠ "java/lang/invoke/VarHandle" ∧ (parseMethodDescriptor yX13_is.desc).map (fun d => d.parameters.length) = some 1 := hcV_X13_is.2
theorem hcV_X14_init : yX14_init.cls = RX14 ∧ yX14_init.cls ≠ "java/lang/invoke/MethodHandle" ∧ yX14_init.cls ≠ "java/lang/invoke/VarHandle" ∧ (parseMethodDescriptor yX14_init.desc).map (fun d => d.parameters.length) = some 0 := by decide +kernel
theorem hcS_X14_init : yX14_init.cls ≠ "java/lang/invoke/MethodHandle" ∧ yX14_init.cls ≠ "java/lang/invoke/VarHandle" ∧ (parseMethodDescriptor yX14_init.desc).map (fun d => d.parameters.length) = some 0 := hcV_X14_init.2
theorem hcV_X15_init : yX15_init.cls = RX15 ∧ yX15_init.cls ≠ "java/lang/invoke/MethodHandle" ∧ yX15_init.cls ≠ "java/lang/invoke/VarHandle" ∧ (parseMethodDescriptor yX15_init.desc).map (fun d => d.parameters.length) = some 2 := by decide +kernel
theorem hcS_X15_init : yX15_init.cls ≠ "java/lang/invoke/MethodHandle" ∧ yX15_init.cls ≠ "java/lang/invoke/VarHandle" ∧ (parseMethodDescriptor yX15_init.desc).map (fun d => d.parameters.length) = some 2 := hcV_X15_init.2
theorem hcV_X15_swears : yX15_swears.cls = RX15 ∧ yX15_swears.cls ≠ "java/lang/invoke/MethodHandle" ∧ yX15_swears.cls ≠ "java/lang/invoke/VarHandle" ∧ (parseMethodDescriptor yX15_swears.desc).map (fun d => d.parameters.length) = some 1 := by decide +kernel
theorem hcS_X15_swears : yX15_swears.cls ≠ "java/lang/invoke/MethodHandle" ∧ yX15_swears.cls ≠ "java/lang/invoke/VarHandle" ∧ (parseMethodDescriptor yX15_swears.desc).map (fun d => d.parameters.length) = some 1 := hcV_X15_swears.2
theorem hcV_X15_tells : yX15_tells.cls = RX15 ∧ yX15_tells.cls ≠ "java/lang/invoke/MethodHandle" ∧ yX15_tells.cls ≠ "java/lang/invoke/VarHandle" ∧ (parseMethodDescriptor yX15_tells.desc).map (fun d => d.parameters.length) = some 1 := by decide +kernel
theorem hcS_X15_tells : yX15_tells.cls ≠ "java/lang/invoke/MethodHandle" ∧ yX15_tells.cls ≠ "java/lang/invoke/VarHandle" ∧ (parseMethodDescriptor yX15_tells.desc).map (fun d => d.parameters.length) = some 1 := hcV_X15_tells.2
theorem hcV_X15_builds : yX15_builds.cls = RX15 ∧ yX15_builds.cls ≠ "java/lang/invoke/MethodHandle" ∧ yX15_builds.cls ≠ "java/lang/invoke/VarHandle" ∧ (parseMethodDescriptor yX15_builds.desc).map (fun d => d.parameters.length) = some 1 := by decide +kernel
theorem hcS_X15_builds : yX15_builds.cls ≠ "java/lang/invoke/MethodHandle" ∧ yX15_builds.cls ≠ "java/lang/invoke/VarHandle" ∧ (parseMethodDescriptor yX15_builds.desc).map (fun d => d.parameters.length) = some 1 := hcV_X15_builds.2
theorem hcV_X15_comesDown : yX15_comesDown.cls = RX15 ∧ yX15_comesDown.cls ≠ "java/lang/invoke/MethodHandle" ∧ yX15_comesDown.cls ≠ "java/lang/invoke/VarHandle" ∧ (parseMethodDescriptor yX15_comesDown.desc).map (fun d => d.parameters.length) = some 1 := by decide +kernel
theorem hcS_X15_comesDown : yX15_comesDown.cls ≠ "java/lang/invoke/MethodHandle" ∧ yX15_comesDown.cls ≠ "java/lang/invoke/VarHandle" ∧ (parseMethodDescriptor yX15_comesDown.desc).map (fun d => d.parameters.length) = some 1 := hcV_X15_comesDown.2
theorem hcV_X15_isUnder : yX15_isUnder.cls = RX15 ∧ yX15_isUnder.cls ≠ "java/lang/invoke/MethodHandle" ∧ yX15_isUnder.cls ≠ "java/lang/invoke/VarHandle" ∧ (parseMethodDescriptor yX15_isUnder.desc).map (fun d => d.parameters.length) = some 1 := by decide +kernel
theorem hcS_X15_isUnder : yX15_isUnder.cls ≠ "java/lang/invoke/MethodHandle" ∧ yX15_isUnder.cls ≠ "java/lang/invoke/VarHandle" ∧ (parseMethodDescriptor yX15_isUnder.desc).map (fun d => d.parameters.length) = some 1 := hcV_X15_isUnder.2
theorem hcV_X15_kind : yX15_kind.cls = RX15 ∧ yX15_kind.cls ≠ "java/lang/invoke/MethodHandle" ∧ yX15_kind.cls ≠ "java/lang/invoke/VarHandle" ∧ (parseMethodDescriptor yX15_kind.desc).map (fun d => d.parameters.length) = some 0 := by decide +kernel
theorem hcS_X15_kind : yX15_kind.cls ≠ "java/lang/invoke/MethodHandle" ∧ yX15_kind.cls ≠ "java/lang/invoke/VarHandle" ∧ (parseMethodDescriptor yX15_kind.desc).map (fun d => d.parameters.length) = some 0 := hcV_X15_kind.2
theorem hcV_X16_init : yX16_init.cls = RX16 ∧ yX16_init.cls ≠ "java/lang/invoke/MethodHandle" ∧ yX16_init.cls ≠ "java/lang/invoke/VarHandle" ∧ (parseMethodDescriptor yX16_init.desc).map (fun d => d.parameters.length) = some 2 := by decide +kernel
theorem hcS_X16_init : yX16_init.cls ≠ "java/lang/invoke/MethodHandle" ∧ yX16_init.cls ≠ "java/lang/invoke/VarHandle" ∧ (parseMethodDescriptor yX16_init.desc).map (fun d => d.parameters.length) = some 2 := hcV_X16_init.2
theorem hcV_X16_swears : yX16_swears.cls = RX16 ∧ yX16_swears.cls ≠ "java/lang/invoke/MethodHandle" ∧ yX16_swears.cls ≠ "java/lang/invoke/VarHandle" ∧ (parseMethodDescriptor yX16_swears.desc).map (fun d => d.parameters.length) = some 1 := by decide +kernel
theorem hcS_X16_swears : yX16_swears.cls ≠ "java/lang/invoke/MethodHandle" ∧ yX16_swears.cls ≠ "java/lang/invoke/VarHandle" ∧ (parseMethodDescriptor yX16_swears.desc).map (fun d => d.parameters.length) = some 1 := hcV_X16_swears.2
theorem hcV_X16_isUnder : yX16_isUnder.cls = RX16 ∧ yX16_isUnder.cls ≠ "java/lang/invoke/MethodHandle" ∧ yX16_isUnder.cls ≠ "java/lang/invoke/VarHandle" ∧ (parseMethodDescriptor yX16_isUnder.desc).map (fun d => d.parameters.length) = some 1 := by decide +kernel
theorem hcS_X16_isUnder : yX16_isUnder.cls ≠ "java/lang/invoke/MethodHandle" ∧ yX16_isUnder.cls ≠ "java/lang/invoke/VarHandle" ∧ (parseMethodDescriptor yX16_isUnder.desc).map (fun d => d.parameters.length) = some 1 := hcV_X16_isUnder.2
theorem hcV_X16_kind : yX16_kind.cls = RX16 ∧ yX16_kind.cls ≠ "java/lang/invoke/MethodHandle" ∧ yX16_kind.cls ≠ "java/lang/invoke/VarHandle" ∧ (parseMethodDescriptor yX16_kind.desc).map (fun d => d.parameters.length) = some 0 := by decide +kernel
theorem hcS_X16_kind : yX16_kind.cls ≠ "java/lang/invoke/MethodHandle" ∧ yX16_kind.cls ≠ "java/lang/invoke/VarHandle" ∧ (parseMethodDescriptor yX16_kind.desc).map (fun d => d.parameters.length) = some 0 := hcV_X16_kind.2
theorem hcV_X17_init : yX17_init.cls = RX17 ∧ yX17_init.cls ≠ "java/lang/invoke/MethodHandle" ∧ yX17_init.cls ≠ "java/lang/invoke/VarHandle" ∧ (parseMethodDescriptor yX17_init.desc).map (fun d => d.parameters.length) = some 2 := by decide +kernel
theorem hcS_X17_init : yX17_init.cls ≠ "java/lang/invoke/MethodHandle" ∧ yX17_init.cls ≠ "java/lang/invoke/VarHandle" ∧ (parseMethodDescriptor yX17_init.desc).map (fun d => d.parameters.length) = some 2 := hcV_X17_init.2
theorem hcV_X17_builds : yX17_builds.cls = RX17 ∧ yX17_builds.cls ≠ "java/lang/invoke/MethodHandle" ∧ yX17_builds.cls ≠ "java/lang/invoke/VarHandle" ∧ (parseMethodDescriptor yX17_builds.desc).map (fun d => d.parameters.length) = some 1 := by decide +kernel
theorem hcS_X17_builds : yX17_builds.cls ≠ "java/lang/invoke/MethodHandle" ∧ yX17_builds.cls ≠ "java/lang/invoke/VarHandle" ∧ (parseMethodDescriptor yX17_builds.desc).map (fun d => d.parameters.length) = some 1 := hcV_X17_builds.2
theorem hcV_X17_kind : yX17_kind.cls = RX17 ∧ yX17_kind.cls ≠ "java/lang/invoke/MethodHandle" ∧ yX17_kind.cls ≠ "java/lang/invoke/VarHandle" ∧ (parseMethodDescriptor yX17_kind.desc).map (fun d => d.parameters.length) = some 0 := by decide +kernel
theorem hcS_X17_kind : yX17_kind.cls ≠ "java/lang/invoke/MethodHandle" ∧ yX17_kind.cls ≠ "java/lang/invoke/VarHandle" ∧ (parseMethodDescriptor yX17_kind.desc).map (fun d => d.parameters.length) = some 0 := hcV_X17_kind.2
theorem hcV_X17_isUnder : yX17_isUnder.cls = RX17 ∧ yX17_isUnder.cls ≠ "java/lang/invoke/MethodHandle" ∧ yX17_isUnder.cls ≠ "java/lang/invoke/VarHandle" ∧ (parseMethodDescriptor yX17_isUnder.desc).map (fun d => d.parameters.length) = some 1 := by decide +kernel
theorem hcS_X17_isUnder : yX17_isUnder.cls ≠ "java/lang/invoke/MethodHandle" ∧ yX17_isUnder.cls ≠ "java/lang/invoke/VarHandle" ∧ (parseMethodDescriptor yX17_isUnder.desc).map (fun d => d.parameters.length) = some 1 := hcV_X17_isUnder.2
theorem hcV_X18_init : yX18_init.cls = RX18 ∧ yX18_init.cls ≠ "java/lang/invoke/MethodHandle" ∧ yX18_init.cls ≠ "java/lang/invoke/VarHandle" ∧ (parseMethodDescriptor yX18_init.desc).map (fun d => d.parameters.length) = some 2 := by decide +kernel
theorem hcS_X18_init : yX18_init.cls ≠ "java/lang/invoke/MethodHandle" ∧ yX18_init.cls ≠ "java/lang/invoke/VarHandle" ∧ (parseMethodDescriptor yX18_init.desc).map (fun d => d.parameters.length) = some 2 := hcV_X18_init.2
theorem hcV_X18_builds : yX18_builds.cls = RX18 ∧ yX18_builds.cls ≠ "java/lang/invoke/MethodHandle" ∧ yX18_builds.cls ≠ "java/lang/invoke/VarHandle" ∧ (parseMethodDescriptor yX18_builds.desc).map (fun d => d.parameters.length) = some 1 := by decide +kernel
theorem hcS_X18_builds : yX18_builds.cls ≠ "java/lang/invoke/MethodHandle" ∧ yX18_builds.cls ≠ "java/lang/invoke/VarHandle" ∧ (parseMethodDescriptor yX18_builds.desc).map (fun d => d.parameters.length) = some 1 := hcV_X18_builds.2
theorem hcV_X18_comesDown : yX18_comesDown.cls = RX18 ∧ yX18_comesDown.cls ≠ "java/lang/invoke/MethodHandle" ∧ yX18_comesDown.cls ≠ "java/lang/invoke/VarHandle" ∧ (parseMethodDescriptor yX18_comesDown.desc).map (fun d => d.parameters.length) = some 1 := by decide +kernel
theorem hcS_X18_comesDown : yX18_comesDown.cls ≠ "java/lang/invoke/MethodHandle" ∧ yX18_comesDown.cls ≠ "java/lang/invoke/VarHandle" ∧ (parseMethodDescriptor yX18_comesDown.desc).map (fun d => d.parameters.length) = some 1 := hcV_X18_comesDown.2
theorem hcV_X18_kind : yX18_kind.cls = RX18 ∧ yX18_kind.cls ≠ "java/lang/invoke/MethodHandle" ∧ yX18_kind.cls ≠ "java/lang/invoke/VarHandle" ∧ (parseMethodDescriptor yX18_kind.desc).map (fun d => d.parameters.length) = some 0 := by decide +kernel
theorem hcS_X18_kind : yX18_kind.cls ≠ "java/lang/invoke/MethodHandle" ∧ yX18_kind.cls ≠ "java/lang/invoke/VarHandle" ∧ (parseMethodDescriptor yX18_kind.desc).map (fun d => d.parameters.length) = some 0 := hcV_X18_kind.2
theorem hcV_X18_isUnder : yX18_isUnder.cls = RX18 ∧ yX18_isUnder.cls ≠ "java/lang/invoke/MethodHandle" ∧ yX18_isUnder.cls ≠ "java/lang/invoke/VarHandle" ∧ (parseMethodDescriptor yX18_isUnder.desc).map (fun d => d.parameters.length) = some 1 := by decide +kernel
theorem hcS_X18_isUnder : yX18_isUnder.cls ≠ "java/lang/invoke/MethodHandle" ∧ yX18_isUnder.cls ≠ "java/lang/invoke/VarHandle" ∧ (parseMethodDescriptor yX18_isUnder.desc).map (fun d => d.parameters.length) = some 1 := hcV_X18_isUnder.2
theorem hcV_X19_init : yX19_init.cls = RX19 ∧ yX19_init.cls ≠ "java/lang/invoke/MethodHandle" ∧ yX19_init.cls ≠ "java/lang/invoke/VarHandle" ∧ (parseMethodDescriptor yX19_init.desc).map (fun d => d.parameters.length) = some 2 := by decide +kernel
theorem hcS_X19_init : yX19_init.cls ≠ "java/lang/invoke/MethodHandle" ∧ yX19_init.cls ≠ "java/lang/invoke/VarHandle" ∧ (parseMethodDescriptor yX19_init.desc).map (fun d => d.parameters.length) = some 2 := hcV_X19_init.2
theorem hcV_X19_comesDown : yX19_comesDown.cls = RX19 ∧ yX19_comesDown.cls ≠ "java/lang/invoke/MethodHandle" ∧ yX19_comesDown.cls ≠ "java/lang/invoke/VarHandle" ∧ (parseMethodDescriptor yX19_comesDown.desc).map (fun d => d.parameters.length) = some 1 := by decide +kernel
theorem hcS_X19_comesDown : yX19_comesDown.cls ≠ "java/lang/invoke/MethodHandle" ∧ yX19_comesDown.cls ≠ "java/lang/invoke/VarHandle" ∧ (parseMethodDescriptor yX19_comesDown.desc).map (fun d => d.parameters.length) = some 1 := hcV_X19_comesDown.2
theorem hcV_X19_kind : yX19_kind.cls = RX19 ∧ yX19_kind.cls ≠ "java/lang/invoke/MethodHandle" ∧ yX19_kind.cls ≠ "java/lang/invoke/VarHandle" ∧ (parseMethodDescriptor yX19_kind.desc).map (fun d => d.parameters.length) = some 0 := by decide +kernel
theorem hcS_X19_kind : yX19_kind.cls ≠ "java/lang/invoke/MethodHandle" ∧ yX19_kind.cls ≠ "java/lang/invoke/VarHandle" ∧ (parseMethodDescriptor yX19_kind.desc).map (fun d => d.parameters.length) = some 0 := hcV_X19_kind.2
theorem hcV_X19_isUnder : yX19_isUnder.cls = RX19 ∧ yX19_isUnder.cls ≠ "java/lang/invoke/MethodHandle" ∧ yX19_isUnder.cls ≠ "java/lang/invoke/VarHandle" ∧ (parseMethodDescriptor yX19_isUnder.desc).map (fun d => d.parameters.length) = some 1 := by decide +kernel
theorem hcS_X19_isUnder : yX19_isUnder.cls ≠ "java/lang/invoke/MethodHandle" ∧ yX19_isUnder.cls ≠ "java/lang/invoke/VarHandle" ∧ (parseMethodDescriptor yX19_isUnder.desc).map (fun d => d.parameters.length) = some 1 := hcV_X19_isUnder.2
theorem hcV_X20_init : yX20_init.cls = RX20 ∧ yX20_init.cls ≠ "java/lang/invoke/MethodHandle" ∧ yX20_init.cls ≠ "java/lang/invoke/VarHandle" ∧ (parseMethodDescriptor yX20_init.desc).map (fun d => d.parameters.length) = some 2 := by decide +kernel
theorem hcS_X20_init : yX20_init.cls ≠ "java/lang/invoke/MethodHandle" ∧ yX20_init.cls ≠ "java/lang/invoke/VarHandle" ∧ (parseMethodDescriptor yX20_init.desc).map (fun d => d.parameters.length) = some 2 := hcV_X20_init.2
theorem hcV_X20_tells : yX20_tells.cls = RX20 ∧ yX20_tells.cls ≠ "java/lang/invoke/MethodHandle" ∧ yX20_tells.cls ≠ "java/lang/invoke/VarHandle" ∧ (parseMethodDescriptor yX20_tells.desc).map (fun d => d.parameters.length) = some 1 := by decide +kernel
theorem hcS_X20_tells : yX20_tells.cls ≠ "java/lang/invoke/MethodHandle" ∧ yX20_tells.cls ≠ "java/lang/invoke/VarHandle" ∧ (parseMethodDescriptor yX20_tells.desc).map (fun d => d.parameters.length) = some 1 := hcV_X20_tells.2
theorem hcV_X20_kind : yX20_kind.cls = RX20 ∧ yX20_kind.cls ≠ "java/lang/invoke/MethodHandle" ∧ yX20_kind.cls ≠ "java/lang/invoke/VarHandle" ∧ (parseMethodDescriptor yX20_kind.desc).map (fun d => d.parameters.length) = some 0 := by decide +kernel
theorem hcS_X20_kind : yX20_kind.cls ≠ "java/lang/invoke/MethodHandle" ∧ yX20_kind.cls ≠ "java/lang/invoke/VarHandle" ∧ (parseMethodDescriptor yX20_kind.desc).map (fun d => d.parameters.length) = some 0 := hcV_X20_kind.2
theorem hcV_X21_init : yX21_init.cls = RX21 ∧ yX21_init.cls ≠ "java/lang/invoke/MethodHandle" ∧ yX21_init.cls ≠ "java/lang/invoke/VarHandle" ∧ (parseMethodDescriptor yX21_init.desc).map (fun d => d.parameters.length) = some 2 := by decide +kernel
theorem hcS_X21_init : yX21_init.cls ≠ "java/lang/invoke/MethodHandle" ∧ yX21_init.cls ≠ "java/lang/invoke/VarHandle" ∧ (parseMethodDescriptor yX21_init.desc).map (fun d => d.parameters.length) = some 2 := hcV_X21_init.2
theorem hcV_X21_swears : yX21_swears.cls = RX21 ∧ yX21_swears.cls ≠ "java/lang/invoke/MethodHandle" ∧ yX21_swears.cls ≠ "java/lang/invoke/VarHandle" ∧ (parseMethodDescriptor yX21_swears.desc).map (fun d => d.parameters.length) = some 1 := by decide +kernel
theorem hcS_X21_swears : yX21_swears.cls ≠ "java/lang/invoke/MethodHandle" ∧ yX21_swears.cls ≠ "java/lang/invoke/VarHandle" ∧ (parseMethodDescriptor yX21_swears.desc).map (fun d => d.parameters.length) = some 1 := hcV_X21_swears.2
theorem hcV_X21_kind : yX21_kind.cls = RX21 ∧ yX21_kind.cls ≠ "java/lang/invoke/MethodHandle" ∧ yX21_kind.cls ≠ "java/lang/invoke/VarHandle" ∧ (parseMethodDescriptor yX21_kind.desc).map (fun d => d.parameters.length) = some 0 := by decide +kernel
theorem hcS_X21_kind : yX21_kind.cls ≠ "java/lang/invoke/MethodHandle" ∧ yX21_kind.cls ≠ "java/lang/invoke/VarHandle" ∧ (parseMethodDescriptor yX21_kind.desc).map (fun d => d.parameters.length) = some 0 := hcV_X21_kind.2
theorem hcV_X22_init : yX22_init.cls = RX22 ∧ yX22_init.cls ≠ "java/lang/invoke/MethodHandle" ∧ yX22_init.cls ≠ "java/lang/invoke/VarHandle" ∧ (parseMethodDescriptor yX22_init.desc).map (fun d => d.parameters.length) = some 2 := by decide +kernel
theorem hcS_X22_init : yX22_init.cls ≠ "java/lang/invoke/MethodHandle" ∧ yX22_init.cls ≠ "java/lang/invoke/VarHandle" ∧ (parseMethodDescriptor yX22_init.desc).map (fun d => d.parameters.length) = some 2 := hcV_X22_init.2
theorem hcV_X22_builds : yX22_builds.cls = RX22 ∧ yX22_builds.cls ≠ "java/lang/invoke/MethodHandle" ∧ yX22_builds.cls ≠ "java/lang/invoke/VarHandle" ∧ (parseMethodDescriptor yX22_builds.desc).map (fun d => d.parameters.length) = some 1 := by decide +kernel
theorem hcS_X22_builds : yX22_builds.cls ≠ "java/lang/invoke/MethodHandle" ∧ yX22_builds.cls ≠ "java/lang/invoke/VarHandle" ∧ (parseMethodDescriptor yX22_builds.desc).map (fun d => d.parameters.length) = some 1 := hcV_X22_builds.2
theorem hcV_X22_tells : yX22_tells.cls = RX22 ∧ yX22_tells.cls ≠ "java/lang/invoke/MethodHandle" ∧ yX22_tells.cls ≠ "java/lang/invoke/VarHandle" ∧ (parseMethodDescriptor yX22_tells.desc).map (fun d => d.parameters.length) = some 1 := by decide +kernel
theorem hcS_X22_tells : yX22_tells.cls ≠ "java/lang/invoke/MethodHandle" ∧ yX22_tells.cls ≠ "java/lang/invoke/VarHandle" ∧ (parseMethodDescriptor yX22_tells.desc).map (fun d => d.parameters.length) = some 1 := hcV_X22_tells.2
theorem hcV_X22_kind : yX22_kind.cls = RX22 ∧ yX22_kind.cls ≠ "java/lang/invoke/MethodHandle" ∧ yX22_kind.cls ≠ "java/lang/invoke/VarHandle" ∧ (parseMethodDescriptor yX22_kind.desc).map (fun d => d.parameters.length) = some 0 := by decide +kernel
theorem hcS_X22_kind : yX22_kind.cls ≠ "java/lang/invoke/MethodHandle" ∧ yX22_kind.cls ≠ "java/lang/invoke/VarHandle" ∧ (parseMethodDescriptor yX22_kind.desc).map (fun d => d.parameters.length) = some 0 := hcV_X22_kind.2
theorem hcV_X23_init : yX23_init.cls = RX23 ∧ yX23_init.cls ≠ "java/lang/invoke/MethodHandle" ∧ yX23_init.cls ≠ "java/lang/invoke/VarHandle" ∧ (parseMethodDescriptor yX23_init.desc).map (fun d => d.parameters.length) = some 0 := by decide +kernel
theorem hcS_X23_init : yX23_init.cls ≠ "java/lang/invoke/MethodHandle" ∧ yX23_init.cls ≠ "java/lang/invoke/VarHandle" ∧ (parseMethodDescriptor yX23_init.desc).map (fun d => d.parameters.length) = some 0 := hcV_X23_init.2
theorem hcV_X24_at : yX24_at.cls = RX24 ∧ yX24_at.cls ≠ "java/lang/invoke/MethodHandle" ∧ yX24_at.cls ≠ "java/lang/invoke/VarHandle" ∧ (parseMethodDescriptor yX24_at.desc).map (fun d => d.parameters.length) = some 1 := by decide +kernel
theorem hcS_X24_at : yX24_at.cls ≠ "java/lang/invoke/MethodHandle" ∧ yX24_at.cls ≠ "java/lang/invoke/VarHandle" ∧ (parseMethodDescriptor yX24_at.desc).map (fun d => d.parameters.length) = some 1 := hcV_X24_at.2
theorem hcV_X24_size : yX24_size.cls = RX24 ∧ yX24_size.cls ≠ "java/lang/invoke/MethodHandle" ∧ yX24_size.cls ≠ "java/lang/invoke/VarHandle" ∧ (parseMethodDescriptor yX24_size.desc).map (fun d => d.parameters.length) = some 0 := by decide +kernel
theorem hcS_X24_size : yX24_size.cls ≠ "java/lang/invoke/MethodHandle" ∧ yX24_size.cls ≠ "java/lang/invoke/VarHandle" ∧ (parseMethodDescriptor yX24_size.desc).map (fun d => d.parameters.length) = some 0 := hcV_X24_size.2
theorem hcV_X24_init : yX24_init.cls = RX24 ∧ yX24_init.cls ≠ "java/lang/invoke/MethodHandle" ∧ yX24_init.cls ≠ "java/lang/invoke/VarHandle" ∧ (parseMethodDescriptor yX24_init.desc).map (fun d => d.parameters.length) = some 1 := by decide +kernel
theorem hcS_X24_init : yX24_init.cls ≠ "java/lang/invoke/MethodHandle" ∧ yX24_init.cls ≠ "java/lang/invoke/VarHandle" ∧ (parseMethodDescriptor yX24_init.desc).map (fun d => d.parameters.length) = some 1 := hcV_X24_init.2
theorem hcV_X24_put : yX24_put.cls = RX24 ∧ yX24_put.cls ≠ "java/lang/invoke/MethodHandle" ∧ yX24_put.cls ≠ "java/lang/invoke/VarHandle" ∧ (parseMethodDescriptor yX24_put.desc).map (fun d => d.parameters.length) = some 2 := by decide +kernel
theorem hcS_X24_put : yX24_put.cls ≠ "java/lang/invoke/MethodHandle" ∧ yX24_put.cls ≠ "java/lang/invoke/VarHandle" ∧ (parseMethodDescriptor yX24_put.desc).map (fun d => d.parameters.length) = some 2 := hcV_X24_put.2
theorem hcV_X24_copy : yX24_copy.cls = RX24 ∧ yX24_copy.cls ≠ "java/lang/invoke/MethodHandle" ∧ yX24_copy.cls ≠ "java/lang/invoke/VarHandle" ∧ (parseMethodDescriptor yX24_copy.desc).map (fun d => d.parameters.length) = some 4 := by decide +kernel
theorem hcS_X24_copy : yX24_copy.cls ≠ "java/lang/invoke/MethodHandle" ∧ yX24_copy.cls ≠ "java/lang/invoke/VarHandle" ∧ (parseMethodDescriptor yX24_copy.desc).map (fun d => d.parameters.length) = some 4 := hcV_X24_copy.2
theorem hcV_X25_init : yX25_init.cls = RX25 ∧ yX25_init.cls ≠ "java/lang/invoke/MethodHandle" ∧ yX25_init.cls ≠ "java/lang/invoke/VarHandle" ∧ (parseMethodDescriptor yX25_init.desc).map (fun d => d.parameters.length) = some 1 := by decide +kernel
theorem hcS_X25_init : yX25_init.cls ≠ "java/lang/invoke/MethodHandle" ∧ yX25_init.cls ≠ "java/lang/invoke/VarHandle" ∧ (parseMethodDescriptor yX25_init.desc).map (fun d => d.parameters.length) = some 1 := hcV_X25_init.2
theorem hcV_X25_put : yX25_put.cls = RX25 ∧ yX25_put.cls ≠ "java/lang/invoke/MethodHandle" ∧ yX25_put.cls ≠ "java/lang/invoke/VarHandle" ∧ (parseMethodDescriptor yX25_put.desc).map (fun d => d.parameters.length) = some 2 := by decide +kernel
theorem hcS_X25_put : yX25_put.cls ≠ "java/lang/invoke/MethodHandle" ∧ yX25_put.cls ≠ "java/lang/invoke/VarHandle" ∧ (parseMethodDescriptor yX25_put.desc).map (fun d => d.parameters.length) = some 2 := hcV_X25_put.2
theorem hcV_X25_at : yX25_at.cls = RX25 ∧ yX25_at.cls ≠ "java/lang/invoke/MethodHandle" ∧ yX25_at.cls ≠ "java/lang/invoke/VarHandle" ∧ (parseMethodDescriptor yX25_at.desc).map (fun d => d.parameters.length) = some 1 := by decide +kernel
theorem hcS_X25_at : yX25_at.cls ≠ "java/lang/invoke/MethodHandle" ∧ yX25_at.cls ≠ "java/lang/invoke/VarHandle" ∧ (parseMethodDescriptor yX25_at.desc).map (fun d => d.parameters.length) = some 1 := hcV_X25_at.2
theorem hcV_X25_copy : yX25_copy.cls = RX25 ∧ yX25_copy.cls ≠ "java/lang/invoke/MethodHandle" ∧ yX25_copy.cls ≠ "java/lang/invoke/VarHandle" ∧ (parseMethodDescriptor yX25_copy.desc).map (fun d => d.parameters.length) = some 4 := by decide +kernel
theorem hcS_X25_copy : yX25_copy.cls ≠ "java/lang/invoke/MethodHandle" ∧ yX25_copy.cls ≠ "java/lang/invoke/VarHandle" ∧ (parseMethodDescriptor yX25_copy.desc).map (fun d => d.parameters.length) = some 4 := hcV_X25_copy.2
theorem hcV_X26_init : yX26_init.cls = RX26 ∧ yX26_init.cls ≠ "java/lang/invoke/MethodHandle" ∧ yX26_init.cls ≠ "java/lang/invoke/VarHandle" ∧ (parseMethodDescriptor yX26_init.desc).map (fun d => d.parameters.length) = some 1 := by decide +kernel
theorem hcS_X26_init : yX26_init.cls ≠ "java/lang/invoke/MethodHandle" ∧ yX26_init.cls ≠ "java/lang/invoke/VarHandle" ∧ (parseMethodDescriptor yX26_init.desc).map (fun d => d.parameters.length) = some 1 := hcV_X26_init.2
theorem hcV_X26_put : yX26_put.cls = RX26 ∧ yX26_put.cls ≠ "java/lang/invoke/MethodHandle" ∧ yX26_put.cls ≠ "java/lang/invoke/VarHandle" ∧ (parseMethodDescriptor yX26_put.desc).map (fun d => d.parameters.length) = some 2 := by decide +kernel
theorem hcS_X26_put : yX26_put.cls ≠ "java/lang/invoke/MethodHandle" ∧ yX26_put.cls ≠ "java/lang/invoke/VarHandle" ∧ (parseMethodDescriptor yX26_put.desc).map (fun d => d.parameters.length) = some 2 := hcV_X26_put.2
theorem hcV_X26_at : yX26_at.cls = RX26 ∧ yX26_at.cls ≠ "java/lang/invoke/MethodHandle" ∧ yX26_at.cls ≠ "java/lang/invoke/VarHandle" ∧ (parseMethodDescriptor yX26_at.desc).map (fun d => d.parameters.length) = some 1 := by decide +kernel
theorem hcS_X26_at : yX26_at.cls ≠ "java/lang/invoke/MethodHandle" ∧ yX26_at.cls ≠ "java/lang/invoke/VarHandle" ∧ (parseMethodDescriptor yX26_at.desc).map (fun d => d.parameters.length) = some 1 := hcV_X26_at.2
theorem hcV_X26_copy : yX26_copy.cls = RX26 ∧ yX26_copy.cls ≠ "java/lang/invoke/MethodHandle" ∧ yX26_copy.cls ≠ "java/lang/invoke/VarHandle" ∧ (parseMethodDescriptor yX26_copy.desc).map (fun d => d.parameters.length) = some 4 := by decide +kernel
theorem hcS_X26_copy : yX26_copy.cls ≠ "java/lang/invoke/MethodHandle" ∧ yX26_copy.cls ≠ "java/lang/invoke/VarHandle" ∧ (parseMethodDescriptor yX26_copy.desc).map (fun d => d.parameters.length) = some 4 := hcV_X26_copy.2
theorem hcV_X27_init : yX27_init.cls = RX27 ∧ yX27_init.cls ≠ "java/lang/invoke/MethodHandle" ∧ yX27_init.cls ≠ "java/lang/invoke/VarHandle" ∧ (parseMethodDescriptor yX27_init.desc).map (fun d => d.parameters.length) = some 1 := by decide +kernel
theorem hcS_X27_init : yX27_init.cls ≠ "java/lang/invoke/MethodHandle" ∧ yX27_init.cls ≠ "java/lang/invoke/VarHandle" ∧ (parseMethodDescriptor yX27_init.desc).map (fun d => d.parameters.length) = some 1 := hcV_X27_init.2
theorem hcV_X27_put : yX27_put.cls = RX27 ∧ yX27_put.cls ≠ "java/lang/invoke/MethodHandle" ∧ yX27_put.cls ≠ "java/lang/invoke/VarHandle" ∧ (parseMethodDescriptor yX27_put.desc).map (fun d => d.parameters.length) = some 2 := by decide +kernel
theorem hcS_X27_put : yX27_put.cls ≠ "java/lang/invoke/MethodHandle" ∧ yX27_put.cls ≠ "java/lang/invoke/VarHandle" ∧ (parseMethodDescriptor yX27_put.desc).map (fun d => d.parameters.length) = some 2 := hcV_X27_put.2
theorem hcV_X27_at : yX27_at.cls = RX27 ∧ yX27_at.cls ≠ "java/lang/invoke/MethodHandle" ∧ yX27_at.cls ≠ "java/lang/invoke/VarHandle" ∧ (parseMethodDescriptor yX27_at.desc).map (fun d => d.parameters.length) = some 1 := by decide +kernel
theorem hcS_X27_at : yX27_at.cls ≠ "java/lang/invoke/MethodHandle" ∧ yX27_at.cls ≠ "java/lang/invoke/VarHandle" ∧ (parseMethodDescriptor yX27_at.desc).map (fun d => d.parameters.length) = some 1 := hcV_X27_at.2
theorem hcV_X27_copy : yX27_copy.cls = RX27 ∧ yX27_copy.cls ≠ "java/lang/invoke/MethodHandle" ∧ yX27_copy.cls ≠ "java/lang/invoke/VarHandle" ∧ (parseMethodDescriptor yX27_copy.desc).map (fun d => d.parameters.length) = some 4 := by decide +kernel
theorem hcS_X27_copy : yX27_copy.cls ≠ "java/lang/invoke/MethodHandle" ∧ yX27_copy.cls ≠ "java/lang/invoke/VarHandle" ∧ (parseMethodDescriptor yX27_copy.desc).map (fun d => d.parameters.length) = some 4 := hcV_X27_copy.2
theorem hcV_X28_init : yX28_init.cls = RX28 ∧ yX28_init.cls ≠ "java/lang/invoke/MethodHandle" ∧ yX28_init.cls ≠ "java/lang/invoke/VarHandle" ∧ (parseMethodDescriptor yX28_init.desc).map (fun d => d.parameters.length) = some 1 := by decide +kernel
theorem hcS_X28_init : yX28_init.cls ≠ "java/lang/invoke/MethodHandle" ∧ yX28_init.cls ≠ "java/lang/invoke/VarHandle" ∧ (parseMethodDescriptor yX28_init.desc).map (fun d => d.parameters.length) = some 1 := hcV_X28_init.2
theorem hcV_X28_put : yX28_put.cls = RX28 ∧ yX28_put.cls ≠ "java/lang/invoke/MethodHandle" ∧ yX28_put.cls ≠ "java/lang/invoke/VarHandle" ∧ (parseMethodDescriptor yX28_put.desc).map (fun d => d.parameters.length) = some 2 := by decide +kernel
theorem hcS_X28_put : yX28_put.cls ≠ "java/lang/invoke/MethodHandle" ∧ yX28_put.cls ≠ "java/lang/invoke/VarHandle" ∧ (parseMethodDescriptor yX28_put.desc).map (fun d => d.parameters.length) = some 2 := hcV_X28_put.2
theorem hcV_X28_at : yX28_at.cls = RX28 ∧ yX28_at.cls ≠ "java/lang/invoke/MethodHandle" ∧ yX28_at.cls ≠ "java/lang/invoke/VarHandle" ∧ (parseMethodDescriptor yX28_at.desc).map (fun d => d.parameters.length) = some 1 := by decide +kernel
theorem hcS_X28_at : yX28_at.cls ≠ "java/lang/invoke/MethodHandle" ∧ yX28_at.cls ≠ "java/lang/invoke/VarHandle" ∧ (parseMethodDescriptor yX28_at.desc).map (fun d => d.parameters.length) = some 1 := hcV_X28_at.2
theorem hcV_X28_copy : yX28_copy.cls = RX28 ∧ yX28_copy.cls ≠ "java/lang/invoke/MethodHandle" ∧ yX28_copy.cls ≠ "java/lang/invoke/VarHandle" ∧ (parseMethodDescriptor yX28_copy.desc).map (fun d => d.parameters.length) = some 4 := by decide +kernel
theorem hcS_X28_copy : yX28_copy.cls ≠ "java/lang/invoke/MethodHandle" ∧ yX28_copy.cls ≠ "java/lang/invoke/VarHandle" ∧ (parseMethodDescriptor yX28_copy.desc).map (fun d => d.parameters.length) = some 4 := hcV_X28_copy.2
theorem hcV_X3_init : yX3_init.cls = RX3 ∧ yX3_init.cls ≠ "java/lang/invoke/MethodHandle" ∧ yX3_init.cls ≠ "java/lang/invoke/VarHandle" ∧ (parseMethodDescriptor yX3_init.desc).map (fun d => d.parameters.length) = some 1 := by decide +kernel
theorem hcS_X3_init : yX3_init.cls ≠ "java/lang/invoke/MethodHandle" ∧ yX3_init.cls ≠ "java/lang/invoke/VarHandle" ∧ (parseMethodDescriptor yX3_init.desc).map (fun d => d.parameters.length) = some 1 := hcV_X3_init.2
theorem hcV_X4_init : yX4_init.cls = RX4 ∧ yX4_init.cls ≠ "java/lang/invoke/MethodHandle" ∧ yX4_init.cls ≠ "java/lang/invoke/VarHandle" ∧ (parseMethodDescriptor yX4_init.desc).map (fun d => d.parameters.length) = some 5 := by decide +kernel
theorem hcS_X4_init : yX4_init.cls ≠ "java/lang/invoke/MethodHandle" ∧ yX4_init.cls ≠ "java/lang/invoke/VarHandle" ∧ (parseMethodDescriptor yX4_init.desc).map (fun d => d.parameters.length) = some 5 := hcV_X4_init.2
theorem hcV_X4_isOpen : yX4_isOpen.cls = RX4 ∧ yX4_isOpen.cls ≠ "java/lang/invoke/MethodHandle" ∧ yX4_isOpen.cls ≠ "java/lang/invoke/VarHandle" ∧ (parseMethodDescriptor yX4_isOpen.desc).map (fun d => d.parameters.length) = some 1 := by decide +kernel
theorem hcS_X4_isOpen : yX4_isOpen.cls ≠ "java/lang/invoke/MethodHandle" ∧ yX4_isOpen.cls ≠ "java/lang/invoke/VarHandle" ∧ (parseMethodDescriptor yX4_isOpen.desc).map (fun d => d.parameters.length) = some 1 := hcV_X4_isOpen.2
theorem hcV_X5_init : yX5_init.cls = RX5 ∧ yX5_init.cls ≠ "java/lang/invoke/MethodHandle" ∧ yX5_init.cls ≠ "java/lang/invoke/VarHandle" ∧ (parseMethodDescriptor yX5_init.desc).map (fun d => d.parameters.length) = some 4 := by decide +kernel
theorem hcS_X5_init : yX5_init.cls ≠ "java/lang/invoke/MethodHandle" ∧ yX5_init.cls ≠ "java/lang/invoke/VarHandle" ∧ (parseMethodDescriptor yX5_init.desc).map (fun d => d.parameters.length) = some 4 := hcV_X5_init.2
theorem hcV_X6_init : yX6_init.cls = RX6 ∧ yX6_init.cls ≠ "java/lang/invoke/MethodHandle" ∧ yX6_init.cls ≠ "java/lang/invoke/VarHandle" ∧ (parseMethodDescriptor yX6_init.desc).map (fun d => d.parameters.length) = some 1 := by decide +kernel
theorem hcS_X6_init : yX6_init.cls ≠ "java/lang/invoke/MethodHandle" ∧ yX6_init.cls ≠ "java/lang/invoke/VarHandle" ∧ (parseMethodDescriptor yX6_init.desc).map (fun d => d.parameters.length) = some 1 := hcV_X6_init.2
theorem hcV_X6_lines : yX6_lines.cls = RX6 ∧ yX6_lines.cls ≠ "java/lang/invoke/MethodHandle" ∧ yX6_lines.cls ≠ "java/lang/invoke/VarHandle" ∧ (parseMethodDescriptor yX6_lines.desc).map (fun d => d.parameters.length) = some 0 := by decide +kernel
theorem hcS_X6_lines : yX6_lines.cls ≠ "java/lang/invoke/MethodHandle" ∧ yX6_lines.cls ≠ "java/lang/invoke/VarHandle" ∧ (parseMethodDescriptor yX6_lines.desc).map (fun d => d.parameters.length) = some 0 := hcV_X6_lines.2
theorem hcV_X6_line : yX6_line.cls = RX6 ∧ yX6_line.cls ≠ "java/lang/invoke/MethodHandle" ∧ yX6_line.cls ≠ "java/lang/invoke/VarHandle" ∧ (parseMethodDescriptor yX6_line.desc).map (fun d => d.parameters.length) = some 0 := by decide +kernel
theorem hcS_X6_line : yX6_line.cls ≠ "java/lang/invoke/MethodHandle" ∧ yX6_line.cls ≠ "java/lang/invoke/VarHandle" ∧ (parseMethodDescriptor yX6_line.desc).map (fun d => d.parameters.length) = some 0 := hcV_X6_line.2
theorem hcV_X6_either : yX6_either.cls = RX6 ∧ yX6_either.cls ≠ "java/lang/invoke/MethodHandle" ∧ yX6_either.cls ≠ "java/lang/invoke/VarHandle" ∧ (parseMethodDescriptor yX6_either.desc).map (fun d => d.parameters.length) = some 0 := by decide +kernel
theorem hcS_X6_either : yX6_either.cls ≠ "java/lang/invoke/MethodHandle" ∧ yX6_either.cls ≠ "java/lang/invoke/VarHandle" ∧ (parseMethodDescriptor yX6_either.desc).map (fun d => d.parameters.length) = some 0 := hcV_X6_either.2
theorem hcV_X6_all : yX6_all.cls = RX6 ∧ yX6_all.cls ≠ "java/lang/invoke/MethodHandle" ∧ yX6_all.cls ≠ "java/lang/invoke/VarHandle" ∧ (parseMethodDescriptor yX6_all.desc).map (fun d => d.parameters.length) = some 0 := by decide +kernel
theorem hcS_X6_all : yX6_all.cls ≠ "java/lang/invoke/MethodHandle" ∧ yX6_all.cls ≠ "java/lang/invoke/VarHandle" ∧ (parseMethodDescriptor yX6_all.desc).map (fun d => d.parameters.length) = some 0 := hcV_X6_all.2
theorem hcV_X6_compared : yX6_compared.cls = RX6 ∧ yX6_compared.cls ≠ "java/lang/invoke/MethodHandle" ∧ yX6_compared.cls ≠ "java/lang/invoke/VarHandle" ∧ (parseMethodDescriptor yX6_compared.desc).map (fun d => d.parameters.length) = some 0 := by decide +kernel
theorem hcS_X6_compared : yX6_compared.cls ≠ "java/lang/invoke/MethodHandle" ∧ yX6_compared.cls ≠ "java/lang/invoke/VarHandle" ∧ (parseMethodDescriptor yX6_compared.desc).map (fun d => d.parameters.length) = some 0 := hcV_X6_compared.2
theorem hcV_X6_sum : yX6_sum.cls = RX6 ∧ yX6_sum.cls ≠ "java/lang/invoke/MethodHandle" ∧ yX6_sum.cls ≠ "java/lang/invoke/VarHandle" ∧ (parseMethodDescriptor yX6_sum.desc).map (fun d => d.parameters.length) = some 0 := by decide +kernel
theorem hcS_X6_sum : yX6_sum.cls ≠ "java/lang/invoke/MethodHandle" ∧ yX6_sum.cls ≠ "java/lang/invoke/VarHandle" ∧ (parseMethodDescriptor yX6_sum.desc).map (fun d => d.parameters.length) = some 0 := hcV_X6_sum.2
theorem hcV_X6_product : yX6_product.cls = RX6 ∧ yX6_product.cls ≠ "java/lang/invoke/MethodHandle" ∧ yX6_product.cls ≠ "java/lang/invoke/VarHandle" ∧ (parseMethodDescriptor yX6_product.desc).map (fun d => d.parameters.length) = some 0 := by decide +kernel
theorem hcS_X6_product : yX6_product.cls ≠ "java/lang/invoke/MethodHandle" ∧ yX6_product.cls ≠ "java/lang/invoke/VarHandle" ∧ (parseMethodDescriptor yX6_product.desc).map (fun d => d.parameters.length) = some 0 := hcV_X6_product.2
theorem hcV_X6_operand : yX6_operand.cls = RX6 ∧ yX6_operand.cls ≠ "java/lang/invoke/MethodHandle" ∧ yX6_operand.cls ≠ "java/lang/invoke/VarHandle" ∧ (parseMethodDescriptor yX6_operand.desc).map (fun d => d.parameters.length) = some 0 := by decide +kernel
theorem hcS_X6_operand : yX6_operand.cls ≠ "java/lang/invoke/MethodHandle" ∧ yX6_operand.cls ≠ "java/lang/invoke/VarHandle" ∧ (parseMethodDescriptor yX6_operand.desc).map (fun d => d.parameters.length) = some 0 := hcV_X6_operand.2
theorem hcV_X6_here : yX6_here.cls = RX6 ∧ yX6_here.cls ≠ "java/lang/invoke/MethodHandle" ∧ yX6_here.cls ≠ "java/lang/invoke/VarHandle" ∧ (parseMethodDescriptor yX6_here.desc).map (fun d => d.parameters.length) = some 0 := by decide +kernel
theorem hcS_X6_here : yX6_here.cls ≠ "java/lang/invoke/MethodHandle" ∧ yX6_here.cls ≠ "java/lang/invoke/VarHandle" ∧ (parseMethodDescriptor yX6_here.desc).map (fun d => d.parameters.length) = some 0 := hcV_X6_here.2
theorem hcV_X6_isOne : yX6_isOne.cls = RX6 ∧ yX6_isOne.cls ≠ "java/lang/invoke/MethodHandle" ∧ yX6_isOne.cls ≠ "java/lang/invoke/VarHandle" ∧ (parseMethodDescriptor yX6_isOne.desc).map (fun d => d.parameters.length) = some 1 := by decide +kernel
theorem hcS_X6_isOne : yX6_isOne.cls ≠ "java/lang/invoke/MethodHandle" ∧ yX6_isOne.cls ≠ "java/lang/invoke/VarHandle" ∧ (parseMethodDescriptor yX6_isOne.desc).map (fun d => d.parameters.length) = some 1 := hcV_X6_isOne.2
theorem hcV_X6_opens : yX6_opens.cls = RX6 ∧ yX6_opens.cls ≠ "java/lang/invoke/MethodHandle" ∧ yX6_opens.cls ≠ "java/lang/invoke/VarHandle" ∧ (parseMethodDescriptor yX6_opens.desc).map (fun d => d.parameters.length) = some 0 := by decide +kernel
theorem hcS_X6_opens : yX6_opens.cls ≠ "java/lang/invoke/MethodHandle" ∧ yX6_opens.cls ≠ "java/lang/invoke/VarHandle" ∧ (parseMethodDescriptor yX6_opens.desc).map (fun d => d.parameters.length) = some 0 := hcV_X6_opens.2
theorem hcV_X6_wrong : yX6_wrong.cls = RX6 ∧ yX6_wrong.cls ≠ "java/lang/invoke/MethodHandle" ∧ yX6_wrong.cls ≠ "java/lang/invoke/VarHandle" ∧ (parseMethodDescriptor yX6_wrong.desc).map (fun d => d.parameters.length) = some 0 := by decide +kernel
theorem hcS_X6_wrong : yX6_wrong.cls ≠ "java/lang/invoke/MethodHandle" ∧ yX6_wrong.cls ≠ "java/lang/invoke/VarHandle" ∧ (parseMethodDescriptor yX6_wrong.desc).map (fun d => d.parameters.length) = some 0 := hcV_X6_wrong.2
theorem hcV_X6_joined : yX6_joined.cls = RX6 ∧ yX6_joined.cls ≠ "java/lang/invoke/MethodHandle" ∧ yX6_joined.cls ≠ "java/lang/invoke/VarHandle" ∧ (parseMethodDescriptor yX6_joined.desc).map (fun d => d.parameters.length) = some 3 := by decide +kernel
theorem hcS_X6_joined : yX6_joined.cls ≠ "java/lang/invoke/MethodHandle" ∧ yX6_joined.cls ≠ "java/lang/invoke/VarHandle" ∧ (parseMethodDescriptor yX6_joined.desc).map (fun d => d.parameters.length) = some 3 := hcV_X6_joined.2
theorem hcV_X7_init : yX7_init.cls = RX7 ∧ yX7_init.cls ≠ "java/lang/invoke/MethodHandle" ∧ yX7_init.cls ≠ "java/lang/invoke/VarHandle" ∧ (parseMethodDescriptor yX7_init.desc).map (fun d => d.parameters.length) = some 0 := by decide +kernel
theorem hcS_X7_init : yX7_init.cls ≠ "java/lang/invoke/MethodHandle" ∧ yX7_init.cls ≠ "java/lang/invoke/VarHandle" ∧ (parseMethodDescriptor yX7_init.desc).map (fun d => d.parameters.length) = some 0 := hcV_X7_init.2
theorem hcV_X8_init : yX8_init.cls = RX8 ∧ yX8_init.cls ≠ "java/lang/invoke/MethodHandle" ∧ yX8_init.cls ≠ "java/lang/invoke/VarHandle" ∧ (parseMethodDescriptor yX8_init.desc).map (fun d => d.parameters.length) = some 0 := by decide +kernel
theorem hcS_X8_init : yX8_init.cls ≠ "java/lang/invoke/MethodHandle" ∧ yX8_init.cls ≠ "java/lang/invoke/VarHandle" ∧ (parseMethodDescriptor yX8_init.desc).map (fun d => d.parameters.length) = some 0 := hcV_X8_init.2
theorem hcV_X9_init : yX9_init.cls = RX9 ∧ yX9_init.cls ≠ "java/lang/invoke/MethodHandle" ∧ yX9_init.cls ≠ "java/lang/invoke/VarHandle" ∧ (parseMethodDescriptor yX9_init.desc).map (fun d => d.parameters.length) = some 1 := by decide +kernel
theorem hcS_X9_init : yX9_init.cls ≠ "java/lang/invoke/MethodHandle" ∧ yX9_init.cls ≠ "java/lang/invoke/VarHandle" ∧ (parseMethodDescriptor yX9_init.desc).map (fun d => d.parameters.length) = some 1 := hcV_X9_init.2
theorem hcV_X9_value : yX9_value.cls = RX9 ∧ yX9_value.cls ≠ "java/lang/invoke/MethodHandle" ∧ yX9_value.cls ≠ "java/lang/invoke/VarHandle" ∧ (parseMethodDescriptor yX9_value.desc).map (fun d => d.parameters.length) = some 1 := by decide +kernel
theorem hcS_X9_value : yX9_value.cls ≠ "java/lang/invoke/MethodHandle" ∧ yX9_value.cls ≠ "java/lang/invoke/VarHandle" ∧ (parseMethodDescriptor yX9_value.desc).map (fun d => d.parameters.length) = some 1 := hcV_X9_value.2
set_option maxRecDepth 100000 in
theorem ct_X12_value {l : Launch} {D : va_G} {B : Nat} {S : AH → Prop} {I : AH} (a : Nat) (na : Nat) (g : Nat → Int32) (n : Nat) (fa : Nat) (hI : ∀ h, S h → ∀ a e, I a = some e → h a = some e) (hf : ∀ h, S h → h fa = some (.inr (1, [.ref na])) ∧ h na = some (.inl (D.1 100, 128, .inl g))) (ha : I a = some (.inr (12, [.int (nI n)]))) : Ct l D ZE B yX12_value cX12_value 2 (some .int) 0 0 0 0 [.ref (a), .ref (fa)] (S) (RI (nI (n)) (S)) := by
  refine Ct.of (nL := 2) (lv := [some (.ref (a)), some (.ref (fa))]) (by decide) (Nat.le_of_ble_eq_true rfl) stZE 0 rfl ?_
  generalize hT : RI (nI (n)) (S) = T
  intro zp ze zs zm zb zt zc F hr hnm
  generalize ([.ref (a), .ref (fa)] : List Value).toArray = za at F ⊢
  refine g_aload_n F dX12_value_0 rfl rfl (np := 1) rfl ?_
  refine g_getL F in_X12 (ci := 12) rfl 0 (by decide) rfl (Or.inl q785) (v := .int (nI n)) (fun h hs => ⟨_, hI h hs _ _ ha, rfl⟩) dX12_value_1 (np := 4) rfl ?_
  have hv : nI (n) = nI (n) := congrArg nI (by rfl)
  exact g_iret F hr rfl (Nat.le_of_ble_eq_true rfl) (Nat.le_of_ble_eq_true rfl) dX12_value_4 (fun h hs => by rw [← hT]; exact ⟨congrArg (fun z => some (Value.int z)) hv, hs⟩)

set_option maxRecDepth 100000 in
theorem ct_X9_value {l : Launch} {D : va_G} {B : Nat} {S : AH → Prop} {I : AH} (a : Nat) (na : Nat) (g : Nat → Int32) (k : Nat) (fa : Nat) (hI : ∀ h, S h → ∀ a e, I a = some e → h a = some e) (hf : ∀ h, S h → h fa = some (.inr (1, [.ref na])) ∧ h na = some (.inl (D.1 100, 128, .inl g))) (ha : I a = some (.inr (9, [.int (nI (letC k))]))) : Ct l D ZE B yX9_value cX9_value 2 (some .int) 0 0 0 0 [.ref (a), .ref (fa)] (S) (RI (g (letC k)) (S)) := by
  refine Ct.of (nL := 2) (lv := [some (.ref (a)), some (.ref (fa))]) (by decide) (Nat.le_of_ble_eq_true rfl) stZE 0 rfl ?_
  generalize hT : RI (g (letC k)) (S) = T
  intro zp ze zs zm zb zt zc F hr hnm
  generalize ([.ref (a), .ref (fa)] : List Value).toArray = za at F ⊢
  have hl128 : letC k < 128 := by unfold letC; split <;> decide
  refine g_aload_n F dX9_value_0 rfl rfl (np := 1) rfl ?_
  refine g_getL F in_X1 (ci := 1) rfl 0 (by decide) rfl (Or.inr ⟨_, ze166⟩) (v := .ref (na)) (fun h hs => ⟨_, (hf h hs).1, rfl⟩) dX9_value_1 (np := 4) rfl ?_
  refine g_aload_n F dX9_value_4 rfl rfl (np := 5) rfl ?_
  refine g_getL F in_X9 (ci := 9) rfl 0 (by decide) rfl (Or.inl q746) (v := .int (nI (letC k))) (fun h hs => ⟨_, hI h hs _ _ ha, rfl⟩) dX9_value_5 (np := 8) rfl ?_
  refine g_iald F (v := g (letC k)) (fun h hs => ⟨128, g, (hf h hs).2, (m_in (L := 128) (by decide) hl128 rfl).1, by rw [(m_in (L := 128) (by decide) hl128 rfl).2]⟩) dX9_value_8 (np := 9) rfl ?_
  have hv : g (letC k) = g (letC k) := by rfl
  exact g_iret F hr rfl (Nat.le_of_ble_eq_true rfl) (Nat.le_of_ble_eq_true rfl) dX9_value_9 (fun h hs => by rw [← hT]; exact ⟨congrArg (fun z => some (Value.int z)) hv, hs⟩)

set_option maxRecDepth 100000 in
theorem ct_X11_value {l : Launch} {D : va_G} {B : Nat} {S : AH → Prop} {I : AH} (a : Nat) (na : Nat) (g : Nat → Int32) (b : Nat) (v : Int32) (frc : Nat) (loc : Nat) (fa : Nat) (hI : ∀ h, S h → ∀ a e, I a = some e → h a = some e) (hf : ∀ h, S h → h fa = some (.inr (1, [.ref na])) ∧ h na = some (.inl (D.1 100, 128, .inl g))) (ha : I a = some (.inr (11, [.ref b]))) (hb : NV l D B I S fa b v frc loc) : Ct l D ZE B yX11_value cX11_value 2 (some .int) (frc + 1) (loc + 23) 0 0 [.ref (a), .ref (fa)] (S) (RI (-v) (S)) := by
  refine Ct.of (nL := 2) (lv := [some (.ref (a)), some (.ref (fa))]) (by decide) (Nat.le_of_ble_eq_true rfl) stZE 0 rfl ?_
  generalize hT : RI (-v) (S) = T
  intro zp ze zs zm zb zt zc F hr hnm
  generalize ([.ref (a), .ref (fa)] : List Value).toArray = za at F ⊢
  refine g_aload_n F dX11_value_0 rfl rfl (np := 1) rfl ?_
  refine g_getL F in_X11 (ci := 11) rfl 0 (by decide) rfl (Or.inl q774) (v := .ref (b)) (fun h hs => ⟨_, hI h hs _ _ ha, rfl⟩) dX11_value_1 (np := 4) rfl ?_
  refine g_aload_n F dX11_value_4 rfl rfl (np := 5) rfl ?_
  refine g_value F (rest := []) hb hI q853 ⟨by dsimp only; omega, by dsimp only; omega⟩ (Nat.le_of_ble_eq_true rfl) dX11_value_5 ⟨Nat.le_of_ble_eq_true rfl, Nat.le_of_ble_eq_true rfl⟩ (np := 8) rfl ?_
  refine g_ineg F dX11_value_8 (np := 9) rfl ?_
  have hv : -v = -v := by rfl
  exact g_iret F hr rfl (Nat.le_of_ble_eq_true rfl) (Nat.le_of_ble_eq_true rfl) dX11_value_9 (fun h hs => by rw [← hT]; exact ⟨congrArg (fun z => some (Value.int z)) hv, hs⟩)

set_option maxRecDepth 100000 in
theorem ct_X10_value {l : Launch} {D : va_G} {B : Nat} {S : AH → Prop} {I : AH} (a : Nat) (na : Nat) (g : Nat → Int32) (b : Nat) (v : Int32) (frc : Nat) (loc : Nat) (fa : Nat) (hI : ∀ h, S h → ∀ a e, I a = some e → h a = some e) (hf : ∀ h, S h → h fa = some (.inr (1, [.ref na])) ∧ h na = some (.inl (D.1 100, 128, .inl g))) (ha : I a = some (.inr (10, [.ref b]))) (hb : NV l D B I S fa b v frc loc) : Ct l D ZE B yX10_value cX10_value 2 (some .int) (frc + 1) (loc + 23) 0 0 [.ref (a), .ref (fa)] (S) (RI (if v = 0 then 1 else 0) (S)) := by
  refine Ct.of (nL := 2) (lv := [some (.ref (a)), some (.ref (fa))]) (by decide) (Nat.le_of_ble_eq_true rfl) stZE 0 rfl ?_
  generalize hT : RI (if v = 0 then 1 else 0) (S) = T
  intro zp ze zs zm zb zt zc F hr hnm
  generalize ([.ref (a), .ref (fa)] : List Value).toArray = za at F ⊢
  refine g_aload_n F dX10_value_0 rfl rfl (np := 1) rfl ?_
  refine g_getL F in_X10 (ci := 10) rfl 0 (by decide) rfl (Or.inl q764) (v := .ref (b)) (fun h hs => ⟨_, hI h hs _ _ ha, rfl⟩) dX10_value_1 (np := 4) rfl ?_
  refine g_aload_n F dX10_value_4 rfl rfl (np := 5) rfl ?_
  refine g_value F (rest := []) hb hI q843 ⟨by dsimp only; omega, by dsimp only; omega⟩ (Nat.le_of_ble_eq_true rfl) dX10_value_5 ⟨Nat.le_of_ble_eq_true rfl, Nat.le_of_ble_eq_true rfl⟩ (np := 8) rfl ?_
  refine g_if_ne F dX10_value_8 (tp := 15) (by decide) (np := 11) rfl (fun c8 => ?_) (fun c8 => ?_)
  · refine g_iconst F (v := (nI 0)) dX10_value_15 (by decide) (np := 16) rfl ?_
    have hv : nI (0) = if v = 0 then 1 else 0 := by first | (rw [if_pos c8]; rfl) | (rw [if_neg c8]; rfl)
    exact g_iret F hr rfl (Nat.le_of_ble_eq_true rfl) (Nat.le_of_ble_eq_true rfl) dX10_value_16 (fun h hs => by rw [← hT]; exact ⟨congrArg (fun z => some (Value.int z)) hv, hs⟩)
  · refine g_iconst F (v := (nI 1)) dX10_value_11 (by decide) (np := 12) rfl ?_
    refine g_goto F dX10_value_12 (np := 16) (by decide) ?_
    have hv : nI (1) = if v = 0 then 1 else 0 := by first | (rw [if_pos c8]; rfl) | (rw [if_neg c8]; rfl)
    exact g_iret F hr rfl (Nat.le_of_ble_eq_true rfl) (Nat.le_of_ble_eq_true rfl) dX10_value_16 (fun h hs => by rw [← hT]; exact ⟨congrArg (fun z => some (Value.int z)) hv, hs⟩)

set_option maxRecDepth 100000 in
theorem ct_X13_is {l : Launch} {D : va_G} {B : Nat} {S : AH → Prop}  (b : Nat) (hb : b ≤ 1) : Ct l D ZE B yX13_is cX13_is 1 (some .int) 0 0 0 0 [.int (nI b)] (S) (RI (nI (b)) (S)) := by
  refine Ct.of (nL := 1) (lv := [some (.int (nI b))]) (by decide) (Nat.le_of_ble_eq_true rfl) stZE 0 rfl ?_
  generalize hT : RI (nI (b)) (S) = T
  intro zp ze zs zm zb zt zc F hr hnm
  generalize ([.int (nI b)] : List Value).toArray = za at F ⊢
  refine g_iload_n F dX13_is_0 rfl rfl (np := 1) rfl ?_
  refine g_if_eqN F (by omega) dX13_is_1 (tp := 8) (by decide) (np := 4) rfl (fun c1 => ?_) (fun c1 => ?_)
  · refine g_iconst F (v := (nI 0)) dX13_is_8 (by decide) (np := 9) rfl ?_
    have hv : nI (0) = nI (b) := congrArg nI (by omega)
    exact g_iret F hr rfl (Nat.le_of_ble_eq_true rfl) (Nat.le_of_ble_eq_true rfl) dX13_is_9 (fun h hs => by rw [← hT]; exact ⟨congrArg (fun z => some (Value.int z)) hv, hs⟩)
  · refine g_iconst F (v := (nI 1)) dX13_is_4 (by decide) (np := 5) rfl ?_
    refine g_goto F dX13_is_5 (np := 9) (by decide) ?_
    have hv : nI (1) = nI (b) := congrArg nI (by omega)
    exact g_iret F hr rfl (Nat.le_of_ble_eq_true rfl) (Nat.le_of_ble_eq_true rfl) dX13_is_9 (fun h hs => by rw [← hT]; exact ⟨congrArg (fun z => some (Value.int z)) hv, hs⟩)

set_option maxRecDepth 100000 in
theorem ct_X13_value {l : Launch} {D : va_G} {B : Nat} {S : AH → Prop} {I : AH} (a : Nat) (na : Nat) (g : Nat → Int32) (b : Nat) (b2 : Nat) (op : Nat) (v : Int32) (w : Int32) (frc : Nat) (loc : Nat) (fa : Nat) (hI : ∀ h, S h → ∀ a e, I a = some e → h a = some e) (hf : ∀ h, S h → h fa = some (.inr (1, [.ref na])) ∧ h na = some (.inl (D.1 100, 128, .inl g))) (ha : I a = some (.inr (13, [.int (nI (sgnC op)), .ref b, .ref b2]))) (hb : NV l D B I S fa b v frc loc) (hb2 : NV l D B I S fa b2 w frc loc) (ho : 6 ≤ op ∧ op ≤ 15) (hfr : 1 ≤ frc) : Ct l D ZE B yX13_value cX13_value 4 (some .int) (frc + 1) (loc + 23) 0 0 [.ref (a), .ref (fa)] (S) (RI (zbin op v w) (S)) := by
  refine Ct.of (nL := 4) (lv := [some (.ref (a)), some (.ref (fa)), none, none]) (by decide) (Nat.le_of_ble_eq_true rfl) stZE 2 rfl ?_
  generalize hT : RI (zbin op v w) (S) = T
  intro zp ze zs zm zb zt zc F hr hnm
  generalize ([.ref (a), .ref (fa)] : List Value).toArray = za at F ⊢
  refine g_aload_n F dX13_value_0 rfl rfl (np := 1) rfl ?_
  refine g_getL F in_X13 (ci := 13) rfl 1 (by decide) rfl (Or.inl q801) (v := .ref (b)) (fun h hs => ⟨_, hI h hs _ _ ha, rfl⟩) dX13_value_1 (np := 4) rfl ?_
  refine g_aload_n F dX13_value_4 rfl rfl (np := 5) rfl ?_
  refine g_value F (rest := []) hb hI q850 ⟨by dsimp only; omega, by dsimp only; omega⟩ (Nat.le_of_ble_eq_true rfl) dX13_value_5 ⟨Nat.le_of_ble_eq_true rfl, Nat.le_of_ble_eq_true rfl⟩ (np := 8) rfl ?_
  refine g_istore_n F (lv' := [some (.ref (a)), some (.ref (fa)), some (.int v), none]) dX13_value_8 rfl (by decide) rfl rfl (np := 9) rfl ?_
  refine g_aload_n F dX13_value_9 rfl rfl (np := 10) rfl ?_
  refine g_getL F in_X13 (ci := 13) rfl 2 (by decide) rfl (Or.inl q802) (v := .ref (b2)) (fun h hs => ⟨_, hI h hs _ _ ha, rfl⟩) dX13_value_10 (np := 13) rfl ?_
  refine g_aload_n F dX13_value_13 rfl rfl (np := 14) rfl ?_
  refine g_value F (rest := []) hb2 hI q850 ⟨by dsimp only; omega, by dsimp only; omega⟩ (Nat.le_of_ble_eq_true rfl) dX13_value_14 ⟨Nat.le_of_ble_eq_true rfl, Nat.le_of_ble_eq_true rfl⟩ (np := 17) rfl ?_
  refine g_istore_n F (lv' := [some (.ref (a)), some (.ref (fa)), some (.int v), some (.int w)]) dX13_value_17 rfl (by decide) rfl rfl (np := 18) rfl ?_
  refine g_aload_n F dX13_value_18 rfl rfl (np := 19) rfl ?_
  refine g_getL F in_X13 (ci := 13) rfl 0 (by decide) rfl (Or.inl q800) (v := .int (nI (sgnC op))) (fun h hs => ⟨_, hI h hs _ _ ha, rfl⟩) dX13_value_19 (np := 22) rfl ?_
  rcases (show op = 6 ∨ op = 7 ∨ op = 8 ∨ op = 9 ∨ op = 10 ∨ op = 11 ∨ op = 12 ∨ op = 13 ∨ op = 14 ∨ op = 15 by omega) with hop | hop | hop | hop | hop | hop | hop | hop | hop | hop
  · refine g_tabOut F (x := nI (sgnC op)) dX13_value_22 (by rw [hop]; decide) (np := 250) (by decide) ?_
    refine g_iload_n F dX13_value_250 rfl rfl (np := 251) rfl ?_
    refine g_if_ne F dX13_value_251 (tp := 258) (by decide) (np := 254) rfl (fun c251 => ?_) (fun c251 => ?_)
    · refine g_iconst F (v := (nI 1)) dX13_value_258 (by decide) (np := 259) rfl ?_
      refine g_goto F dX13_value_259 (np := 263) (by decide) ?_
      refine g_runS F (rest := []) (ct_X13_is 1 (by first | assumption | omega)) (lw_S q854 q855 q126 q856) hcS_X13_is ⟨by dsimp only; omega, by dsimp only; omega⟩ rfl rfl (Nat.le_of_ble_eq_true rfl) dX13_value_263 ⟨Nat.le_of_ble_eq_true rfl, Nat.le_of_ble_eq_true rfl⟩ (np := 266) rfl (k_RI ?_)
      have hv : nI (1) = zbin op v w := by rw [hop]; simp_all [zbin, zn1, nI_0, Int32.not_lt, Int32.not_le]
      exact g_iret F hr rfl (Nat.le_of_ble_eq_true rfl) (Nat.le_of_ble_eq_true rfl) dX13_value_266 (fun h hs => by rw [← hT]; exact ⟨congrArg (fun z => some (Value.int z)) hv, hs⟩)
    · refine g_iload_n F dX13_value_254 rfl rfl (np := 255) rfl ?_
      refine g_if_eq F dX13_value_255 (tp := 262) (by decide) (np := 258) rfl (fun c255 => ?_) (fun c255 => ?_)
      · refine g_iconst F (v := (nI 0)) dX13_value_262 (by decide) (np := 263) rfl ?_
        refine g_runS F (rest := []) (ct_X13_is 0 (by first | assumption | omega)) (lw_S q854 q855 q126 q856) hcS_X13_is ⟨by dsimp only; omega, by dsimp only; omega⟩ rfl rfl (Nat.le_of_ble_eq_true rfl) dX13_value_263 ⟨Nat.le_of_ble_eq_true rfl, Nat.le_of_ble_eq_true rfl⟩ (np := 266) rfl (k_RI ?_)
        have hv : nI (0) = zbin op v w := by rw [hop]; simp_all [zbin, zn1, nI_0, Int32.not_lt, Int32.not_le]
        exact g_iret F hr rfl (Nat.le_of_ble_eq_true rfl) (Nat.le_of_ble_eq_true rfl) dX13_value_266 (fun h hs => by rw [← hT]; exact ⟨congrArg (fun z => some (Value.int z)) hv, hs⟩)
      · refine g_iconst F (v := (nI 1)) dX13_value_258 (by decide) (np := 259) rfl ?_
        refine g_goto F dX13_value_259 (np := 263) (by decide) ?_
        refine g_runS F (rest := []) (ct_X13_is 1 (by first | assumption | omega)) (lw_S q854 q855 q126 q856) hcS_X13_is ⟨by dsimp only; omega, by dsimp only; omega⟩ rfl rfl (Nat.le_of_ble_eq_true rfl) dX13_value_263 ⟨Nat.le_of_ble_eq_true rfl, Nat.le_of_ble_eq_true rfl⟩ (np := 266) rfl (k_RI ?_)
        have hv : nI (1) = zbin op v w := by rw [hop]; simp_all [zbin, zn1, nI_0, Int32.not_lt, Int32.not_le]
        exact g_iret F hr rfl (Nat.le_of_ble_eq_true rfl) (Nat.le_of_ble_eq_true rfl) dX13_value_266 (fun h hs => by rw [← hT]; exact ⟨congrArg (fun z => some (Value.int z)) hv, hs⟩)
  · refine g_tabIn F (x := nI (sgnC op)) (v := 38) (by rw [hop]; rfl) (lo := 37) dX13_value_22 (j := 1) (by decide) (by decide) (by decide) rfl (np := 233) (by decide) ?_
    refine g_iload_n F dX13_value_233 rfl rfl (np := 234) rfl ?_
    refine g_if_eq F dX13_value_234 (tp := 245) (by decide) (np := 237) rfl (fun c234 => ?_) (fun c234 => ?_)
    · refine g_iconst F (v := (nI 0)) dX13_value_245 (by decide) (np := 246) rfl ?_
      refine g_runS F (rest := []) (ct_X13_is 0 (by first | assumption | omega)) (lw_S q854 q855 q126 q856) hcS_X13_is ⟨by dsimp only; omega, by dsimp only; omega⟩ rfl rfl (Nat.le_of_ble_eq_true rfl) dX13_value_246 ⟨Nat.le_of_ble_eq_true rfl, Nat.le_of_ble_eq_true rfl⟩ (np := 249) rfl (k_RI ?_)
      have hv : nI (0) = zbin op v w := by rw [hop]; simp_all [zbin, zn1, nI_0, Int32.not_lt, Int32.not_le]
      exact g_iret F hr rfl (Nat.le_of_ble_eq_true rfl) (Nat.le_of_ble_eq_true rfl) dX13_value_249 (fun h hs => by rw [← hT]; exact ⟨congrArg (fun z => some (Value.int z)) hv, hs⟩)
    · refine g_iload_n F dX13_value_237 rfl rfl (np := 238) rfl ?_
      refine g_if_eq F dX13_value_238 (tp := 245) (by decide) (np := 241) rfl (fun c238 => ?_) (fun c238 => ?_)
      · refine g_iconst F (v := (nI 0)) dX13_value_245 (by decide) (np := 246) rfl ?_
        refine g_runS F (rest := []) (ct_X13_is 0 (by first | assumption | omega)) (lw_S q854 q855 q126 q856) hcS_X13_is ⟨by dsimp only; omega, by dsimp only; omega⟩ rfl rfl (Nat.le_of_ble_eq_true rfl) dX13_value_246 ⟨Nat.le_of_ble_eq_true rfl, Nat.le_of_ble_eq_true rfl⟩ (np := 249) rfl (k_RI ?_)
        have hv : nI (0) = zbin op v w := by rw [hop]; simp_all [zbin, zn1, nI_0, Int32.not_lt, Int32.not_le]
        exact g_iret F hr rfl (Nat.le_of_ble_eq_true rfl) (Nat.le_of_ble_eq_true rfl) dX13_value_249 (fun h hs => by rw [← hT]; exact ⟨congrArg (fun z => some (Value.int z)) hv, hs⟩)
      · refine g_iconst F (v := (nI 1)) dX13_value_241 (by decide) (np := 242) rfl ?_
        refine g_goto F dX13_value_242 (np := 246) (by decide) ?_
        refine g_runS F (rest := []) (ct_X13_is 1 (by first | assumption | omega)) (lw_S q854 q855 q126 q856) hcS_X13_is ⟨by dsimp only; omega, by dsimp only; omega⟩ rfl rfl (Nat.le_of_ble_eq_true rfl) dX13_value_246 ⟨Nat.le_of_ble_eq_true rfl, Nat.le_of_ble_eq_true rfl⟩ (np := 249) rfl (k_RI ?_)
        have hv : nI (1) = zbin op v w := by rw [hop]; simp_all [zbin, zn1, nI_0, Int32.not_lt, Int32.not_le]
        exact g_iret F hr rfl (Nat.le_of_ble_eq_true rfl) (Nat.le_of_ble_eq_true rfl) dX13_value_249 (fun h hs => by rw [← hT]; exact ⟨congrArg (fun z => some (Value.int z)) hv, hs⟩)
  · refine g_tabIn F (x := nI (sgnC op)) (v := 60) (by rw [hop]; rfl) (lo := 37) dX13_value_22 (j := 23) (by decide) (by decide) (by decide) rfl (np := 191) (by decide) ?_
    refine g_iload_n F dX13_value_191 rfl rfl (np := 192) rfl ?_
    refine g_iload_n F dX13_value_192 rfl rfl (np := 193) rfl ?_
    refine g_icmp_ge F dX13_value_193 (tp := 200) (by decide) (np := 196) rfl (fun c193 => ?_) (fun c193 => ?_)
    · refine g_iconst F (v := (nI 0)) dX13_value_200 (by decide) (np := 201) rfl ?_
      refine g_runS F (rest := []) (ct_X13_is 0 (by first | assumption | omega)) (lw_S q854 q855 q126 q856) hcS_X13_is ⟨by dsimp only; omega, by dsimp only; omega⟩ rfl rfl (Nat.le_of_ble_eq_true rfl) dX13_value_201 ⟨Nat.le_of_ble_eq_true rfl, Nat.le_of_ble_eq_true rfl⟩ (np := 204) rfl (k_RI ?_)
      have hv : nI (0) = zbin op v w := by rw [hop]; simp_all [zbin, zn1, nI_0, Int32.not_lt, Int32.not_le]
      exact g_iret F hr rfl (Nat.le_of_ble_eq_true rfl) (Nat.le_of_ble_eq_true rfl) dX13_value_204 (fun h hs => by rw [← hT]; exact ⟨congrArg (fun z => some (Value.int z)) hv, hs⟩)
    · refine g_iconst F (v := (nI 1)) dX13_value_196 (by decide) (np := 197) rfl ?_
      refine g_goto F dX13_value_197 (np := 201) (by decide) ?_
      refine g_runS F (rest := []) (ct_X13_is 1 (by first | assumption | omega)) (lw_S q854 q855 q126 q856) hcS_X13_is ⟨by dsimp only; omega, by dsimp only; omega⟩ rfl rfl (Nat.le_of_ble_eq_true rfl) dX13_value_201 ⟨Nat.le_of_ble_eq_true rfl, Nat.le_of_ble_eq_true rfl⟩ (np := 204) rfl (k_RI ?_)
      have hv : nI (1) = zbin op v w := by rw [hop]; simp_all [zbin, zn1, nI_0, Int32.not_lt, Int32.not_le]
      exact g_iret F hr rfl (Nat.le_of_ble_eq_true rfl) (Nat.le_of_ble_eq_true rfl) dX13_value_204 (fun h hs => by rw [← hT]; exact ⟨congrArg (fun z => some (Value.int z)) hv, hs⟩)
  · refine g_tabIn F (x := nI (sgnC op)) (v := 61) (by rw [hop]; rfl) (lo := 37) dX13_value_22 (j := 24) (by decide) (by decide) (by decide) rfl (np := 205) (by decide) ?_
    refine g_iload_n F dX13_value_205 rfl rfl (np := 206) rfl ?_
    refine g_iload_n F dX13_value_206 rfl rfl (np := 207) rfl ?_
    refine g_icmp_ne F dX13_value_207 (tp := 214) (by decide) (np := 210) rfl (fun c207 => ?_) (fun c207 => ?_)
    · refine g_iconst F (v := (nI 0)) dX13_value_214 (by decide) (np := 215) rfl ?_
      refine g_runS F (rest := []) (ct_X13_is 0 (by first | assumption | omega)) (lw_S q854 q855 q126 q856) hcS_X13_is ⟨by dsimp only; omega, by dsimp only; omega⟩ rfl rfl (Nat.le_of_ble_eq_true rfl) dX13_value_215 ⟨Nat.le_of_ble_eq_true rfl, Nat.le_of_ble_eq_true rfl⟩ (np := 218) rfl (k_RI ?_)
      have hv : nI (0) = zbin op v w := by rw [hop]; simp_all [zbin, zn1, nI_0, Int32.not_lt, Int32.not_le]
      exact g_iret F hr rfl (Nat.le_of_ble_eq_true rfl) (Nat.le_of_ble_eq_true rfl) dX13_value_218 (fun h hs => by rw [← hT]; exact ⟨congrArg (fun z => some (Value.int z)) hv, hs⟩)
    · refine g_iconst F (v := (nI 1)) dX13_value_210 (by decide) (np := 211) rfl ?_
      refine g_goto F dX13_value_211 (np := 215) (by decide) ?_
      refine g_runS F (rest := []) (ct_X13_is 1 (by first | assumption | omega)) (lw_S q854 q855 q126 q856) hcS_X13_is ⟨by dsimp only; omega, by dsimp only; omega⟩ rfl rfl (Nat.le_of_ble_eq_true rfl) dX13_value_215 ⟨Nat.le_of_ble_eq_true rfl, Nat.le_of_ble_eq_true rfl⟩ (np := 218) rfl (k_RI ?_)
      have hv : nI (1) = zbin op v w := by rw [hop]; simp_all [zbin, zn1, nI_0, Int32.not_lt, Int32.not_le]
      exact g_iret F hr rfl (Nat.le_of_ble_eq_true rfl) (Nat.le_of_ble_eq_true rfl) dX13_value_218 (fun h hs => by rw [← hT]; exact ⟨congrArg (fun z => some (Value.int z)) hv, hs⟩)
  · refine g_tabIn F (x := nI (sgnC op)) (v := 62) (by rw [hop]; rfl) (lo := 37) dX13_value_22 (j := 25) (by decide) (by decide) (by decide) rfl (np := 219) (by decide) ?_
    refine g_iload_n F dX13_value_219 rfl rfl (np := 220) rfl ?_
    refine g_iload_n F dX13_value_220 rfl rfl (np := 221) rfl ?_
    refine g_icmp_le F dX13_value_221 (tp := 228) (by decide) (np := 224) rfl (fun c221 => ?_) (fun c221 => ?_)
    · refine g_iconst F (v := (nI 0)) dX13_value_228 (by decide) (np := 229) rfl ?_
      refine g_runS F (rest := []) (ct_X13_is 0 (by first | assumption | omega)) (lw_S q854 q855 q126 q856) hcS_X13_is ⟨by dsimp only; omega, by dsimp only; omega⟩ rfl rfl (Nat.le_of_ble_eq_true rfl) dX13_value_229 ⟨Nat.le_of_ble_eq_true rfl, Nat.le_of_ble_eq_true rfl⟩ (np := 232) rfl (k_RI ?_)
      have hv : nI (0) = zbin op v w := by rw [hop]; simp_all [zbin, zn1, nI_0, Int32.not_lt, Int32.not_le]
      exact g_iret F hr rfl (Nat.le_of_ble_eq_true rfl) (Nat.le_of_ble_eq_true rfl) dX13_value_232 (fun h hs => by rw [← hT]; exact ⟨congrArg (fun z => some (Value.int z)) hv, hs⟩)
    · refine g_iconst F (v := (nI 1)) dX13_value_224 (by decide) (np := 225) rfl ?_
      refine g_goto F dX13_value_225 (np := 229) (by decide) ?_
      refine g_runS F (rest := []) (ct_X13_is 1 (by first | assumption | omega)) (lw_S q854 q855 q126 q856) hcS_X13_is ⟨by dsimp only; omega, by dsimp only; omega⟩ rfl rfl (Nat.le_of_ble_eq_true rfl) dX13_value_229 ⟨Nat.le_of_ble_eq_true rfl, Nat.le_of_ble_eq_true rfl⟩ (np := 232) rfl (k_RI ?_)
      have hv : nI (1) = zbin op v w := by rw [hop]; simp_all [zbin, zn1, nI_0, Int32.not_lt, Int32.not_le]
      exact g_iret F hr rfl (Nat.le_of_ble_eq_true rfl) (Nat.le_of_ble_eq_true rfl) dX13_value_232 (fun h hs => by rw [← hT]; exact ⟨congrArg (fun z => some (Value.int z)) hv, hs⟩)
  · refine g_tabIn F (x := nI (sgnC op)) (v := 43) (by rw [hop]; rfl) (lo := 37) dX13_value_22 (j := 6) (by decide) (by decide) (by decide) rfl (np := 140) (by decide) ?_
    refine g_iload_n F dX13_value_140 rfl rfl (np := 141) rfl ?_
    refine g_iload_n F dX13_value_141 rfl rfl (np := 142) rfl ?_
    refine g_iadd F dX13_value_142 (np := 143) rfl ?_
    have hv : v + w = zbin op v w := by rw [hop]; rfl
    exact g_iret F hr rfl (Nat.le_of_ble_eq_true rfl) (Nat.le_of_ble_eq_true rfl) dX13_value_143 (fun h hs => by rw [← hT]; exact ⟨congrArg (fun z => some (Value.int z)) hv, hs⟩)
  · refine g_tabIn F (x := nI (sgnC op)) (v := 45) (by rw [hop]; rfl) (lo := 37) dX13_value_22 (j := 8) (by decide) (by decide) (by decide) rfl (np := 144) (by decide) ?_
    refine g_iload_n F dX13_value_144 rfl rfl (np := 145) rfl ?_
    refine g_iload_n F dX13_value_145 rfl rfl (np := 146) rfl ?_
    refine g_isub F dX13_value_146 (np := 147) rfl ?_
    have hv : v - w = zbin op v w := by rw [hop]; rfl
    exact g_iret F hr rfl (Nat.le_of_ble_eq_true rfl) (Nat.le_of_ble_eq_true rfl) dX13_value_147 (fun h hs => by rw [← hT]; exact ⟨congrArg (fun z => some (Value.int z)) hv, hs⟩)
  · refine g_tabIn F (x := nI (sgnC op)) (v := 42) (by rw [hop]; rfl) (lo := 37) dX13_value_22 (j := 5) (by decide) (by decide) (by decide) rfl (np := 148) (by decide) ?_
    refine g_iload_n F dX13_value_148 rfl rfl (np := 149) rfl ?_
    refine g_iload_n F dX13_value_149 rfl rfl (np := 150) rfl ?_
    refine g_imul F dX13_value_150 (np := 151) rfl ?_
    have hv : v * w = zbin op v w := by rw [hop]; rfl
    exact g_iret F hr rfl (Nat.le_of_ble_eq_true rfl) (Nat.le_of_ble_eq_true rfl) dX13_value_151 (fun h hs => by rw [← hT]; exact ⟨congrArg (fun z => some (Value.int z)) hv, hs⟩)
  · refine g_tabIn F (x := nI (sgnC op)) (v := 47) (by rw [hop]; rfl) (lo := 37) dX13_value_22 (j := 10) (by decide) (by decide) (by decide) rfl (np := 152) (by decide) ?_
    refine g_iload_n F dX13_value_152 rfl rfl (np := 153) rfl ?_
    refine g_if_ne F dX13_value_153 (tp := 160) (by decide) (np := 156) rfl (fun c153 => ?_) (fun c153 => ?_)
    · refine g_iload_n F dX13_value_160 rfl rfl (np := 161) rfl ?_
      refine g_iconst F (v := (-1)) dX13_value_161 (by decide) (np := 162) rfl ?_
      refine g_icmp_ne F dX13_value_162 (tp := 170) (by decide) (np := 165) rfl (fun c162 => ?_) (fun c162 => ?_)
      · refine g_iload_n F dX13_value_170 rfl rfl (np := 171) rfl ?_
        refine g_iload_n F dX13_value_171 rfl rfl (np := 172) rfl ?_
        refine g_idiv F dX13_value_172 (by assumption) (np := 173) rfl ?_
        have hv : v / w = zbin op v w := by rw [hop]; show _ = (if w = 0 then 0 else v / w); first | (rw [if_pos c153]; rfl) | (rw [if_neg c153, c162]; exact (div_m1 v).symm) | (rw [if_neg c153])
        exact g_iret F hr rfl (Nat.le_of_ble_eq_true rfl) (Nat.le_of_ble_eq_true rfl) dX13_value_173 (fun h hs => by rw [← hT]; exact ⟨congrArg (fun z => some (Value.int z)) hv, hs⟩)
      · refine g_iload_n F dX13_value_165 rfl rfl (np := 166) rfl ?_
        refine g_ineg F dX13_value_166 (np := 167) rfl ?_
        refine g_goto F dX13_value_167 (np := 173) (by decide) ?_
        have hv : -v = zbin op v w := by rw [hop]; show _ = (if w = 0 then 0 else v / w); first | (rw [if_pos c153]; rfl) | (rw [if_neg c153, c162]; exact (div_m1 v).symm) | (rw [if_neg c153])
        exact g_iret F hr rfl (Nat.le_of_ble_eq_true rfl) (Nat.le_of_ble_eq_true rfl) dX13_value_173 (fun h hs => by rw [← hT]; exact ⟨congrArg (fun z => some (Value.int z)) hv, hs⟩)
    · refine g_iconst F (v := (nI 0)) dX13_value_156 (by decide) (np := 157) rfl ?_
      refine g_goto F dX13_value_157 (np := 173) (by decide) ?_
      have hv : nI (0) = zbin op v w := by rw [hop]; show _ = (if w = 0 then 0 else v / w); first | (rw [if_pos c153]; rfl) | (rw [if_neg c153, c162]; exact (div_m1 v).symm) | (rw [if_neg c153])
      exact g_iret F hr rfl (Nat.le_of_ble_eq_true rfl) (Nat.le_of_ble_eq_true rfl) dX13_value_173 (fun h hs => by rw [← hT]; exact ⟨congrArg (fun z => some (Value.int z)) hv, hs⟩)
  · refine g_tabIn F (x := nI (sgnC op)) (v := 37) (by rw [hop]; rfl) (lo := 37) dX13_value_22 (j := 0) (by decide) (by decide) (by decide) rfl (np := 174) (by decide) ?_
    refine g_iload_n F dX13_value_174 rfl rfl (np := 175) rfl ?_
    refine g_if_eq F dX13_value_175 (tp := 183) (by decide) (np := 178) rfl (fun c175 => ?_) (fun c175 => ?_)
    · refine g_iconst F (v := (nI 0)) dX13_value_183 (by decide) (np := 184) rfl ?_
      refine g_goto F dX13_value_184 (np := 190) (by decide) ?_
      have hv : nI (0) = zbin op v w := by rw [hop]; show _ = (if w = 0 then 0 else v - v / w * w); first | (rw [if_pos c175]; rfl) | (rw [if_neg c175, c180]; exact (rem_m1 v).symm) | (rw [if_neg c175])
      exact g_iret F hr rfl (Nat.le_of_ble_eq_true rfl) (Nat.le_of_ble_eq_true rfl) dX13_value_190 (fun h hs => by rw [← hT]; exact ⟨congrArg (fun z => some (Value.int z)) hv, hs⟩)
    · refine g_iload_n F dX13_value_178 rfl rfl (np := 179) rfl ?_
      refine g_iconst F (v := (-1)) dX13_value_179 (by decide) (np := 180) rfl ?_
      refine g_icmp_ne F dX13_value_180 (tp := 187) (by decide) (np := 183) rfl (fun c180 => ?_) (fun c180 => ?_)
      · refine g_iload_n F dX13_value_187 rfl rfl (np := 188) rfl ?_
        refine g_iload_n F dX13_value_188 rfl rfl (np := 189) rfl ?_
        refine g_irem F dX13_value_189 (by assumption) (np := 190) rfl ?_
        have hv : v - v / w * w = zbin op v w := by rw [hop]; show _ = (if w = 0 then 0 else v - v / w * w); first | (rw [if_pos c175]; rfl) | (rw [if_neg c175, c180]; exact (rem_m1 v).symm) | (rw [if_neg c175])
        exact g_iret F hr rfl (Nat.le_of_ble_eq_true rfl) (Nat.le_of_ble_eq_true rfl) dX13_value_190 (fun h hs => by rw [← hT]; exact ⟨congrArg (fun z => some (Value.int z)) hv, hs⟩)
      · refine g_iconst F (v := (nI 0)) dX13_value_183 (by decide) (np := 184) rfl ?_
        refine g_goto F dX13_value_184 (np := 190) (by decide) ?_
        have hv : nI (0) = zbin op v w := by rw [hop]; show _ = (if w = 0 then 0 else v - v / w * w); first | (rw [if_pos c175]; rfl) | (rw [if_neg c175, c180]; exact (rem_m1 v).symm) | (rw [if_neg c175])
        exact g_iret F hr rfl (Nat.le_of_ble_eq_true rfl) (Nat.le_of_ble_eq_true rfl) dX13_value_190 (fun h hs => by rw [← hT]; exact ⟨congrArg (fun z => some (Value.int z)) hv, hs⟩)
