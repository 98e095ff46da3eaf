theorem ic_6 : Int32.ofInt 6 = (6 : Int32) := by decide
theorem dd_X0_act : yX0_act.cls ≠ "java/lang/invoke/MethodHandle" ∧ yX0_act.cls ≠ "java/lang/invoke/VarHandle" ∧ (parseMethodDescriptor yX0_act.desc).map (fun d => d.parameters.length) = some 3 := by decide +kernel
theorem dd_X0_back : yX0_back.cls ≠ "java/lang/invoke/MethodHandle" ∧ yX0_back.cls ≠ "java/lang/invoke/VarHandle" ∧ (parseMethodDescriptor yX0_back.desc).map (fun d => d.parameters.length) = some 0 := by decide +kernel
theorem dd_X0_below : yX0_below.cls ≠ "java/lang/invoke/MethodHandle" ∧ yX0_below.cls ≠ "java/lang/invoke/VarHandle" ∧ (parseMethodDescriptor yX0_below.desc).map (fun d => d.parameters.length) = some 3 := by decide +kernel
theorem dd_X0_body : yX0_body.cls ≠ "java/lang/invoke/MethodHandle" ∧ yX0_body.cls ≠ "java/lang/invoke/VarHandle" ∧ (parseMethodDescriptor yX0_body.desc).map (fun d => d.parameters.length) = some 1 := by decide +kernel
theorem dd_X0_count : yX0_count.cls ≠ "java/lang/invoke/MethodHandle" ∧ yX0_count.cls ≠ "java/lang/invoke/VarHandle" ∧ (parseMethodDescriptor yX0_count.desc).map (fun d => d.parameters.length) = some 1 := by decide +kernel
theorem dd_X0_drawn : yX0_drawn.cls ≠ "java/lang/invoke/MethodHandle" ∧ yX0_drawn.cls ≠ "java/lang/invoke/VarHandle" ∧ (parseMethodDescriptor yX0_drawn.desc).map (fun d => d.parameters.length) = some 3 := by decide +kernel
theorem dd_X0_element : yX0_element.cls ≠ "java/lang/invoke/MethodHandle" ∧ yX0_element.cls ≠ "java/lang/invoke/VarHandle" ∧ (parseMethodDescriptor yX0_element.desc).map (fun d => d.parameters.length) = some 2 := by decide +kernel
theorem dd_X0_feed : yX0_feed.cls ≠ "java/lang/invoke/MethodHandle" ∧ yX0_feed.cls ≠ "java/lang/invoke/VarHandle" ∧ (parseMethodDescriptor yX0_feed.desc).map (fun d => d.parameters.length) = some 1 := by decide +kernel
theorem dd_X0_forget : yX0_forget.cls ≠ "java/lang/invoke/MethodHandle" ∧ yX0_forget.cls ≠ "java/lang/invoke/VarHandle" ∧ (parseMethodDescriptor yX0_forget.desc).map (fun d => d.parameters.length) = some 1 := by decide +kernel
theorem dd_X0_guest : yX0_guest.cls ≠ "java/lang/invoke/MethodHandle" ∧ yX0_guest.cls ≠ "java/lang/invoke/VarHandle" ∧ (parseMethodDescriptor yX0_guest.desc).map (fun d => d.parameters.length) = some 2 := by decide +kernel
theorem dd_X0_guests : yX0_guests.cls ≠ "java/lang/invoke/MethodHandle" ∧ yX0_guests.cls ≠ "java/lang/invoke/VarHandle" ∧ (parseMethodDescriptor yX0_guests.desc).map (fun d => d.parameters.length) = some 3 := by decide +kernel
theorem dd_X0_image : yX0_image.cls ≠ "java/lang/invoke/MethodHandle" ∧ yX0_image.cls ≠ "java/lang/invoke/VarHandle" ∧ (parseMethodDescriptor yX0_image.desc).map (fun d => d.parameters.length) = some 0 := by decide +kernel
theorem dd_X0_init : yX0_init.cls ≠ "java/lang/invoke/MethodHandle" ∧ yX0_init.cls ≠ "java/lang/invoke/VarHandle" ∧ (parseMethodDescriptor yX0_init.desc).map (fun d => d.parameters.length) = some 0 := by decide +kernel
theorem dd_X0_judge : yX0_judge.cls ≠ "java/lang/invoke/MethodHandle" ∧ yX0_judge.cls ≠ "java/lang/invoke/VarHandle" ∧ (parseMethodDescriptor yX0_judge.desc).map (fun d => d.parameters.length) = some 2 := by decide +kernel
theorem dd_X0_keep : yX0_keep.cls ≠ "java/lang/invoke/MethodHandle" ∧ yX0_keep.cls ≠ "java/lang/invoke/VarHandle" ∧ (parseMethodDescriptor yX0_keep.desc).map (fun d => d.parameters.length) = some 2 := by decide +kernel
theorem dd_X0_law : yX0_law.cls ≠ "java/lang/invoke/MethodHandle" ∧ yX0_law.cls ≠ "java/lang/invoke/VarHandle" ∧ (parseMethodDescriptor yX0_law.desc).map (fun d => d.parameters.length) = some 0 := by decide +kernel
theorem dd_X0_led : yX0_led.cls ≠ "java/lang/invoke/MethodHandle" ∧ yX0_led.cls ≠ "java/lang/invoke/VarHandle" ∧ (parseMethodDescriptor yX0_led.desc).map (fun d => d.parameters.length) = some 1 := by decide +kernel
theorem dd_X0_level : yX0_level.cls ≠ "java/lang/invoke/MethodHandle" ∧ yX0_level.cls ≠ "java/lang/invoke/VarHandle" ∧ (parseMethodDescriptor yX0_level.desc).map (fun d => d.parameters.length) = some 3 := by decide +kernel
theorem dd_X0_loss : yX0_loss.cls ≠ "java/lang/invoke/MethodHandle" ∧ yX0_loss.cls ≠ "java/lang/invoke/VarHandle" ∧ (parseMethodDescriptor yX0_loss.desc).map (fun d => d.parameters.length) = some 1 := by decide +kernel
theorem dd_X0_lowest : yX0_lowest.cls ≠ "java/lang/invoke/MethodHandle" ∧ yX0_lowest.cls ≠ "java/lang/invoke/VarHandle" ∧ (parseMethodDescriptor yX0_lowest.desc).map (fun d => d.parameters.length) = some 2 := by decide +kernel
theorem dd_X0_mend : yX0_mend.cls ≠ "java/lang/invoke/MethodHandle" ∧ yX0_mend.cls ≠ "java/lang/invoke/VarHandle" ∧ (parseMethodDescriptor yX0_mend.desc).map (fun d => d.parameters.length) = some 3 := by decide +kernel
theorem dd_X0_night : yX0_night.cls ≠ "java/lang/invoke/MethodHandle" ∧ yX0_night.cls ≠ "java/lang/invoke/VarHandle" ∧ (parseMethodDescriptor yX0_night.desc).map (fun d => d.parameters.length) = some 1 := by decide +kernel
theorem dd_X0_of : yX0_of.cls ≠ "java/lang/invoke/MethodHandle" ∧ yX0_of.cls ≠ "java/lang/invoke/VarHandle" ∧ (parseMethodDescriptor yX0_of.desc).map (fun d => d.parameters.length) = some 2 := by decide +kernel
theorem dd_X0_often : yX0_often.cls ≠ "java/lang/invoke/MethodHandle" ∧ yX0_often.cls ≠ "java/lang/invoke/VarHandle" ∧ (parseMethodDescriptor yX0_often.desc).map (fun d => d.parameters.length) = some 3 := by decide +kernel
theorem dd_X0_order : yX0_order.cls ≠ "java/lang/invoke/MethodHandle" ∧ yX0_order.cls ≠ "java/lang/invoke/VarHandle" ∧ (parseMethodDescriptor yX0_order.desc).map (fun d => d.parameters.length) = some 2 := by decide +kernel
theorem dd_X0_put : yX0_put.cls ≠ "java/lang/invoke/MethodHandle" ∧ yX0_put.cls ≠ "java/lang/invoke/VarHandle" ∧ (parseMethodDescriptor yX0_put.desc).map (fun d => d.parameters.length) = some 3 := by decide +kernel
theorem dd_X0_redo : yX0_redo.cls ≠ "java/lang/invoke/MethodHandle" ∧ yX0_redo.cls ≠ "java/lang/invoke/VarHandle" ∧ (parseMethodDescriptor yX0_redo.desc).map (fun d => d.parameters.length) = some 0 := by decide +kernel
theorem dd_X0_rest : yX0_rest.cls ≠ "java/lang/invoke/MethodHandle" ∧ yX0_rest.cls ≠ "java/lang/invoke/VarHandle" ∧ (parseMethodDescriptor yX0_rest.desc).map (fun d => d.parameters.length) = some 2 := by decide +kernel
theorem dd_X0_row : yX0_row.cls ≠ "java/lang/invoke/MethodHandle" ∧ yX0_row.cls ≠ "java/lang/invoke/VarHandle" ∧ (parseMethodDescriptor yX0_row.desc).map (fun d => d.parameters.length) = some 3 := by decide +kernel
theorem dd_X0_set : yX0_set.cls ≠ "java/lang/invoke/MethodHandle" ∧ yX0_set.cls ≠ "java/lang/invoke/VarHandle" ∧ (parseMethodDescriptor yX0_set.desc).map (fun d => d.parameters.length) = some 2 := by decide +kernel
theorem dd_X0_shift : yX0_shift.cls ≠ "java/lang/invoke/MethodHandle" ∧ yX0_shift.cls ≠ "java/lang/invoke/VarHandle" ∧ (parseMethodDescriptor yX0_shift.desc).map (fun d => d.parameters.length) = some 5 := by decide +kernel
theorem dd_X0_since : yX0_since.cls ≠ "java/lang/invoke/MethodHandle" ∧ yX0_since.cls ≠ "java/lang/invoke/VarHandle" ∧ (parseMethodDescriptor yX0_since.desc).map (fun d => d.parameters.length) = some 3 := by decide +kernel
theorem dd_X0_spoils : yX0_spoils.cls ≠ "java/lang/invoke/MethodHandle" ∧ yX0_spoils.cls ≠ "java/lang/invoke/VarHandle" ∧ (parseMethodDescriptor yX0_spoils.desc).map (fun d => d.parameters.length) = some 2 := by decide +kernel
theorem dd_X0_taken : yX0_taken.cls ≠ "java/lang/invoke/MethodHandle" ∧ yX0_taken.cls ≠ "java/lang/invoke/VarHandle" ∧ (parseMethodDescriptor yX0_taken.desc).map (fun d => d.parameters.length) = some 2 := by decide +kernel
theorem dd_X0_tin : yX0_tin.cls ≠ "java/lang/invoke/MethodHandle" ∧ yX0_tin.cls ≠ "java/lang/invoke/VarHandle" ∧ (parseMethodDescriptor yX0_tin.desc).map (fun d => d.parameters.length) = some 2 := by decide +kernel
theorem dd_X0_trace : yX0_trace.cls ≠ "java/lang/invoke/MethodHandle" ∧ yX0_trace.cls ≠ "java/lang/invoke/VarHandle" ∧ (parseMethodDescriptor yX0_trace.desc).map (fun d => d.parameters.length) = some 1 := by decide +kernel
theorem dd_X0_undo : yX0_undo.cls ≠ "java/lang/invoke/MethodHandle" ∧ yX0_undo.cls ≠ "java/lang/invoke/VarHandle" ∧ (parseMethodDescriptor yX0_undo.desc).map (fun d => d.parameters.length) = some 0 := by decide +kernel
theorem dd_X0_warden : yX0_warden.cls ≠ "java/lang/invoke/MethodHandle" ∧ yX0_warden.cls ≠ "java/lang/invoke/VarHandle" ∧ (parseMethodDescriptor yX0_warden.desc).map (fun d => d.parameters.length) = some 2 := by decide +kernel
theorem dd_X0_ways : yX0_ways.cls ≠ "java/lang/invoke/MethodHandle" ∧ yX0_ways.cls ≠ "java/lang/invoke/VarHandle" ∧ (parseMethodDescriptor yX0_ways.desc).map (fun d => d.parameters.length) = some 2 := by decide +kernel
theorem dd_X0_who : yX0_who.cls ≠ "java/lang/invoke/MethodHandle" ∧ yX0_who.cls ≠ "java/lang/invoke/VarHandle" ∧ (parseMethodDescriptor yX0_who.desc).map (fun d => d.parameters.length) = some 3 := by decide +kernel
theorem dd_X6_act : yX6_act.cls ≠ "java/lang/invoke/MethodHandle" ∧ yX6_act.cls ≠ "java/lang/invoke/VarHandle" ∧ (parseMethodDescriptor yX6_act.desc).map (fun d => d.parameters.length) = some 3 := by decide +kernel
theorem dd_X6_back : yX6_back.cls ≠ "java/lang/invoke/MethodHandle" ∧ yX6_back.cls ≠ "java/lang/invoke/VarHandle" ∧ (parseMethodDescriptor yX6_back.desc).map (fun d => d.parameters.length) = some 0 := by decide +kernel
theorem dd_X6_below : yX6_below.cls ≠ "java/lang/invoke/MethodHandle" ∧ yX6_below.cls ≠ "java/lang/invoke/VarHandle" ∧ (parseMethodDescriptor yX6_below.desc).map (fun d => d.parameters.length) = some 3 := by decide +kernel
theorem dd_X6_body : yX6_body.cls ≠ "java/lang/invoke/MethodHandle" ∧ yX6_body.cls ≠ "java/lang/invoke/VarHandle" ∧ (parseMethodDescriptor yX6_body.desc).map (fun d => d.parameters.length) = some 1 := by decide +kernel
theorem dd_X6_count : yX6_count.cls ≠ "java/lang/invoke/MethodHandle" ∧ yX6_count.cls ≠ "java/lang/invoke/VarHandle" ∧ (parseMethodDescriptor yX6_count.desc).map (fun d => d.parameters.length) = some 1 := by decide +kernel
theorem dd_X6_drawn : yX6_drawn.cls ≠ "java/lang/invoke/MethodHandle" ∧ yX6_drawn.cls ≠ "java/lang/invoke/VarHandle" ∧ (parseMethodDescriptor yX6_drawn.desc).map (fun d => d.parameters.length) = some 3 := by decide +kernel
theorem dd_X6_element : yX6_element.cls ≠ "java/lang/invoke/MethodHandle" ∧ yX6_element.cls ≠ "java/lang/invoke/VarHandle" ∧ (parseMethodDescriptor yX6_element.desc).map (fun d => d.parameters.length) = some 2 := by decide +kernel
theorem dd_X6_feed : yX6_feed.cls ≠ "java/lang/invoke/MethodHandle" ∧ yX6_feed.cls ≠ "java/lang/invoke/VarHandle" ∧ (parseMethodDescriptor yX6_feed.desc).map (fun d => d.parameters.length) = some 1 := by decide +kernel
theorem dd_X6_forget : yX6_forget.cls ≠ "java/lang/invoke/MethodHandle" ∧ yX6_forget.cls ≠ "java/lang/invoke/VarHandle" ∧ (parseMethodDescriptor yX6_forget.desc).map (fun d => d.parameters.length) = some 1 := by decide +kernel
theorem dd_X6_guest : yX6_guest.cls ≠ "java/lang/invoke/MethodHandle" ∧ yX6_guest.cls ≠ "java/lang/invoke/VarHandle" ∧ (parseMethodDescriptor yX6_guest.desc).map (fun d => d.parameters.length) = some 2 := by decide +kernel
theorem dd_X6_guests : yX6_guests.cls ≠ "java/lang/invoke/MethodHandle" ∧ yX6_guests.cls ≠ "java/lang/invoke/VarHandle" ∧ (parseMethodDescriptor yX6_guests.desc).map (fun d => d.parameters.length) = some 3 := by decide +kernel
theorem dd_X6_image : yX6_image.cls ≠ "java/lang/invoke/MethodHandle" ∧ yX6_image.cls ≠ "java/lang/invoke/VarHandle" ∧ (parseMethodDescriptor yX6_image.desc).map (fun d => d.parameters.length) = some 0 := by decide +kernel
theorem dd_X6_init : yX6_init.cls ≠ "java/lang/invoke/MethodHandle" ∧ yX6_init.cls ≠ "java/lang/invoke/VarHandle" ∧ (parseMethodDescriptor yX6_init.desc).map (fun d => d.parameters.length) = some 0 := by decide +kernel
theorem dd_X6_judge : yX6_judge.cls ≠ "java/lang/invoke/MethodHandle" ∧ yX6_judge.cls ≠ "java/lang/invoke/VarHandle" ∧ (parseMethodDescriptor yX6_judge.desc).map (fun d => d.parameters.length) = some 2 := by decide +kernel
theorem dd_X6_keep : yX6_keep.cls ≠ "java/lang/invoke/MethodHandle" ∧ yX6_keep.cls ≠ "java/lang/invoke/VarHandle" ∧ (parseMethodDescriptor yX6_keep.desc).map (fun d => d.parameters.length) = some 2 := by decide +kernel
theorem dd_X6_law : yX6_law.cls ≠ "java/lang/invoke/MethodHandle" ∧ yX6_law.cls ≠ "java/lang/invoke/VarHandle" ∧ (parseMethodDescriptor yX6_law.desc).map (fun d => d.parameters.length) = some 0 := by decide +kernel
theorem dd_X6_led : yX6_led.cls ≠ "java/lang/invoke/MethodHandle" ∧ yX6_led.cls ≠ "java/lang/invoke/VarHandle" ∧ (parseMethodDescriptor yX6_led.desc).map (fun d => d.parameters.length) = some 1 := by decide +kernel
theorem dd_X6_level : yX6_level.cls ≠ "java/lang/invoke/MethodHandle" ∧ yX6_level.cls ≠ "java/lang/invoke/VarHandle" ∧ (parseMethodDescriptor yX6_level.desc).map (fun d => d.parameters.length) = some 3 := by decide +kernel
theorem dd_X6_loss : yX6_loss.cls ≠ "java/lang/invoke/MethodHandle" ∧ yX6_loss.cls ≠ "java/lang/invoke/VarHandle" ∧ (parseMethodDescriptor yX6_loss.desc).map (fun d => d.parameters.length) = some 1 := by decide +kernel
theorem dd_X6_lowest : yX6_lowest.cls ≠ "java/lang/invoke/MethodHandle" ∧ yX6_lowest.cls ≠ "java/lang/invoke/VarHandle" ∧ (parseMethodDescriptor yX6_lowest.desc).map (fun d => d.parameters.length) = some 2 := by decide +kernel
theorem dd_X6_mend : yX6_mend.cls ≠ "java/lang/invoke/MethodHandle" ∧ yX6_mend.cls ≠ "java/lang/invoke/VarHandle" ∧ (parseMethodDescriptor yX6_mend.desc).map (fun d => d.parameters.length) = some 3 := by decide +kernel
theorem dd_X6_night : yX6_night.cls ≠ "java/lang/invoke/MethodHandle" ∧ yX6_night.cls ≠ "java/lang/invoke/VarHandle" ∧ (parseMethodDescriptor yX6_night.desc).map (fun d => d.parameters.length) = some 1 := by decide +kernel
theorem dd_X6_of : yX6_of.cls ≠ "java/lang/invoke/MethodHandle" ∧ yX6_of.cls ≠ "java/lang/invoke/VarHandle" ∧ (parseMethodDescriptor yX6_of.desc).map (fun d => d.parameters.length) = some 2 := by decide +kernel
theorem dd_X6_often : yX6_often.cls ≠ "java/lang/invoke/MethodHandle" ∧ yX6_often.cls ≠ "java/lang/invoke/VarHandle" ∧ (parseMethodDescriptor yX6_often.desc).map (fun d => d.parameters.length) = some 3 := by decide +kernel
theorem dd_X6_order : yX6_order.cls ≠ "java/lang/invoke/MethodHandle" ∧ yX6_order.cls ≠ "java/lang/invoke/VarHandle" ∧ (parseMethodDescriptor yX6_order.desc).map (fun d => d.parameters.length) = some 2 := by decide +kernel
theorem dd_X6_put : yX6_put.cls ≠ "java/lang/invoke/MethodHandle" ∧ yX6_put.cls ≠ "java/lang/invoke/VarHandle" ∧ (parseMethodDescriptor yX6_put.desc).map (fun d => d.parameters.length) = some 3 := by decide +kernel
theorem dd_X6_redo : yX6_redo.cls ≠ "java/lang/invoke/MethodHandle" ∧ yX6_redo.cls ≠ "java/lang/invoke/VarHandle" ∧ (parseMethodDescriptor yX6_redo.desc).map (fun d => d.parameters.length) = some 0 := by decide +kernel
theorem dd_X6_rest : yX6_rest.cls ≠ "java/lang/invoke/MethodHandle" ∧ yX6_rest.cls ≠ "java/lang/invoke/VarHandle" ∧ (parseMethodDescriptor yX6_rest.desc).map (fun d => d.parameters.length) = some 2 := by decide +kernel
theorem dd_X6_row : yX6_row.cls ≠ "java/lang/invoke/MethodHandle" ∧ yX6_row.cls ≠ "java/lang/invoke/VarHandle" ∧ (parseMethodDescriptor yX6_row.desc).map (fun d => d.parameters.length) = some 3 := by decide +kernel
theorem dd_X6_set : yX6_set.cls ≠ "java/lang/invoke/MethodHandle" ∧ yX6_set.cls ≠ "java/lang/invoke/VarHandle" ∧ (parseMethodDescriptor yX6_set.desc).map (fun d => d.parameters.length) = some 2 := by decide +kernel
theorem dd_X6_shift : yX6_shift.cls ≠ "java/lang/invoke/MethodHandle" ∧ yX6_shift.cls ≠ "java/lang/invoke/VarHandle" ∧ (parseMethodDescriptor yX6_shift.desc).map (fun d => d.parameters.length) = some 5 := by decide +kernel
theorem dd_X6_since : yX6_since.cls ≠ "java/lang/invoke/MethodHandle" ∧ yX6_since.cls ≠ "java/lang/invoke/VarHandle" ∧ (parseMethodDescriptor yX6_since.desc).map (fun d => d.parameters.length) = some 3 := by decide +kernel
theorem dd_X6_spoils : yX6_spoils.cls ≠ "java/lang/invoke/MethodHandle" ∧ yX6_spoils.cls ≠ "java/lang/invoke/VarHandle" ∧ (parseMethodDescriptor yX6_spoils.desc).map (fun d => d.parameters.length) = some 2 := by decide +kernel
theorem dd_X6_taken : yX6_taken.cls ≠ "java/lang/invoke/MethodHandle" ∧ yX6_taken.cls ≠ "java/lang/invoke/VarHandle" ∧ (parseMethodDescriptor yX6_taken.desc).map (fun d => d.parameters.length) = some 2 := by decide +kernel
theorem dd_X6_tin : yX6_tin.cls ≠ "java/lang/invoke/MethodHandle" ∧ yX6_tin.cls ≠ "java/lang/invoke/VarHandle" ∧ (parseMethodDescriptor yX6_tin.desc).map (fun d => d.parameters.length) = some 2 := by decide +kernel
theorem dd_X6_trace : yX6_trace.cls ≠ "java/lang/invoke/MethodHandle" ∧ yX6_trace.cls ≠ "java/lang/invoke/VarHandle" ∧ (parseMethodDescriptor yX6_trace.desc).map (fun d => d.parameters.length) = some 1 := by decide +kernel
theorem dd_X6_undo : yX6_undo.cls ≠ "java/lang/invoke/MethodHandle" ∧ yX6_undo.cls ≠ "java/lang/invoke/VarHandle" ∧ (parseMethodDescriptor yX6_undo.desc).map (fun d => d.parameters.length) = some 0 := by decide +kernel
theorem dd_X6_warden : yX6_warden.cls ≠ "java/lang/invoke/MethodHandle" ∧ yX6_warden.cls ≠ "java/lang/invoke/VarHandle" ∧ (parseMethodDescriptor yX6_warden.desc).map (fun d => d.parameters.length) = some 2 := by decide +kernel
theorem dd_X6_ways : yX6_ways.cls ≠ "java/lang/invoke/MethodHandle" ∧ yX6_ways.cls ≠ "java/lang/invoke/VarHandle" ∧ (parseMethodDescriptor yX6_ways.desc).map (fun d => d.parameters.length) = some 2 := by decide +kernel
theorem dd_X6_who : yX6_who.cls ≠ "java/lang/invoke/MethodHandle" ∧ yX6_who.cls ≠ "java/lang/invoke/VarHandle" ∧ (parseMethodDescriptor yX6_who.desc).map (fun d => d.parameters.length) = some 3 := by decide +kernel
theorem sl_X0_act : Cond.selects (ah_nm 1) yX0_act yX0_act ∈ lw_all := q970
theorem sl_X0_back : Cond.selects (ah_nm 1) yX0_back yX0_back ∈ lw_all := q857
theorem sl_X0_below : Cond.selects (ah_nm 1) yX0_below yX0_below ∈ lw_all := q722
theorem sl_X0_body : Cond.selects (ah_nm 1) yX0_body yX0_body ∈ lw_all := q861
theorem sl_X0_count : Cond.selects (ah_nm 1) yX0_count yX0_count ∈ lw_all := q1298
theorem sl_X0_drawn : Cond.selects (ah_nm 1) yX0_drawn yX0_drawn ∈ lw_all := q831
theorem sl_X0_element : Cond.selects (ah_nm 1) yX0_element yX0_element ∈ lw_all := q1227
theorem sl_X0_feed : Cond.selects (ah_nm 1) yX0_feed yX0_feed ∈ lw_all := q425
theorem sl_X0_forget : Cond.selects (ah_nm 1) yX0_forget yX0_forget ∈ lw_all := q845
theorem sl_X0_guest : Cond.selects (ah_nm 1) yX0_guest yX0_guest ∈ lw_all := q433
theorem sl_X0_guests : Cond.selects (ah_nm 1) yX0_guests yX0_guests ∈ lw_all := q468
theorem sl_X0_image : Cond.selects (ah_nm 1) yX0_image yX0_image ∈ lw_all := q853
theorem sl_X0_judge : Cond.selects (ah_nm 1) yX0_judge yX0_judge ∈ lw_all := q823
theorem sl_X0_keep : Cond.selects (ah_nm 1) yX0_keep yX0_keep ∈ lw_all := q1203
theorem sl_X0_law : Cond.selects (ah_nm 1) yX0_law yX0_law ∈ lw_all := q523
theorem sl_X0_led : Cond.selects (ah_nm 1) yX0_led yX0_led ∈ lw_all := q849
theorem sl_X0_level : Cond.selects (ah_nm 1) yX0_level yX0_level ∈ lw_all := q651
theorem sl_X0_loss : Cond.selects (ah_nm 1) yX0_loss yX0_loss ∈ lw_all := q727
theorem sl_X0_lowest : Cond.selects (ah_nm 1) yX0_lowest yX0_lowest ∈ lw_all := q718
theorem sl_X0_mend : Cond.selects (ah_nm 1) yX0_mend yX0_mend ∈ lw_all := q490
theorem sl_X0_night : Cond.selects (ah_nm 1) yX0_night yX0_night ∈ lw_all := q837
theorem sl_X0_of : Cond.selects (ah_nm 1) yX0_of yX0_of ∈ lw_all := q516
theorem sl_X0_often : Cond.selects (ah_nm 1) yX0_often yX0_often ∈ lw_all := q760
theorem sl_X0_order : Cond.selects (ah_nm 1) yX0_order yX0_order ∈ lw_all := q786
theorem sl_X0_put : Cond.selects (ah_nm 1) yX0_put yX0_put ∈ lw_all := q1216
theorem sl_X0_redo : Cond.selects (ah_nm 1) yX0_redo yX0_redo ∈ lw_all := q128
theorem sl_X0_rest : Cond.selects (ah_nm 1) yX0_rest yX0_rest ∈ lw_all := q744
theorem sl_X0_row : Cond.selects (ah_nm 1) yX0_row yX0_row ∈ lw_all := q1207
theorem sl_X0_set : Cond.selects (ah_nm 1) yX0_set yX0_set ∈ lw_all := q841
theorem sl_X0_shift : Cond.selects (ah_nm 1) yX0_shift yX0_shift ∈ lw_all := q1231
theorem sl_X0_since : Cond.selects (ah_nm 1) yX0_since yX0_since ∈ lw_all := q827
theorem sl_X0_spoils : Cond.selects (ah_nm 1) yX0_spoils yX0_spoils ∈ lw_all := q781
theorem sl_X0_taken : Cond.selects (ah_nm 1) yX0_taken yX0_taken ∈ lw_all := q1235
theorem sl_X0_tin : Cond.selects (ah_nm 1) yX0_tin yX0_tin ∈ lw_all := q794
theorem sl_X0_trace : Cond.selects (ah_nm 1) yX0_trace yX0_trace ∈ lw_all := q1199
theorem sl_X0_undo : Cond.selects (ah_nm 1) yX0_undo yX0_undo ∈ lw_all := q124
theorem sl_X0_warden : Cond.selects (ah_nm 1) yX0_warden yX0_warden ∈ lw_all := q772
theorem sl_X0_ways : Cond.selects (ah_nm 1) yX0_ways yX0_ways ∈ lw_all := q819
theorem sl_X0_who : Cond.selects (ah_nm 1) yX0_who yX0_who ∈ lw_all := q807
theorem sl_X6_act : Cond.selects (ah_nm 7) yX6_act yX6_act ∈ lw_all := q1812
theorem sl_X6_back : Cond.selects (ah_nm 7) yX6_back yX6_back ∈ lw_all := q1800
theorem sl_X6_below : Cond.selects (ah_nm 7) yX6_below yX6_below ∈ lw_all := q1673
theorem sl_X6_body : Cond.selects (ah_nm 7) yX6_body yX6_body ∈ lw_all := q1808
theorem sl_X6_count : Cond.selects (ah_nm 7) yX6_count yX6_count ∈ lw_all := q1871
theorem sl_X6_drawn : Cond.selects (ah_nm 7) yX6_drawn yX6_drawn ∈ lw_all := q1775
theorem sl_X6_element : Cond.selects (ah_nm 7) yX6_element yX6_element ∈ lw_all := q1895
theorem sl_X6_feed : Cond.selects (ah_nm 7) yX6_feed yX6_feed ∈ lw_all := q1559
theorem sl_X6_forget : Cond.selects (ah_nm 7) yX6_forget yX6_forget ∈ lw_all := q1788
theorem sl_X6_guest : Cond.selects (ah_nm 7) yX6_guest yX6_guest ∈ lw_all := q1491
theorem sl_X6_guests : Cond.selects (ah_nm 7) yX6_guests yX6_guests ∈ lw_all := q1502
theorem sl_X6_image : Cond.selects (ah_nm 7) yX6_image yX6_image ∈ lw_all := q1796
theorem sl_X6_judge : Cond.selects (ah_nm 7) yX6_judge yX6_judge ∈ lw_all := q1767
theorem sl_X6_keep : Cond.selects (ah_nm 7) yX6_keep yX6_keep ∈ lw_all := q1879
theorem sl_X6_law : Cond.selects (ah_nm 7) yX6_law yX6_law ∈ lw_all := q1563
theorem sl_X6_led : Cond.selects (ah_nm 7) yX6_led yX6_led ∈ lw_all := q1792
theorem sl_X6_level : Cond.selects (ah_nm 7) yX6_level yX6_level ∈ lw_all := q1622
theorem sl_X6_loss : Cond.selects (ah_nm 7) yX6_loss yX6_loss ∈ lw_all := q1677
theorem sl_X6_lowest : Cond.selects (ah_nm 7) yX6_lowest yX6_lowest ∈ lw_all := q1669
theorem sl_X6_mend : Cond.selects (ah_nm 7) yX6_mend yX6_mend ∈ lw_all := q1525
theorem sl_X6_night : Cond.selects (ah_nm 7) yX6_night yX6_night ∈ lw_all := q1780
theorem sl_X6_of : Cond.selects (ah_nm 7) yX6_of yX6_of ∈ lw_all := q1555
theorem sl_X6_often : Cond.selects (ah_nm 7) yX6_often yX6_often ∈ lw_all := q1701
theorem sl_X6_order : Cond.selects (ah_nm 7) yX6_order yX6_order ∈ lw_all := q1730
theorem sl_X6_put : Cond.selects (ah_nm 7) yX6_put yX6_put ∈ lw_all := q1887
theorem sl_X6_redo : Cond.selects (ah_nm 7) yX6_redo yX6_redo ∈ lw_all := q1521
theorem sl_X6_rest : Cond.selects (ah_nm 7) yX6_rest yX6_rest ∈ lw_all := q1693
theorem sl_X6_row : Cond.selects (ah_nm 7) yX6_row yX6_row ∈ lw_all := q1883
theorem sl_X6_set : Cond.selects (ah_nm 7) yX6_set yX6_set ∈ lw_all := q1784
theorem sl_X6_shift : Cond.selects (ah_nm 7) yX6_shift yX6_shift ∈ lw_all := q1899
theorem sl_X6_since : Cond.selects (ah_nm 7) yX6_since yX6_since ∈ lw_all := q1771
theorem sl_X6_spoils : Cond.selects (ah_nm 7) yX6_spoils yX6_spoils ∈ lw_all := q1722
theorem sl_X6_taken : Cond.selects (ah_nm 7) yX6_taken yX6_taken ∈ lw_all := q1903
theorem sl_X6_tin : Cond.selects (ah_nm 7) yX6_tin yX6_tin ∈ lw_all := q1738
theorem sl_X6_trace : Cond.selects (ah_nm 7) yX6_trace yX6_trace ∈ lw_all := q1804
theorem sl_X6_undo : Cond.selects (ah_nm 7) yX6_undo yX6_undo ∈ lw_all := q1510
theorem sl_X6_warden : Cond.selects (ah_nm 7) yX6_warden yX6_warden ∈ lw_all := q1713
theorem sl_X6_ways : Cond.selects (ah_nm 7) yX6_ways yX6_ways ∈ lw_all := q1763
theorem sl_X6_who : Cond.selects (ah_nm 7) yX6_who yX6_who ∈ lw_all := q1747
