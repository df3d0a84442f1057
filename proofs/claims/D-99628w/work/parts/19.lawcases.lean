set_option maxRecDepth 100000
theorem ddC_X1_sign : yX1_sign.cls = RX1 ∧ yX1_sign.cls ≠ "java/lang/invoke/MethodHandle" ∧ yX1_sign.cls ≠ "java/lang/invoke/VarHandle" ∧ (parseMethodDescriptor yX1_sign.desc).map (fun d => d.parameters.length) = some 1 := by decide +kernel
theorem ddC_X6_sign : yX6_sign.cls = RX6 ∧ yX6_sign.cls ≠ "java/lang/invoke/MethodHandle" ∧ yX6_sign.cls ≠ "java/lang/invoke/VarHandle" ∧ (parseMethodDescriptor yX6_sign.desc).map (fun d => d.parameters.length) = some 1 := by decide +kernel
theorem ddC_X1_end : yX1_end.cls = RX1 ∧ yX1_end.cls ≠ "java/lang/invoke/MethodHandle" ∧ yX1_end.cls ≠ "java/lang/invoke/VarHandle" ∧ (parseMethodDescriptor yX1_end.desc).map (fun d => d.parameters.length) = some 1 := by decide +kernel
theorem ddC_X6_end : yX6_end.cls = RX6 ∧ yX6_end.cls ≠ "java/lang/invoke/MethodHandle" ∧ yX6_end.cls ≠ "java/lang/invoke/VarHandle" ∧ (parseMethodDescriptor yX6_end.desc).map (fun d => d.parameters.length) = some 1 := by decide +kernel
theorem ddC_X1_valley : yX1_valley.cls = RX1 ∧ yX1_valley.cls ≠ "java/lang/invoke/MethodHandle" ∧ yX1_valley.cls ≠ "java/lang/invoke/VarHandle" ∧ (parseMethodDescriptor yX1_valley.desc).map (fun d => d.parameters.length) = some 0 := by decide +kernel
theorem ddC_X6_valley : yX6_valley.cls = RX6 ∧ yX6_valley.cls ≠ "java/lang/invoke/MethodHandle" ∧ yX6_valley.cls ≠ "java/lang/invoke/VarHandle" ∧ (parseMethodDescriptor yX6_valley.desc).map (fun d => d.parameters.length) = some 0 := by decide +kernel
theorem ddC_X1_people : yX1_people.cls = RX1 ∧ yX1_people.cls ≠ "java/lang/invoke/MethodHandle" ∧ yX1_people.cls ≠ "java/lang/invoke/VarHandle" ∧ (parseMethodDescriptor yX1_people.desc).map (fun d => d.parameters.length) = some 0 := by decide +kernel
theorem ddC_X6_people : yX6_people.cls = RX6 ∧ yX6_people.cls ≠ "java/lang/invoke/MethodHandle" ∧ yX6_people.cls ≠ "java/lang/invoke/VarHandle" ∧ (parseMethodDescriptor yX6_people.desc).map (fun d => d.parameters.length) = some 0 := by decide +kernel
theorem ddC_X1_things : yX1_things.cls = RX1 ∧ yX1_things.cls ≠ "java/lang/invoke/MethodHandle" ∧ yX1_things.cls ≠ "java/lang/invoke/VarHandle" ∧ (parseMethodDescriptor yX1_things.desc).map (fun d => d.parameters.length) = some 0 := by decide +kernel
theorem ddC_X6_things : yX6_things.cls = RX6 ∧ yX6_things.cls ≠ "java/lang/invoke/MethodHandle" ∧ yX6_things.cls ≠ "java/lang/invoke/VarHandle" ∧ (parseMethodDescriptor yX6_things.desc).map (fun d => d.parameters.length) = some 0 := by decide +kernel
theorem ddC_X1_light : yX1_light.cls = RX1 ∧ yX1_light.cls ≠ "java/lang/invoke/MethodHandle" ∧ yX1_light.cls ≠ "java/lang/invoke/VarHandle" ∧ (parseMethodDescriptor yX1_light.desc).map (fun d => d.parameters.length) = some 0 := by decide +kernel
theorem ddC_X6_light : yX6_light.cls = RX6 ∧ yX6_light.cls ≠ "java/lang/invoke/MethodHandle" ∧ yX6_light.cls ≠ "java/lang/invoke/VarHandle" ∧ (parseMethodDescriptor yX6_light.desc).map (fun d => d.parameters.length) = some 0 := by decide +kernel
theorem ddC_X1_rule : yX1_rule.cls = RX1 ∧ yX1_rule.cls ≠ "java/lang/invoke/MethodHandle" ∧ yX1_rule.cls ≠ "java/lang/invoke/VarHandle" ∧ (parseMethodDescriptor yX1_rule.desc).map (fun d => d.parameters.length) = some 0 := by decide +kernel
theorem ddC_X6_rule : yX6_rule.cls = RX6 ∧ yX6_rule.cls ≠ "java/lang/invoke/MethodHandle" ∧ yX6_rule.cls ≠ "java/lang/invoke/VarHandle" ∧ (parseMethodDescriptor yX6_rule.desc).map (fun d => d.parameters.length) = some 0 := by decide +kernel
theorem ddC_X6_person : yX6_person.cls = RX6 ∧ yX6_person.cls ≠ "java/lang/invoke/MethodHandle" ∧ yX6_person.cls ≠ "java/lang/invoke/VarHandle" ∧ (parseMethodDescriptor yX6_person.desc).map (fun d => d.parameters.length) = some 2 := by decide +kernel
theorem ddC_X6_thrown : yX6_thrown.cls = RX6 ∧ yX6_thrown.cls ≠ "java/lang/invoke/MethodHandle" ∧ yX6_thrown.cls ≠ "java/lang/invoke/VarHandle" ∧ (parseMethodDescriptor yX6_thrown.desc).map (fun d => d.parameters.length) = some 0 := by decide +kernel
theorem ddC_X6_thing : yX6_thing.cls = RX6 ∧ yX6_thing.cls ≠ "java/lang/invoke/MethodHandle" ∧ yX6_thing.cls ≠ "java/lang/invoke/VarHandle" ∧ (parseMethodDescriptor yX6_thing.desc).map (fun d => d.parameters.length) = some 2 := by decide +kernel
theorem ddC_X1_sheet : yX1_sheet.cls = RX1 ∧ yX1_sheet.cls ≠ "java/lang/invoke/MethodHandle" ∧ yX1_sheet.cls ≠ "java/lang/invoke/VarHandle" ∧ (parseMethodDescriptor yX1_sheet.desc).map (fun d => d.parameters.length) = some 4 := by decide +kernel
theorem ddC_X6_sheet : yX6_sheet.cls = RX6 ∧ yX6_sheet.cls ≠ "java/lang/invoke/MethodHandle" ∧ yX6_sheet.cls ≠ "java/lang/invoke/VarHandle" ∧ (parseMethodDescriptor yX6_sheet.desc).map (fun d => d.parameters.length) = some 4 := by decide +kernel
theorem ddC_X1_hours : yX1_hours.cls = RX1 ∧ yX1_hours.cls ≠ "java/lang/invoke/MethodHandle" ∧ yX1_hours.cls ≠ "java/lang/invoke/VarHandle" ∧ (parseMethodDescriptor yX1_hours.desc).map (fun d => d.parameters.length) = some 1 := by decide +kernel
theorem ddC_X6_hours : yX6_hours.cls = RX6 ∧ yX6_hours.cls ≠ "java/lang/invoke/MethodHandle" ∧ yX6_hours.cls ≠ "java/lang/invoke/VarHandle" ∧ (parseMethodDescriptor yX6_hours.desc).map (fun d => d.parameters.length) = some 1 := by decide +kernel
theorem ddC_X1_faces : yX1_faces.cls = RX1 ∧ yX1_faces.cls ≠ "java/lang/invoke/MethodHandle" ∧ yX1_faces.cls ≠ "java/lang/invoke/VarHandle" ∧ (parseMethodDescriptor yX1_faces.desc).map (fun d => d.parameters.length) = some 2 := by decide +kernel
theorem ddC_X6_faces : yX6_faces.cls = RX6 ∧ yX6_faces.cls ≠ "java/lang/invoke/MethodHandle" ∧ yX6_faces.cls ≠ "java/lang/invoke/VarHandle" ∧ (parseMethodDescriptor yX6_faces.desc).map (fun d => d.parameters.length) = some 2 := by decide +kernel
theorem ddC_X1_steps : yX1_steps.cls = RX1 ∧ yX1_steps.cls ≠ "java/lang/invoke/MethodHandle" ∧ yX1_steps.cls ≠ "java/lang/invoke/VarHandle" ∧ (parseMethodDescriptor yX1_steps.desc).map (fun d => d.parameters.length) = some 2 := by decide +kernel
theorem ddC_X6_steps : yX6_steps.cls = RX6 ∧ yX6_steps.cls ≠ "java/lang/invoke/MethodHandle" ∧ yX6_steps.cls ≠ "java/lang/invoke/VarHandle" ∧ (parseMethodDescriptor yX6_steps.desc).map (fun d => d.parameters.length) = some 2 := by decide +kernel
theorem ddC_X1_trims : yX1_trims.cls = RX1 ∧ yX1_trims.cls ≠ "java/lang/invoke/MethodHandle" ∧ yX1_trims.cls ≠ "java/lang/invoke/VarHandle" ∧ (parseMethodDescriptor yX1_trims.desc).map (fun d => d.parameters.length) = some 2 := by decide +kernel
theorem ddC_X6_trims : yX6_trims.cls = RX6 ∧ yX6_trims.cls ≠ "java/lang/invoke/MethodHandle" ∧ yX6_trims.cls ≠ "java/lang/invoke/VarHandle" ∧ (parseMethodDescriptor yX6_trims.desc).map (fun d => d.parameters.length) = some 2 := by decide +kernel
theorem ddC_X1_puts : yX1_puts.cls = RX1 ∧ yX1_puts.cls ≠ "java/lang/invoke/MethodHandle" ∧ yX1_puts.cls ≠ "java/lang/invoke/VarHandle" ∧ (parseMethodDescriptor yX1_puts.desc).map (fun d => d.parameters.length) = some 2 := by decide +kernel
theorem ddC_X6_puts : yX6_puts.cls = RX6 ∧ yX6_puts.cls ≠ "java/lang/invoke/MethodHandle" ∧ yX6_puts.cls ≠ "java/lang/invoke/VarHandle" ∧ (parseMethodDescriptor yX6_puts.desc).map (fun d => d.parameters.length) = some 2 := by decide +kernel
theorem ddC_X1_day : yX1_day.cls = RX1 ∧ yX1_day.cls ≠ "java/lang/invoke/MethodHandle" ∧ yX1_day.cls ≠ "java/lang/invoke/VarHandle" ∧ (parseMethodDescriptor yX1_day.desc).map (fun d => d.parameters.length) = some 0 := by decide +kernel
theorem ddC_X6_day : yX6_day.cls = RX6 ∧ yX6_day.cls ≠ "java/lang/invoke/MethodHandle" ∧ yX6_day.cls ≠ "java/lang/invoke/VarHandle" ∧ (parseMethodDescriptor yX6_day.desc).map (fun d => d.parameters.length) = some 0 := by decide +kernel
theorem ddC_X1_undo : yX1_undo.cls = RX1 ∧ yX1_undo.cls ≠ "java/lang/invoke/MethodHandle" ∧ yX1_undo.cls ≠ "java/lang/invoke/VarHandle" ∧ (parseMethodDescriptor yX1_undo.desc).map (fun d => d.parameters.length) = some 0 := by decide +kernel
theorem ddC_X6_undo : yX6_undo.cls = RX6 ∧ yX6_undo.cls ≠ "java/lang/invoke/MethodHandle" ∧ yX6_undo.cls ≠ "java/lang/invoke/VarHandle" ∧ (parseMethodDescriptor yX6_undo.desc).map (fun d => d.parameters.length) = some 0 := by decide +kernel
theorem ddC_X1_sees : yX1_sees.cls = RX1 ∧ yX1_sees.cls ≠ "java/lang/invoke/MethodHandle" ∧ yX1_sees.cls ≠ "java/lang/invoke/VarHandle" ∧ (parseMethodDescriptor yX1_sees.desc).map (fun d => d.parameters.length) = some 1 := by decide +kernel
theorem ddC_X6_sees : yX6_sees.cls = RX6 ∧ yX6_sees.cls ≠ "java/lang/invoke/MethodHandle" ∧ yX6_sees.cls ≠ "java/lang/invoke/VarHandle" ∧ (parseMethodDescriptor yX6_sees.desc).map (fun d => d.parameters.length) = some 1 := by decide +kernel
theorem ddC_X1_seers : yX1_seers.cls = RX1 ∧ yX1_seers.cls ≠ "java/lang/invoke/MethodHandle" ∧ yX1_seers.cls ≠ "java/lang/invoke/VarHandle" ∧ (parseMethodDescriptor yX1_seers.desc).map (fun d => d.parameters.length) = some 1 := by decide +kernel
theorem ddC_X6_seers : yX6_seers.cls = RX6 ∧ yX6_seers.cls ≠ "java/lang/invoke/MethodHandle" ∧ yX6_seers.cls ≠ "java/lang/invoke/VarHandle" ∧ (parseMethodDescriptor yX6_seers.desc).map (fun d => d.parameters.length) = some 1 := by decide +kernel
theorem ddC_X1_hidden : yX1_hidden.cls = RX1 ∧ yX1_hidden.cls ≠ "java/lang/invoke/MethodHandle" ∧ yX1_hidden.cls ≠ "java/lang/invoke/VarHandle" ∧ (parseMethodDescriptor yX1_hidden.desc).map (fun d => d.parameters.length) = some 0 := by decide +kernel
theorem ddC_X6_hidden : yX6_hidden.cls = RX6 ∧ yX6_hidden.cls ≠ "java/lang/invoke/MethodHandle" ∧ yX6_hidden.cls ≠ "java/lang/invoke/VarHandle" ∧ (parseMethodDescriptor yX6_hidden.desc).map (fun d => d.parameters.length) = some 0 := by decide +kernel
theorem ddC_X1_pairs : yX1_pairs.cls = RX1 ∧ yX1_pairs.cls ≠ "java/lang/invoke/MethodHandle" ∧ yX1_pairs.cls ≠ "java/lang/invoke/VarHandle" ∧ (parseMethodDescriptor yX1_pairs.desc).map (fun d => d.parameters.length) = some 0 := by decide +kernel
theorem ddC_X6_pairs : yX6_pairs.cls = RX6 ∧ yX6_pairs.cls ≠ "java/lang/invoke/MethodHandle" ∧ yX6_pairs.cls ≠ "java/lang/invoke/VarHandle" ∧ (parseMethodDescriptor yX6_pairs.desc).map (fun d => d.parameters.length) = some 0 := by decide +kernel
theorem ddC_X1_behind : yX1_behind.cls = RX1 ∧ yX1_behind.cls ≠ "java/lang/invoke/MethodHandle" ∧ yX1_behind.cls ≠ "java/lang/invoke/VarHandle" ∧ (parseMethodDescriptor yX1_behind.desc).map (fun d => d.parameters.length) = some 1 := by decide +kernel
theorem ddC_X6_behind : yX6_behind.cls = RX6 ∧ yX6_behind.cls ≠ "java/lang/invoke/MethodHandle" ∧ yX6_behind.cls ≠ "java/lang/invoke/VarHandle" ∧ (parseMethodDescriptor yX6_behind.desc).map (fun d => d.parameters.length) = some 1 := by decide +kernel
theorem ddC_X1_widest : yX1_widest.cls = RX1 ∧ yX1_widest.cls ≠ "java/lang/invoke/MethodHandle" ∧ yX1_widest.cls ≠ "java/lang/invoke/VarHandle" ∧ (parseMethodDescriptor yX1_widest.desc).map (fun d => d.parameters.length) = some 0 := by decide +kernel
theorem ddC_X6_widest : yX6_widest.cls = RX6 ∧ yX6_widest.cls ≠ "java/lang/invoke/MethodHandle" ∧ yX6_widest.cls ≠ "java/lang/invoke/VarHandle" ∧ (parseMethodDescriptor yX6_widest.desc).map (fun d => d.parameters.length) = some 0 := by decide +kernel
theorem ddC_X1_watch : yX1_watch.cls = RX1 ∧ yX1_watch.cls ≠ "java/lang/invoke/MethodHandle" ∧ yX1_watch.cls ≠ "java/lang/invoke/VarHandle" ∧ (parseMethodDescriptor yX1_watch.desc).map (fun d => d.parameters.length) = some 0 := by decide +kernel
theorem ddC_X6_watch : yX6_watch.cls = RX6 ∧ yX6_watch.cls ≠ "java/lang/invoke/MethodHandle" ∧ yX6_watch.cls ≠ "java/lang/invoke/VarHandle" ∧ (parseMethodDescriptor yX6_watch.desc).map (fun d => d.parameters.length) = some 0 := by decide +kernel
theorem ddC_X1_learns : yX1_learns.cls = RX1 ∧ yX1_learns.cls ≠ "java/lang/invoke/MethodHandle" ∧ yX1_learns.cls ≠ "java/lang/invoke/VarHandle" ∧ (parseMethodDescriptor yX1_learns.desc).map (fun d => d.parameters.length) = some 2 := by decide +kernel
theorem ddC_X6_learns : yX6_learns.cls = RX6 ∧ yX6_learns.cls ≠ "java/lang/invoke/MethodHandle" ∧ yX6_learns.cls ≠ "java/lang/invoke/VarHandle" ∧ (parseMethodDescriptor yX6_learns.desc).map (fun d => d.parameters.length) = some 2 := by decide +kernel
theorem ddC_X1_all : yX1_all.cls = RX1 ∧ yX1_all.cls ≠ "java/lang/invoke/MethodHandle" ∧ yX1_all.cls ≠ "java/lang/invoke/VarHandle" ∧ (parseMethodDescriptor yX1_all.desc).map (fun d => d.parameters.length) = some 0 := by decide +kernel
theorem ddC_X6_all : yX6_all.cls = RX6 ∧ yX6_all.cls ≠ "java/lang/invoke/MethodHandle" ∧ yX6_all.cls ≠ "java/lang/invoke/VarHandle" ∧ (parseMethodDescriptor yX6_all.desc).map (fun d => d.parameters.length) = some 0 := by decide +kernel
theorem ddC_X1_ahead : yX1_ahead.cls = RX1 ∧ yX1_ahead.cls ≠ "java/lang/invoke/MethodHandle" ∧ yX1_ahead.cls ≠ "java/lang/invoke/VarHandle" ∧ (parseMethodDescriptor yX1_ahead.desc).map (fun d => d.parameters.length) = some 1 := by decide +kernel
theorem ddC_X6_ahead : yX6_ahead.cls = RX6 ∧ yX6_ahead.cls ≠ "java/lang/invoke/MethodHandle" ∧ yX6_ahead.cls ≠ "java/lang/invoke/VarHandle" ∧ (parseMethodDescriptor yX6_ahead.desc).map (fun d => d.parameters.length) = some 1 := by decide +kernel
theorem ddC_X1_gossip : yX1_gossip.cls = RX1 ∧ yX1_gossip.cls ≠ "java/lang/invoke/MethodHandle" ∧ yX1_gossip.cls ≠ "java/lang/invoke/VarHandle" ∧ (parseMethodDescriptor yX1_gossip.desc).map (fun d => d.parameters.length) = some 1 := by decide +kernel
theorem ddC_X6_gossip : yX6_gossip.cls = RX6 ∧ yX6_gossip.cls ≠ "java/lang/invoke/MethodHandle" ∧ yX6_gossip.cls ≠ "java/lang/invoke/VarHandle" ∧ (parseMethodDescriptor yX6_gossip.desc).map (fun d => d.parameters.length) = some 1 := by decide +kernel
theorem ddC_X1_eighths : yX1_eighths.cls = RX1 ∧ yX1_eighths.cls ≠ "java/lang/invoke/MethodHandle" ∧ yX1_eighths.cls ≠ "java/lang/invoke/VarHandle" ∧ (parseMethodDescriptor yX1_eighths.desc).map (fun d => d.parameters.length) = some 2 := by decide +kernel
theorem ddC_X6_eighths : yX6_eighths.cls = RX6 ∧ yX6_eighths.cls ≠ "java/lang/invoke/MethodHandle" ∧ yX6_eighths.cls ≠ "java/lang/invoke/VarHandle" ∧ (parseMethodDescriptor yX6_eighths.desc).map (fun d => d.parameters.length) = some 2 := by decide +kernel
theorem ddC_X1_turned : yX1_turned.cls = RX1 ∧ yX1_turned.cls ≠ "java/lang/invoke/MethodHandle" ∧ yX1_turned.cls ≠ "java/lang/invoke/VarHandle" ∧ (parseMethodDescriptor yX1_turned.desc).map (fun d => d.parameters.length) = some 0 := by decide +kernel
theorem ddC_X6_turned : yX6_turned.cls = RX6 ∧ yX6_turned.cls ≠ "java/lang/invoke/MethodHandle" ∧ yX6_turned.cls ≠ "java/lang/invoke/VarHandle" ∧ (parseMethodDescriptor yX6_turned.desc).map (fun d => d.parameters.length) = some 0 := by decide +kernel
theorem ddC_X1_best : yX1_best.cls = RX1 ∧ yX1_best.cls ≠ "java/lang/invoke/MethodHandle" ∧ yX1_best.cls ≠ "java/lang/invoke/VarHandle" ∧ (parseMethodDescriptor yX1_best.desc).map (fun d => d.parameters.length) = some 1 := by decide +kernel
theorem ddC_X6_best : yX6_best.cls = RX6 ∧ yX6_best.cls ≠ "java/lang/invoke/MethodHandle" ∧ yX6_best.cls ≠ "java/lang/invoke/VarHandle" ∧ (parseMethodDescriptor yX6_best.desc).map (fun d => d.parameters.length) = some 1 := by decide +kernel
theorem ddC_X1_bears : yX1_bears.cls = RX1 ∧ yX1_bears.cls ≠ "java/lang/invoke/MethodHandle" ∧ yX1_bears.cls ≠ "java/lang/invoke/VarHandle" ∧ (parseMethodDescriptor yX1_bears.desc).map (fun d => d.parameters.length) = some 2 := by decide +kernel
theorem ddC_X6_bears : yX6_bears.cls = RX6 ∧ yX6_bears.cls ≠ "java/lang/invoke/MethodHandle" ∧ yX6_bears.cls ≠ "java/lang/invoke/VarHandle" ∧ (parseMethodDescriptor yX6_bears.desc).map (fun d => d.parameters.length) = some 2 := by decide +kernel
theorem ddC_X1_back : yX1_back.cls = RX1 ∧ yX1_back.cls ≠ "java/lang/invoke/MethodHandle" ∧ yX1_back.cls ≠ "java/lang/invoke/VarHandle" ∧ (parseMethodDescriptor yX1_back.desc).map (fun d => d.parameters.length) = some 2 := by decide +kernel
theorem ddC_X6_back : yX6_back.cls = RX6 ∧ yX6_back.cls ≠ "java/lang/invoke/MethodHandle" ∧ yX6_back.cls ≠ "java/lang/invoke/VarHandle" ∧ (parseMethodDescriptor yX6_back.desc).map (fun d => d.parameters.length) = some 2 := by decide +kernel
theorem ddC_X1_open_2 : yX1_open_2.cls = RX1 ∧ yX1_open_2.cls ≠ "java/lang/invoke/MethodHandle" ∧ yX1_open_2.cls ≠ "java/lang/invoke/VarHandle" ∧ (parseMethodDescriptor yX1_open_2.desc).map (fun d => d.parameters.length) = some 2 := by decide +kernel
theorem ddC_X6_open : yX6_open.cls = RX6 ∧ yX6_open.cls ≠ "java/lang/invoke/MethodHandle" ∧ yX6_open.cls ≠ "java/lang/invoke/VarHandle" ∧ (parseMethodDescriptor yX6_open.desc).map (fun d => d.parameters.length) = some 2 := by decide +kernel
theorem ddC_X1_heard : yX1_heard.cls = RX1 ∧ yX1_heard.cls ≠ "java/lang/invoke/MethodHandle" ∧ yX1_heard.cls ≠ "java/lang/invoke/VarHandle" ∧ (parseMethodDescriptor yX1_heard.desc).map (fun d => d.parameters.length) = some 2 := by decide +kernel
theorem ddC_X6_heard : yX6_heard.cls = RX6 ∧ yX6_heard.cls ≠ "java/lang/invoke/MethodHandle" ∧ yX6_heard.cls ≠ "java/lang/invoke/VarHandle" ∧ (parseMethodDescriptor yX6_heard.desc).map (fun d => d.parameters.length) = some 2 := by decide +kernel
theorem ddC_X1_forget : yX1_forget.cls = RX1 ∧ yX1_forget.cls ≠ "java/lang/invoke/MethodHandle" ∧ yX1_forget.cls ≠ "java/lang/invoke/VarHandle" ∧ (parseMethodDescriptor yX1_forget.desc).map (fun d => d.parameters.length) = some 0 := by decide +kernel
theorem ddC_X6_forget : yX6_forget.cls = RX6 ∧ yX6_forget.cls ≠ "java/lang/invoke/MethodHandle" ∧ yX6_forget.cls ≠ "java/lang/invoke/VarHandle" ∧ (parseMethodDescriptor yX6_forget.desc).map (fun d => d.parameters.length) = some 0 := by decide +kernel
theorem ddC_X1_lost : yX1_lost.cls = RX1 ∧ yX1_lost.cls ≠ "java/lang/invoke/MethodHandle" ∧ yX1_lost.cls ≠ "java/lang/invoke/VarHandle" ∧ (parseMethodDescriptor yX1_lost.desc).map (fun d => d.parameters.length) = some 0 := by decide +kernel
theorem ddC_X6_lost : yX6_lost.cls = RX6 ∧ yX6_lost.cls ≠ "java/lang/invoke/MethodHandle" ∧ yX6_lost.cls ≠ "java/lang/invoke/VarHandle" ∧ (parseMethodDescriptor yX6_lost.desc).map (fun d => d.parameters.length) = some 0 := by decide +kernel
theorem ddC_X1_asks : yX1_asks.cls = RX1 ∧ yX1_asks.cls ≠ "java/lang/invoke/MethodHandle" ∧ yX1_asks.cls ≠ "java/lang/invoke/VarHandle" ∧ (parseMethodDescriptor yX1_asks.desc).map (fun d => d.parameters.length) = some 0 := by decide +kernel
theorem ddC_X6_asks : yX6_asks.cls = RX6 ∧ yX6_asks.cls ≠ "java/lang/invoke/MethodHandle" ∧ yX6_asks.cls ≠ "java/lang/invoke/VarHandle" ∧ (parseMethodDescriptor yX6_asks.desc).map (fun d => d.parameters.length) = some 0 := by decide +kernel
theorem ddC_X1_storm : yX1_storm.cls = RX1 ∧ yX1_storm.cls ≠ "java/lang/invoke/MethodHandle" ∧ yX1_storm.cls ≠ "java/lang/invoke/VarHandle" ∧ (parseMethodDescriptor yX1_storm.desc).map (fun d => d.parameters.length) = some 3 := by decide +kernel
theorem ddC_X6_storm : yX6_storm.cls = RX6 ∧ yX6_storm.cls ≠ "java/lang/invoke/MethodHandle" ∧ yX6_storm.cls ≠ "java/lang/invoke/VarHandle" ∧ (parseMethodDescriptor yX6_storm.desc).map (fun d => d.parameters.length) = some 3 := by decide +kernel
theorem ddC_X1_cock : yX1_cock.cls = RX1 ∧ yX1_cock.cls ≠ "java/lang/invoke/MethodHandle" ∧ yX1_cock.cls ≠ "java/lang/invoke/VarHandle" ∧ (parseMethodDescriptor yX1_cock.desc).map (fun d => d.parameters.length) = some 2 := by decide +kernel
theorem ddC_X6_cock : yX6_cock.cls = RX6 ∧ yX6_cock.cls ≠ "java/lang/invoke/MethodHandle" ∧ yX6_cock.cls ≠ "java/lang/invoke/VarHandle" ∧ (parseMethodDescriptor yX6_cock.desc).map (fun d => d.parameters.length) = some 2 := by decide +kernel
theorem ddC_X1_law : yX1_law.cls = RX1 ∧ yX1_law.cls ≠ "java/lang/invoke/MethodHandle" ∧ yX1_law.cls ≠ "java/lang/invoke/VarHandle" ∧ (parseMethodDescriptor yX1_law.desc).map (fun d => d.parameters.length) = some 0 := by decide +kernel
theorem ddC_X6_law : yX6_law.cls = RX6 ∧ yX6_law.cls ≠ "java/lang/invoke/MethodHandle" ∧ yX6_law.cls ≠ "java/lang/invoke/VarHandle" ∧ (parseMethodDescriptor yX6_law.desc).map (fun d => d.parameters.length) = some 0 := by decide +kernel
theorem ddC_X1_rests : yX1_rests.cls = RX1 ∧ yX1_rests.cls ≠ "java/lang/invoke/MethodHandle" ∧ yX1_rests.cls ≠ "java/lang/invoke/VarHandle" ∧ (parseMethodDescriptor yX1_rests.desc).map (fun d => d.parameters.length) = some 1 := by decide +kernel
theorem ddC_X6_rests : yX6_rests.cls = RX6 ∧ yX6_rests.cls ≠ "java/lang/invoke/MethodHandle" ∧ yX6_rests.cls ≠ "java/lang/invoke/VarHandle" ∧ (parseMethodDescriptor yX6_rests.desc).map (fun d => d.parameters.length) = some 1 := by decide +kernel
theorem ddC_X1_years : yX1_years.cls = RX1 ∧ yX1_years.cls ≠ "java/lang/invoke/MethodHandle" ∧ yX1_years.cls ≠ "java/lang/invoke/VarHandle" ∧ (parseMethodDescriptor yX1_years.desc).map (fun d => d.parameters.length) = some 2 := by decide +kernel
theorem ddC_X6_years : yX6_years.cls = RX6 ∧ yX6_years.cls ≠ "java/lang/invoke/MethodHandle" ∧ yX6_years.cls ≠ "java/lang/invoke/VarHandle" ∧ (parseMethodDescriptor yX6_years.desc).map (fun d => d.parameters.length) = some 2 := by decide +kernel
theorem ddC_X1_keep : yX1_keep.cls = RX1 ∧ yX1_keep.cls ≠ "java/lang/invoke/MethodHandle" ∧ yX1_keep.cls ≠ "java/lang/invoke/VarHandle" ∧ (parseMethodDescriptor yX1_keep.desc).map (fun d => d.parameters.length) = some 1 := by decide +kernel
theorem ddC_X6_keep : yX6_keep.cls = RX6 ∧ yX6_keep.cls ≠ "java/lang/invoke/MethodHandle" ∧ yX6_keep.cls ≠ "java/lang/invoke/VarHandle" ∧ (parseMethodDescriptor yX6_keep.desc).map (fun d => d.parameters.length) = some 1 := by decide +kernel
theorem ddC_X1_again : yX1_again.cls = RX1 ∧ yX1_again.cls ≠ "java/lang/invoke/MethodHandle" ∧ yX1_again.cls ≠ "java/lang/invoke/VarHandle" ∧ (parseMethodDescriptor yX1_again.desc).map (fun d => d.parameters.length) = some 1 := by decide +kernel
theorem ddC_X6_again : yX6_again.cls = RX6 ∧ yX6_again.cls ≠ "java/lang/invoke/MethodHandle" ∧ yX6_again.cls ≠ "java/lang/invoke/VarHandle" ∧ (parseMethodDescriptor yX6_again.desc).map (fun d => d.parameters.length) = some 1 := by decide +kernel
theorem ddC_X1_count : yX1_count.cls = RX1 ∧ yX1_count.cls ≠ "java/lang/invoke/MethodHandle" ∧ yX1_count.cls ≠ "java/lang/invoke/VarHandle" ∧ (parseMethodDescriptor yX1_count.desc).map (fun d => d.parameters.length) = some 1 := by decide +kernel
theorem ddC_X6_count : yX6_count.cls = RX6 ∧ yX6_count.cls ≠ "java/lang/invoke/MethodHandle" ∧ yX6_count.cls ≠ "java/lang/invoke/VarHandle" ∧ (parseMethodDescriptor yX6_count.desc).map (fun d => d.parameters.length) = some 1 := by decide +kernel
theorem ddC_X6_row : yX6_row.cls = RX6 ∧ yX6_row.cls ≠ "java/lang/invoke/MethodHandle" ∧ yX6_row.cls ≠ "java/lang/invoke/VarHandle" ∧ (parseMethodDescriptor yX6_row.desc).map (fun d => d.parameters.length) = some 1 := by decide +kernel
theorem lkL_X0_26_X1_l1_w0 {X : g_F} {cc : ByteArray} {ret : Option FieldType} (C : g_M gCl X cc RX0 ret) (hR : g_R X = room_1) : CallW (g_R X) (g_s X) (g_as X) RX0 RX1 26 yX1_sign cX1_sign 3 (some .int) (ws_ yX1_sign cX1_sign 3 (some .int)) (g_rm 1 0 0) 0 0 1 :=
  cwV 1 C.2.2.2.2.1 (lw_V q331 q332 q333 q110 q334) rfl rfl rfl ddC_X1_sign (by rw [hR]; decide)
theorem lkL_X0_30_X6_l1_w0 {X : g_F} {cc : ByteArray} {ret : Option FieldType} (C : g_M gCl X cc RX0 ret) (hR : g_R X = room_1) : CallW (g_R X) (g_s X) (g_as X) RX0 RX6 30 yX6_sign cX6_sign 3 (some .int) (ws_ yX6_sign cX6_sign 3 (some .int)) (g_rm 1 0 0) 0 0 1 :=
  cwV 1 C.2.2.2.2.1 (lw_V q1437 q1438 q1439 q115 q1440) rfl rfl rfl ddC_X6_sign (by rw [hR]; decide)
theorem lkL_X0_31_X1_l2_w0 {X : g_F} {cc : ByteArray} {ret : Option FieldType} (C : g_M gCl X cc RX0 ret) (hR : g_R X = room_1) : CallW (g_R X) (g_s X) (g_as X) RX0 RX1 31 yX1_end cX1_end 2 (some .boolean) (ws_ yX1_end cX1_end 2 (some .boolean)) (g_rm 2 0 0) 0 0 1 :=
  cwV 1 C.2.2.2.2.1 (lw_V q335 q336 q337 q110 q338) rfl rfl rfl ddC_X1_end (by rw [hR]; decide)
theorem lkL_X0_35_X6_l2_w0 {X : g_F} {cc : ByteArray} {ret : Option FieldType} (C : g_M gCl X cc RX0 ret) (hR : g_R X = room_1) : CallW (g_R X) (g_s X) (g_as X) RX0 RX6 35 yX6_end cX6_end 2 (some .boolean) (ws_ yX6_end cX6_end 2 (some .boolean)) (g_rm 2 0 0) 0 0 1 :=
  cwV 1 C.2.2.2.2.1 (lw_V q1441 q1442 q1443 q115 q1444) rfl rfl rfl ddC_X6_end (by rw [hR]; decide)
theorem lkL_X0_36_X1_l8_w2 {X : g_F} {cc : ByteArray} {ret : Option FieldType} (C : g_M gCl X cc RX0 ret) (hR : g_R X = room_1) : vx_CVW (g_R X) (g_s X) (g_as X) RX0 RX1 36 yX1_valley cX1_valley 7 (some .int)  [((10 : Nat), (82 : Nat), (85 : Nat), (185 : Nat))] (wsW_ yX1_valley cX1_valley 7 (some .int)  [((10 : Nat), (82 : Nat), (85 : Nat), (185 : Nat))]) (g_rm 8 2 11) 2 11 0 :=
  vx_cwVW 0 C.2.2.2.2.1 (lw_VW q342 q343 q344 q110 q345) rfl rfl rfl ddC_X1_valley (by rw [hR]; decide)
theorem lkL_X0_40_X6_l6_w0 {X : g_F} {cc : ByteArray} {ret : Option FieldType} (C : g_M gCl X cc RX0 ret) (hR : g_R X = room_1) : CallW (g_R X) (g_s X) (g_as X) RX0 RX6 40 yX6_valley cX6_valley 6 (some .int) (ws_ yX6_valley cX6_valley 6 (some .int)) (g_rm 6 0 0) 0 0 0 :=
  cwV 0 C.2.2.2.2.1 (lw_V q1448 q1449 q1450 q115 q1451) rfl rfl rfl ddC_X6_valley (by rw [hR]; decide)
theorem lkL_X0_41_X1_l9_w11 {X : g_F} {cc : ByteArray} {ret : Option FieldType} (C : g_M gCl X cc RX0 ret) (hR : g_R X = room_1) : vx_CVW (g_R X) (g_s X) (g_as X) RX0 RX1 41 yX1_people cX1_people 5 (some .int)  [((26 : Nat), (123 : Nat), (126 : Nat), (185 : Nat))] (wsW_ yX1_people cX1_people 5 (some .int)  [((26 : Nat), (123 : Nat), (126 : Nat), (185 : Nat))]) (g_rm 9 11 43) 11 43 0 :=
  vx_cwVW 0 C.2.2.2.2.1 (lw_VW q485 q486 q487 q110 q488) rfl rfl rfl ddC_X1_people (by rw [hR]; decide)
theorem lkL_X0_44_X6_l6_w0 {X : g_F} {cc : ByteArray} {ret : Option FieldType} (C : g_M gCl X cc RX0 ret) (hR : g_R X = room_1) : CallW (g_R X) (g_s X) (g_as X) RX0 RX6 44 yX6_people cX6_people 3 (some .int) (ws_ yX6_people cX6_people 3 (some .int)) (g_rm 6 0 0) 0 0 0 :=
  cwV 0 C.2.2.2.2.1 (lw_V q1491 q1492 q1493 q115 q1494) rfl rfl rfl ddC_X6_people (by rw [hR]; decide)
theorem lkL_X0_45_X1_l9_w3 {X : g_F} {cc : ByteArray} {ret : Option FieldType} (C : g_M gCl X cc RX0 ret) (hR : g_R X = room_1) : vx_CVW (g_R X) (g_s X) (g_as X) RX0 RX1 45 yX1_things cX1_things 5 (some .int)  [((23 : Nat), (67 : Nat), (70 : Nat), (185 : Nat))] (wsW_ yX1_things cX1_things 5 (some .int)  [((23 : Nat), (67 : Nat), (70 : Nat), (185 : Nat))]) (g_rm 9 3 19) 3 19 0 :=
  vx_cwVW 0 C.2.2.2.2.1 (lw_VW q501 q502 q503 q110 q504) rfl rfl rfl ddC_X1_things (by rw [hR]; decide)
theorem lkL_X0_48_X6_l6_w0 {X : g_F} {cc : ByteArray} {ret : Option FieldType} (C : g_M gCl X cc RX0 ret) (hR : g_R X = room_1) : CallW (g_R X) (g_s X) (g_as X) RX0 RX6 48 yX6_things cX6_things 3 (some .int) (ws_ yX6_things cX6_things 3 (some .int)) (g_rm 6 0 0) 0 0 0 :=
  cwV 0 C.2.2.2.2.1 (lw_V q1526 q1527 q1528 q115 q1529) rfl rfl rfl ddC_X6_things (by rw [hR]; decide)
theorem lkL_X0_49_X1_l8_w3 {X : g_F} {cc : ByteArray} {ret : Option FieldType} (C : g_M gCl X cc RX0 ret) (hR : g_R X = room_1) : vx_CVW (g_R X) (g_s X) (g_as X) RX0 RX1 49 yX1_light cX1_light 4 (some .int)  [((23 : Nat), (50 : Nat), (53 : Nat), (185 : Nat))] (wsW_ yX1_light cX1_light 4 (some .int)  [((23 : Nat), (50 : Nat), (53 : Nat), (185 : Nat))]) (g_rm 8 3 31) 3 31 0 :=
  vx_cwVW 0 C.2.2.2.2.1 (lw_VW q505 q506 q507 q110 q508) rfl rfl rfl ddC_X1_light (by rw [hR]; decide)
theorem lkL_X0_52_X6_l4_w0 {X : g_F} {cc : ByteArray} {ret : Option FieldType} (C : g_M gCl X cc RX0 ret) (hR : g_R X = room_1) : CallW (g_R X) (g_s X) (g_as X) RX0 RX6 52 yX6_light cX6_light 3 (some .int) (ws_ yX6_light cX6_light 3 (some .int)) (g_rm 4 0 0) 0 0 0 :=
  cwV 0 C.2.2.2.2.1 (lw_V q1530 q1531 q1532 q115 q1533) rfl rfl rfl ddC_X6_light (by rw [hR]; decide)
theorem lkL_X0_53_X1_l302_w3 {X : g_F} {cc : ByteArray} {ret : Option FieldType} (C : g_M gCl X cc RX0 ret) (hR : g_R X = room_1) : vx_CVW (g_R X) (g_s X) (g_as X) RX0 RX1 53 yX1_rule cX1_rule 4 (some .int)  [((32 : Nat), (50 : Nat), (51 : Nat), (185 : Nat))] (wsW_ yX1_rule cX1_rule 4 (some .int)  [((32 : Nat), (50 : Nat), (51 : Nat), (185 : Nat))]) (g_rm 302 3 95) 3 95 0 :=
  vx_cwVW 0 C.2.2.2.2.1 (lw_VW q514 q515 q516 q110 q517) rfl rfl rfl ddC_X1_rule (by rw [hR]; decide)
theorem lkL_X0_56_X6_l107_w0 {X : g_F} {cc : ByteArray} {ret : Option FieldType} (C : g_M gCl X cc RX0 ret) (hR : g_R X = room_1) : CallW (g_R X) (g_s X) (g_as X) RX0 RX6 56 yX6_rule cX6_rule 2 (some .int) (ws_ yX6_rule cX6_rule 2 (some .int)) (g_rm 107 0 0) 0 0 0 :=
  cwV 0 C.2.2.2.2.1 (lw_V q1544 q1545 q1546 q115 q1547) rfl rfl rfl ddC_X6_rule (by rw [hR]; decide)
theorem lkL_S_person {X : g_F} {cc : ByteArray} {ret : Option FieldType} (C : g_M gCl X cc RX0 ret) (hR : g_R X = room_1) : vx_CSW (g_R X) (g_s X) (g_as X) RX0 57 yX0_person cX0_person 5 (some .int)  [((0 : Nat), (10 : Nat), (13 : Nat), (13 : Nat))] (wsW_ yX0_person cX0_person 5 (some .int)  [((0 : Nat), (10 : Nat), (13 : Nat), (13 : Nat))]) (g_rm 307 1 6) 1 6 4 :=
  vx_cwSW 4 C.2.2.2.2.1 (lw_SW q1237 q1238 q109 q1239) rfl rfl rfl (by decide +kernel) (by rw [hR]; decide)
theorem lkL_X0_62_X6_l6_w0 {X : g_F} {cc : ByteArray} {ret : Option FieldType} (C : g_M gCl X cc RX0 ret) (hR : g_R X = room_1) : CallW (g_R X) (g_s X) (g_as X) RX0 RX6 62 yX6_person cX6_person 3 (some .int) (ws_ yX6_person cX6_person 3 (some .int)) (g_rm 6 0 0) 0 0 2 :=
  cwV 2 C.2.2.2.2.1 (lw_V q1572 q1573 q1574 q115 q1575) rfl rfl rfl ddC_X6_person (by rw [hR]; decide)
theorem lkL_X0_63_X6_l1_w0 {X : g_F} {cc : ByteArray} {ret : Option FieldType} (C : g_M gCl X cc RX0 ret) (hR : g_R X = room_1) : CallW (g_R X) (g_s X) (g_as X) RX0 RX6 63 yX6_thrown cX6_thrown 1 (some .int) (ws_ yX6_thrown cX6_thrown 1 (some .int)) (g_rm 1 0 0) 0 0 0 :=
  cwV 0 C.2.2.2.2.1 (lw_V q1278 q1279 q1280 q115 q1281) rfl rfl rfl ddC_X6_thrown (by rw [hR]; decide)
theorem lkL_S_thing {X : g_F} {cc : ByteArray} {ret : Option FieldType} (C : g_M gCl X cc RX0 ret) (hR : g_R X = room_1) : vx_CSW (g_R X) (g_s X) (g_as X) RX0 66 yX0_thing cX0_thing 5 (some .int)  [((0 : Nat), (10 : Nat), (13 : Nat), (13 : Nat))] (wsW_ yX0_thing cX0_thing 5 (some .int)  [((0 : Nat), (10 : Nat), (13 : Nat), (13 : Nat))]) (g_rm 307 1 6) 1 6 4 :=
  vx_cwSW 4 C.2.2.2.2.1 (lw_SW q1264 q1265 q109 q1266) rfl rfl rfl (by decide +kernel) (by rw [hR]; decide)
theorem lkL_X0_68_X6_l7_w0 {X : g_F} {cc : ByteArray} {ret : Option FieldType} (C : g_M gCl X cc RX0 ret) (hR : g_R X = room_1) : CallW (g_R X) (g_s X) (g_as X) RX0 RX6 68 yX6_thing cX6_thing 3 (some .int) (ws_ yX6_thing cX6_thing 3 (some .int)) (g_rm 7 0 0) 0 0 2 :=
  cwV 2 C.2.2.2.2.1 (lw_V q1629 q1630 q1631 q115 q1632) rfl rfl rfl ddC_X6_thing (by rw [hR]; decide)
theorem lkL_X0_69_X1_l2_w0 {X : g_F} {cc : ByteArray} {ret : Option FieldType} (C : g_M gCl X cc RX0 ret) (hR : g_R X = room_1) : vx_CVW (g_R X) (g_s X) (g_as X) RX0 RX1 69 yX1_sheet cX1_sheet 7 (some .int)  [((28 : Nat), (38 : Nat), (41 : Nat), (282 : Nat))] (wsW_ yX1_sheet cX1_sheet 7 (some .int)  [((28 : Nat), (38 : Nat), (41 : Nat), (282 : Nat))]) (g_rm 2 0 0) 0 0 4 :=
  vx_cwVW 4 C.2.2.2.2.1 (lw_VW q697 q698 q699 q110 q700) rfl rfl rfl ddC_X1_sheet (by rw [hR]; decide)
theorem lkL_X0_73_X6_l2_w0 {X : g_F} {cc : ByteArray} {ret : Option FieldType} (C : g_M gCl X cc RX0 ret) (hR : g_R X = room_1) : CallW (g_R X) (g_s X) (g_as X) RX0 RX6 73 yX6_sheet cX6_sheet 9 (some .int) (ws_ yX6_sheet cX6_sheet 9 (some .int)) (g_rm 2 0 0) 0 0 4 :=
  cwV 4 C.2.2.2.2.1 (lw_V q1650 q1651 q1652 q115 q1653) rfl rfl rfl ddC_X6_sheet (by rw [hR]; decide)
theorem lkL_X0_69_X1_l2_w1 {X : g_F} {cc : ByteArray} {ret : Option FieldType} (C : g_M gCl X cc RX0 ret) (hR : g_R X = room_1) : vx_CVW (g_R X) (g_s X) (g_as X) RX0 RX1 69 yX1_sheet cX1_sheet 7 (some .int)  [((28 : Nat), (38 : Nat), (41 : Nat), (282 : Nat))] (wsW_ yX1_sheet cX1_sheet 7 (some .int)  [((28 : Nat), (38 : Nat), (41 : Nat), (282 : Nat))]) (g_rm 2 1 8) 1 8 4 :=
  vx_cwVW 4 C.2.2.2.2.1 (lw_VW q697 q698 q699 q110 q700) rfl rfl rfl ddC_X1_sheet (by rw [hR]; decide)
theorem lkL_X0_69_X1_l301_w3 {X : g_F} {cc : ByteArray} {ret : Option FieldType} (C : g_M gCl X cc RX0 ret) (hR : g_R X = room_1) : vx_CVW (g_R X) (g_s X) (g_as X) RX0 RX1 69 yX1_sheet cX1_sheet 7 (some .int)  [((28 : Nat), (38 : Nat), (41 : Nat), (282 : Nat))] (wsW_ yX1_sheet cX1_sheet 7 (some .int)  [((28 : Nat), (38 : Nat), (41 : Nat), (282 : Nat))]) (g_rm 301 3 54) 3 54 4 :=
  vx_cwVW 4 C.2.2.2.2.1 (lw_VW q697 q698 q699 q110 q700) rfl rfl rfl ddC_X1_sheet (by rw [hR]; decide)
theorem lkL_X0_74_X1_l309_w0 {X : g_F} {cc : ByteArray} {ret : Option FieldType} (C : g_M gCl X cc RX0 ret) (hR : g_R X = room_1) : CallW (g_R X) (g_s X) (g_as X) RX0 RX1 74 yX1_hours cX1_hours 5 (some .int) (ws_ yX1_hours cX1_hours 5 (some .int)) (g_rm 309 0 0) 0 0 1 :=
  cwV 1 C.2.2.2.2.1 (lw_V q744 q745 q746 q110 q747) rfl rfl rfl ddC_X1_hours (by rw [hR]; decide)
theorem lkL_X0_77_X6_l10_w0 {X : g_F} {cc : ByteArray} {ret : Option FieldType} (C : g_M gCl X cc RX0 ret) (hR : g_R X = room_1) : CallW (g_R X) (g_s X) (g_as X) RX0 RX6 77 yX6_hours cX6_hours 5 (some .int) (ws_ yX6_hours cX6_hours 5 (some .int)) (g_rm 10 0 0) 0 0 1 :=
  cwV 1 C.2.2.2.2.1 (lw_V q1659 q1660 q1661 q115 q1662) rfl rfl rfl ddC_X6_hours (by rw [hR]; decide)
theorem lkL_X0_78_X1_l4_w0 {X : g_F} {cc : ByteArray} {ret : Option FieldType} (C : g_M gCl X cc RX0 ret) (hR : g_R X = room_1) : CallW (g_R X) (g_s X) (g_as X) RX0 RX1 78 yX1_faces cX1_faces 4 (some .int) (ws_ yX1_faces cX1_faces 4 (some .int)) (g_rm 4 0 0) 0 0 2 :=
  cwV 2 C.2.2.2.2.1 (lw_V q861 q862 q863 q110 q864) rfl rfl rfl ddC_X1_faces (by rw [hR]; decide)
theorem lkL_X0_81_X6_l4_w0 {X : g_F} {cc : ByteArray} {ret : Option FieldType} (C : g_M gCl X cc RX0 ret) (hR : g_R X = room_1) : CallW (g_R X) (g_s X) (g_as X) RX0 RX6 81 yX6_faces cX6_faces 3 (some .int) (ws_ yX6_faces cX6_faces 3 (some .int)) (g_rm 4 0 0) 0 0 2 :=
  cwV 2 C.2.2.2.2.1 (lw_V q1696 q1697 q1698 q115 q1699) rfl rfl rfl ddC_X6_faces (by rw [hR]; decide)
theorem lkL_X0_82_X1_l5_w0 {X : g_F} {cc : ByteArray} {ret : Option FieldType} (C : g_M gCl X cc RX0 ret) (hR : g_R X = room_1) : CallW (g_R X) (g_s X) (g_as X) RX0 RX1 82 yX1_steps cX1_steps 4 (some .int) (ws_ yX1_steps cX1_steps 4 (some .int)) (g_rm 5 0 0) 0 0 2 :=
  cwV 2 C.2.2.2.2.1 (lw_V q875 q876 q877 q110 q878) rfl rfl rfl ddC_X1_steps (by rw [hR]; decide)
theorem lkL_X0_85_X6_l4_w0 {X : g_F} {cc : ByteArray} {ret : Option FieldType} (C : g_M gCl X cc RX0 ret) (hR : g_R X = room_1) : CallW (g_R X) (g_s X) (g_as X) RX0 RX6 85 yX6_steps cX6_steps 3 (some .int) (ws_ yX6_steps cX6_steps 3 (some .int)) (g_rm 4 0 0) 0 0 2 :=
  cwV 2 C.2.2.2.2.1 (lw_V q1709 q1710 q1711 q115 q1712) rfl rfl rfl ddC_X6_steps (by rw [hR]; decide)
theorem lkL_X0_86_X1_l4_w0 {X : g_F} {cc : ByteArray} {ret : Option FieldType} (C : g_M gCl X cc RX0 ret) (hR : g_R X = room_1) : CallW (g_R X) (g_s X) (g_as X) RX0 RX1 86 yX1_trims cX1_trims 4 (some .int) (ws_ yX1_trims cX1_trims 4 (some .int)) (g_rm 4 0 0) 0 0 2 :=
  cwV 2 C.2.2.2.2.1 (lw_V q891 q892 q893 q110 q894) rfl rfl rfl ddC_X1_trims (by rw [hR]; decide)
theorem lkL_X0_89_X6_l4_w0 {X : g_F} {cc : ByteArray} {ret : Option FieldType} (C : g_M gCl X cc RX0 ret) (hR : g_R X = room_1) : CallW (g_R X) (g_s X) (g_as X) RX0 RX6 89 yX6_trims cX6_trims 3 (some .int) (ws_ yX6_trims cX6_trims 3 (some .int)) (g_rm 4 0 0) 0 0 2 :=
  cwV 2 C.2.2.2.2.1 (lw_V q1721 q1722 q1723 q115 q1724) rfl rfl rfl ddC_X6_trims (by rw [hR]; decide)
theorem lkL_X0_90_X1_l4_w0 {X : g_F} {cc : ByteArray} {ret : Option FieldType} (C : g_M gCl X cc RX0 ret) (hR : g_R X = room_1) : CallW (g_R X) (g_s X) (g_as X) RX0 RX1 90 yX1_puts cX1_puts 5 (some .int) (ws_ yX1_puts cX1_puts 5 (some .int)) (g_rm 4 0 0) 0 0 2 :=
  cwV 2 C.2.2.2.2.1 (lw_V q900 q901 q902 q110 q903) rfl rfl rfl ddC_X1_puts (by rw [hR]; decide)
theorem lkL_X0_93_X6_l4_w0 {X : g_F} {cc : ByteArray} {ret : Option FieldType} (C : g_M gCl X cc RX0 ret) (hR : g_R X = room_1) : CallW (g_R X) (g_s X) (g_as X) RX0 RX6 93 yX6_puts cX6_puts 3 (some .int) (ws_ yX6_puts cX6_puts 3 (some .int)) (g_rm 4 0 0) 0 0 2 :=
  cwV 2 C.2.2.2.2.1 (lw_V q1730 q1731 q1732 q115 q1733) rfl rfl rfl ddC_X6_puts (by rw [hR]; decide)
theorem lkL_X0_94_X1_l310_w5 {X : g_F} {cc : ByteArray} {ret : Option FieldType} (C : g_M gCl X cc RX0 ret) (hR : g_R X = room_1) : vx_CVW (g_R X) (g_s X) (g_as X) RX0 RX1 94 yX1_day cX1_day 3 (some .int)  [((22 : Nat), (26 : Nat), (29 : Nat), (185 : Nat))] (wsW_ yX1_day cX1_day 3 (some .int)  [((22 : Nat), (26 : Nat), (29 : Nat), (185 : Nat))]) (g_rm 310 5 196) 5 196 0 :=
  vx_cwVW 0 C.2.2.2.2.1 (lw_VW q920 q921 q922 q110 q923) rfl rfl rfl ddC_X1_day (by rw [hR]; decide)
theorem lkL_X0_97_X6_l11_w0 {X : g_F} {cc : ByteArray} {ret : Option FieldType} (C : g_M gCl X cc RX0 ret) (hR : g_R X = room_1) : CallW (g_R X) (g_s X) (g_as X) RX0 RX6 97 yX6_day cX6_day 5 (some .int) (ws_ yX6_day cX6_day 5 (some .int)) (g_rm 11 0 0) 0 0 0 :=
  cwV 0 C.2.2.2.2.1 (lw_V q1742 q1743 q1744 q115 q1745) rfl rfl rfl ddC_X6_day (by rw [hR]; decide)
theorem lkL_X0_98_X1_l2_w0 {X : g_F} {cc : ByteArray} {ret : Option FieldType} (C : g_M gCl X cc RX0 ret) (hR : g_R X = room_1) : CallW (g_R X) (g_s X) (g_as X) RX0 RX1 98 yX1_undo cX1_undo 1 (some .int) (ws_ yX1_undo cX1_undo 1 (some .int)) (g_rm 2 0 0) 0 0 0 :=
  cwV 0 C.2.2.2.2.1 (lw_V q982 q983 q984 q110 q985) rfl rfl rfl ddC_X1_undo (by rw [hR]; decide)
theorem lkL_X0_101_X6_l1_w0 {X : g_F} {cc : ByteArray} {ret : Option FieldType} (C : g_M gCl X cc RX0 ret) (hR : g_R X = room_1) : CallW (g_R X) (g_s X) (g_as X) RX0 RX6 101 yX6_undo cX6_undo 2 (some .int) (ws_ yX6_undo cX6_undo 2 (some .int)) (g_rm 1 0 0) 0 0 0 :=
  cwV 0 C.2.2.2.2.1 (lw_V q1655 q1656 q1657 q115 q1658) rfl rfl rfl ddC_X6_undo (by rw [hR]; decide)
theorem lkL_X0_102_X1_l306_w0 {X : g_F} {cc : ByteArray} {ret : Option FieldType} (C : g_M gCl X cc RX0 ret) (hR : g_R X = room_1) : CallW (g_R X) (g_s X) (g_as X) RX0 RX1 102 yX1_sees cX1_sees 4 (some .long) (ws_ yX1_sees cX1_sees 4 (some .long)) (g_rm 306 0 0) 0 0 1 :=
  cwV 1 C.2.2.2.2.1 (lw_V q986 q987 q988 q110 q989) rfl rfl rfl ddC_X1_sees (by rw [hR]; decide)
theorem lkL_X0_105_X6_l6_w0 {X : g_F} {cc : ByteArray} {ret : Option FieldType} (C : g_M gCl X cc RX0 ret) (hR : g_R X = room_1) : CallW (g_R X) (g_s X) (g_as X) RX0 RX6 105 yX6_sees cX6_sees 4 (some .long) (ws_ yX6_sees cX6_sees 4 (some .long)) (g_rm 6 0 0) 0 0 1 :=
  cwV 1 C.2.2.2.2.1 (lw_V q1755 q1756 q1757 q115 q1758) rfl rfl rfl ddC_X6_sees (by rw [hR]; decide)
theorem lkL_X0_106_X1_l306_w0 {X : g_F} {cc : ByteArray} {ret : Option FieldType} (C : g_M gCl X cc RX0 ret) (hR : g_R X = room_1) : CallW (g_R X) (g_s X) (g_as X) RX0 RX1 106 yX1_seers cX1_seers 3 (some .int) (ws_ yX1_seers cX1_seers 3 (some .int)) (g_rm 306 0 0) 0 0 1 :=
  cwV 1 C.2.2.2.2.1 (lw_V q1009 q1010 q1011 q110 q1012) rfl rfl rfl ddC_X1_seers (by rw [hR]; decide)
theorem lkL_X0_109_X6_l7_w0 {X : g_F} {cc : ByteArray} {ret : Option FieldType} (C : g_M gCl X cc RX0 ret) (hR : g_R X = room_1) : CallW (g_R X) (g_s X) (g_as X) RX0 RX6 109 yX6_seers cX6_seers 3 (some .int) (ws_ yX6_seers cX6_seers 3 (some .int)) (g_rm 7 0 0) 0 0 1 :=
  cwV 1 C.2.2.2.2.1 (lw_V q1765 q1766 q1767 q115 q1768) rfl rfl rfl ddC_X6_seers (by rw [hR]; decide)
theorem lkL_X0_110_X1_l307_w0 {X : g_F} {cc : ByteArray} {ret : Option FieldType} (C : g_M gCl X cc RX0 ret) (hR : g_R X = room_1) : CallW (g_R X) (g_s X) (g_as X) RX0 RX1 110 yX1_hidden cX1_hidden 3 (some .long) (ws_ yX1_hidden cX1_hidden 3 (some .long)) (g_rm 307 0 0) 0 0 0 :=
  cwV 0 C.2.2.2.2.1 (lw_V q1021 q1022 q1023 q110 q1024) rfl rfl rfl ddC_X1_hidden (by rw [hR]; decide)
theorem lkL_X0_114_X6_l7_w0 {X : g_F} {cc : ByteArray} {ret : Option FieldType} (C : g_M gCl X cc RX0 ret) (hR : g_R X = room_1) : CallW (g_R X) (g_s X) (g_as X) RX0 RX6 114 yX6_hidden cX6_hidden 3 (some .long) (ws_ yX6_hidden cX6_hidden 3 (some .long)) (g_rm 7 0 0) 0 0 0 :=
  cwV 0 C.2.2.2.2.1 (lw_V q1769 q1770 q1771 q115 q1772) rfl rfl rfl ddC_X6_hidden (by rw [hR]; decide)
theorem lkL_X0_115_X1_l307_w0 {X : g_F} {cc : ByteArray} {ret : Option FieldType} (C : g_M gCl X cc RX0 ret) (hR : g_R X = room_1) : CallW (g_R X) (g_s X) (g_as X) RX0 RX1 115 yX1_pairs cX1_pairs 7 (some .int) (ws_ yX1_pairs cX1_pairs 7 (some .int)) (g_rm 307 0 0) 0 0 0 :=
  cwV 0 C.2.2.2.2.1 (lw_V q1033 q1034 q1035 q110 q1036) rfl rfl rfl ddC_X1_pairs (by rw [hR]; decide)
theorem lkL_X0_118_X6_l8_w0 {X : g_F} {cc : ByteArray} {ret : Option FieldType} (C : g_M gCl X cc RX0 ret) (hR : g_R X = room_1) : CallW (g_R X) (g_s X) (g_as X) RX0 RX6 118 yX6_pairs cX6_pairs 7 (some .int) (ws_ yX6_pairs cX6_pairs 7 (some .int)) (g_rm 8 0 0) 0 0 0 :=
  cwV 0 C.2.2.2.2.1 (lw_V q1781 q1782 q1783 q115 q1784) rfl rfl rfl ddC_X6_pairs (by rw [hR]; decide)
theorem lkL_X0_119_X1_l305_w0 {X : g_F} {cc : ByteArray} {ret : Option FieldType} (C : g_M gCl X cc RX0 ret) (hR : g_R X = room_1) : CallW (g_R X) (g_s X) (g_as X) RX0 RX1 119 yX1_behind cX1_behind 4 (some .int) (ws_ yX1_behind cX1_behind 4 (some .int)) (g_rm 305 0 0) 0 0 1 :=
  cwV 1 C.2.2.2.2.1 (lw_V q1037 q1038 q1039 q110 q1040) rfl rfl rfl ddC_X1_behind (by rw [hR]; decide)
theorem lkL_X0_122_X6_l7_w0 {X : g_F} {cc : ByteArray} {ret : Option FieldType} (C : g_M gCl X cc RX0 ret) (hR : g_R X = room_1) : CallW (g_R X) (g_s X) (g_as X) RX0 RX6 122 yX6_behind cX6_behind 3 (some .int) (ws_ yX6_behind cX6_behind 3 (some .int)) (g_rm 7 0 0) 0 0 1 :=
  cwV 1 C.2.2.2.2.1 (lw_V q1785 q1786 q1787 q115 q1788) rfl rfl rfl ddC_X6_behind (by rw [hR]; decide)
theorem lkL_X0_123_X1_l307_w0 {X : g_F} {cc : ByteArray} {ret : Option FieldType} (C : g_M gCl X cc RX0 ret) (hR : g_R X = room_1) : CallW (g_R X) (g_s X) (g_as X) RX0 RX1 123 yX1_widest cX1_widest 4 (some .int) (ws_ yX1_widest cX1_widest 4 (some .int)) (g_rm 307 0 0) 0 0 0 :=
  cwV 0 C.2.2.2.2.1 (lw_V q1041 q1042 q1043 q110 q1044) rfl rfl rfl ddC_X1_widest (by rw [hR]; decide)
theorem lkL_X0_126_X6_l6_w0 {X : g_F} {cc : ByteArray} {ret : Option FieldType} (C : g_M gCl X cc RX0 ret) (hR : g_R X = room_1) : CallW (g_R X) (g_s X) (g_as X) RX0 RX6 126 yX6_widest cX6_widest 5 (some .int) (ws_ yX6_widest cX6_widest 5 (some .int)) (g_rm 6 0 0) 0 0 0 :=
  cwV 0 C.2.2.2.2.1 (lw_V q1789 q1790 q1791 q115 q1792) rfl rfl rfl ddC_X6_widest (by rw [hR]; decide)
theorem lkL_X0_127_X1_l306_w0 {X : g_F} {cc : ByteArray} {ret : Option FieldType} (C : g_M gCl X cc RX0 ret) (hR : g_R X = room_1) : CallW (g_R X) (g_s X) (g_as X) RX0 RX1 127 yX1_watch cX1_watch 8 (some .int) (ws_ yX1_watch cX1_watch 8 (some .int)) (g_rm 306 0 0) 0 0 0 :=
  cwV 0 C.2.2.2.2.1 (lw_V q1049 q1050 q1051 q110 q1052) rfl rfl rfl ddC_X1_watch (by rw [hR]; decide)
theorem lkL_X0_130_X6_l7_w0 {X : g_F} {cc : ByteArray} {ret : Option FieldType} (C : g_M gCl X cc RX0 ret) (hR : g_R X = room_1) : CallW (g_R X) (g_s X) (g_as X) RX0 RX6 130 yX6_watch cX6_watch 8 (some .int) (ws_ yX6_watch cX6_watch 8 (some .int)) (g_rm 7 0 0) 0 0 0 :=
  cwV 0 C.2.2.2.2.1 (lw_V q1793 q1794 q1795 q115 q1796) rfl rfl rfl ddC_X6_watch (by rw [hR]; decide)
theorem lkL_X0_131_X1_l308_w0 {X : g_F} {cc : ByteArray} {ret : Option FieldType} (C : g_M gCl X cc RX0 ret) (hR : g_R X = room_1) : CallW (g_R X) (g_s X) (g_as X) RX0 RX1 131 yX1_learns cX1_learns 4 (some .int) (ws_ yX1_learns cX1_learns 4 (some .int)) (g_rm 308 0 0) 0 0 2 :=
  cwV 2 C.2.2.2.2.1 (lw_V q1057 q1058 q1059 q110 q1060) rfl rfl rfl ddC_X1_learns (by rw [hR]; decide)
theorem lkL_X0_134_X6_l9_w0 {X : g_F} {cc : ByteArray} {ret : Option FieldType} (C : g_M gCl X cc RX0 ret) (hR : g_R X = room_1) : CallW (g_R X) (g_s X) (g_as X) RX0 RX6 134 yX6_learns cX6_learns 4 (some .int) (ws_ yX6_learns cX6_learns 4 (some .int)) (g_rm 9 0 0) 0 0 2 :=
  cwV 2 C.2.2.2.2.1 (lw_V q1800 q1801 q1802 q115 q1803) rfl rfl rfl ddC_X6_learns (by rw [hR]; decide)
theorem lkL_X0_135_X1_l308_w0 {X : g_F} {cc : ByteArray} {ret : Option FieldType} (C : g_M gCl X cc RX0 ret) (hR : g_R X = room_1) : CallW (g_R X) (g_s X) (g_as X) RX0 RX1 135 yX1_all cX1_all 4 (some .int) (ws_ yX1_all cX1_all 4 (some .int)) (g_rm 308 0 0) 0 0 0 :=
  cwV 0 C.2.2.2.2.1 (lw_V q1065 q1066 q1067 q110 q1068) rfl rfl rfl ddC_X1_all (by rw [hR]; decide)
theorem lkL_X0_138_X6_l9_w0 {X : g_F} {cc : ByteArray} {ret : Option FieldType} (C : g_M gCl X cc RX0 ret) (hR : g_R X = room_1) : CallW (g_R X) (g_s X) (g_as X) RX0 RX6 138 yX6_all cX6_all 4 (some .int) (ws_ yX6_all cX6_all 4 (some .int)) (g_rm 9 0 0) 0 0 0 :=
  cwV 0 C.2.2.2.2.1 (lw_V q1808 q1809 q1810 q115 q1811) rfl rfl rfl ddC_X6_all (by rw [hR]; decide)
theorem lkL_X0_139_X1_l309_w0 {X : g_F} {cc : ByteArray} {ret : Option FieldType} (C : g_M gCl X cc RX0 ret) (hR : g_R X = room_1) : CallW (g_R X) (g_s X) (g_as X) RX0 RX1 139 yX1_ahead cX1_ahead 3 (some .int) (ws_ yX1_ahead cX1_ahead 3 (some .int)) (g_rm 309 0 0) 0 0 1 :=
  cwV 1 C.2.2.2.2.1 (lw_V q1077 q1078 q1079 q110 q1080) rfl rfl rfl ddC_X1_ahead (by rw [hR]; decide)
theorem lkL_X0_142_X6_l10_w0 {X : g_F} {cc : ByteArray} {ret : Option FieldType} (C : g_M gCl X cc RX0 ret) (hR : g_R X = room_1) : CallW (g_R X) (g_s X) (g_as X) RX0 RX6 142 yX6_ahead cX6_ahead 3 (some .int) (ws_ yX6_ahead cX6_ahead 3 (some .int)) (g_rm 10 0 0) 0 0 1 :=
  cwV 1 C.2.2.2.2.1 (lw_V q1816 q1817 q1818 q115 q1819) rfl rfl rfl ddC_X6_ahead (by rw [hR]; decide)
theorem lkL_X0_143_X1_l307_w0 {X : g_F} {cc : ByteArray} {ret : Option FieldType} (C : g_M gCl X cc RX0 ret) (hR : g_R X = room_1) : CallW (g_R X) (g_s X) (g_as X) RX0 RX1 143 yX1_gossip cX1_gossip 7 (some .int) (ws_ yX1_gossip cX1_gossip 7 (some .int)) (g_rm 307 0 0) 0 0 1 :=
  cwV 1 C.2.2.2.2.1 (lw_V q1082 q1083 q1084 q110 q1085) rfl rfl rfl ddC_X1_gossip (by rw [hR]; decide)
theorem lkL_X0_146_X6_l8_w0 {X : g_F} {cc : ByteArray} {ret : Option FieldType} (C : g_M gCl X cc RX0 ret) (hR : g_R X = room_1) : CallW (g_R X) (g_s X) (g_as X) RX0 RX6 146 yX6_gossip cX6_gossip 7 (some .int) (ws_ yX6_gossip cX6_gossip 7 (some .int)) (g_rm 8 0 0) 0 0 1 :=
  cwV 1 C.2.2.2.2.1 (lw_V q1821 q1822 q1823 q115 q1824) rfl rfl rfl ddC_X6_gossip (by rw [hR]; decide)
theorem lkL_X0_147_X1_l305_w0 {X : g_F} {cc : ByteArray} {ret : Option FieldType} (C : g_M gCl X cc RX0 ret) (hR : g_R X = room_1) : CallW (g_R X) (g_s X) (g_as X) RX0 RX1 147 yX1_eighths cX1_eighths 5 (some .int) (ws_ yX1_eighths cX1_eighths 5 (some .int)) (g_rm 305 0 0) 0 0 2 :=
  cwV 2 C.2.2.2.2.1 (lw_V q1086 q1087 q1088 q110 q1089) rfl rfl rfl ddC_X1_eighths (by rw [hR]; decide)
theorem lkL_X0_150_X6_l6_w0 {X : g_F} {cc : ByteArray} {ret : Option FieldType} (C : g_M gCl X cc RX0 ret) (hR : g_R X = room_1) : CallW (g_R X) (g_s X) (g_as X) RX0 RX6 150 yX6_eighths cX6_eighths 7 (some .int) (ws_ yX6_eighths cX6_eighths 7 (some .int)) (g_rm 6 0 0) 0 0 2 :=
  cwV 2 C.2.2.2.2.1 (lw_V q1825 q1826 q1827 q115 q1828) rfl rfl rfl ddC_X6_eighths (by rw [hR]; decide)
theorem lkL_X0_151_X1_l306_w0 {X : g_F} {cc : ByteArray} {ret : Option FieldType} (C : g_M gCl X cc RX0 ret) (hR : g_R X = room_1) : CallW (g_R X) (g_s X) (g_as X) RX0 RX1 151 yX1_turned cX1_turned 4 (some .int) (ws_ yX1_turned cX1_turned 4 (some .int)) (g_rm 306 0 0) 0 0 0 :=
  cwV 0 C.2.2.2.2.1 (lw_V q1098 q1099 q1100 q110 q1101) rfl rfl rfl ddC_X1_turned (by rw [hR]; decide)
theorem lkL_X0_154_X6_l7_w0 {X : g_F} {cc : ByteArray} {ret : Option FieldType} (C : g_M gCl X cc RX0 ret) (hR : g_R X = room_1) : CallW (g_R X) (g_s X) (g_as X) RX0 RX6 154 yX6_turned cX6_turned 6 (some .int) (ws_ yX6_turned cX6_turned 6 (some .int)) (g_rm 7 0 0) 0 0 0 :=
  cwV 0 C.2.2.2.2.1 (lw_V q1834 q1835 q1836 q115 q1837) rfl rfl rfl ddC_X6_turned (by rw [hR]; decide)
theorem lkL_X0_155_X1_l306_w0 {X : g_F} {cc : ByteArray} {ret : Option FieldType} (C : g_M gCl X cc RX0 ret) (hR : g_R X = room_1) : CallW (g_R X) (g_s X) (g_as X) RX0 RX1 155 yX1_best cX1_best 6 (some .int) (ws_ yX1_best cX1_best 6 (some .int)) (g_rm 306 0 0) 0 0 1 :=
  cwV 1 C.2.2.2.2.1 (lw_V q1111 q1112 q1113 q110 q1114) rfl rfl rfl ddC_X1_best (by rw [hR]; decide)
theorem lkL_X0_158_X6_l7_w0 {X : g_F} {cc : ByteArray} {ret : Option FieldType} (C : g_M gCl X cc RX0 ret) (hR : g_R X = room_1) : CallW (g_R X) (g_s X) (g_as X) RX0 RX6 158 yX6_best cX6_best 4 (some .int) (ws_ yX6_best cX6_best 4 (some .int)) (g_rm 7 0 0) 0 0 1 :=
  cwV 1 C.2.2.2.2.1 (lw_V q1849 q1850 q1851 q115 q1852) rfl rfl rfl ddC_X6_best (by rw [hR]; decide)
theorem lkL_X0_159_X1_l305_w0 {X : g_F} {cc : ByteArray} {ret : Option FieldType} (C : g_M gCl X cc RX0 ret) (hR : g_R X = room_1) : CallW (g_R X) (g_s X) (g_as X) RX0 RX1 159 yX1_bears cX1_bears 4 (some .int) (ws_ yX1_bears cX1_bears 4 (some .int)) (g_rm 305 0 0) 0 0 2 :=
  cwV 2 C.2.2.2.2.1 (lw_V q1115 q1116 q1117 q110 q1118) rfl rfl rfl ddC_X1_bears (by rw [hR]; decide)
theorem lkL_X0_162_X6_l5_w0 {X : g_F} {cc : ByteArray} {ret : Option FieldType} (C : g_M gCl X cc RX0 ret) (hR : g_R X = room_1) : CallW (g_R X) (g_s X) (g_as X) RX0 RX6 162 yX6_bears cX6_bears 5 (some .int) (ws_ yX6_bears cX6_bears 5 (some .int)) (g_rm 5 0 0) 0 0 2 :=
  cwV 2 C.2.2.2.2.1 (lw_V q1853 q1854 q1855 q115 q1856) rfl rfl rfl ddC_X6_bears (by rw [hR]; decide)
theorem lkL_X0_163_X1_l307_w0 {X : g_F} {cc : ByteArray} {ret : Option FieldType} (C : g_M gCl X cc RX0 ret) (hR : g_R X = room_1) : CallW (g_R X) (g_s X) (g_as X) RX0 RX1 163 yX1_back cX1_back 3 (some .int) (ws_ yX1_back cX1_back 3 (some .int)) (g_rm 307 0 0) 0 0 2 :=
  cwV 2 C.2.2.2.2.1 (lw_V q1127 q1128 q1129 q110 q1130) rfl rfl rfl ddC_X1_back (by rw [hR]; decide)
theorem lkL_X0_166_X6_l7_w0 {X : g_F} {cc : ByteArray} {ret : Option FieldType} (C : g_M gCl X cc RX0 ret) (hR : g_R X = room_1) : CallW (g_R X) (g_s X) (g_as X) RX0 RX6 166 yX6_back cX6_back 3 (some .int) (ws_ yX6_back cX6_back 3 (some .int)) (g_rm 7 0 0) 0 0 2 :=
  cwV 2 C.2.2.2.2.1 (lw_V q1857 q1858 q1859 q115 q1860) rfl rfl rfl ddC_X6_back (by rw [hR]; decide)
theorem lkL_X0_167_X1_l307_w0 {X : g_F} {cc : ByteArray} {ret : Option FieldType} (C : g_M gCl X cc RX0 ret) (hR : g_R X = room_1) : CallW (g_R X) (g_s X) (g_as X) RX0 RX1 167 yX1_open_2 cX1_open_2 7 (some .int) (ws_ yX1_open_2 cX1_open_2 7 (some .int)) (g_rm 307 0 0) 0 0 2 :=
  cwV 2 C.2.2.2.2.1 (lw_V q1142 q1143 q1144 q110 q1145) rfl rfl rfl ddC_X1_open_2 (by rw [hR]; decide)
theorem lkL_X0_170_X6_l7_w0 {X : g_F} {cc : ByteArray} {ret : Option FieldType} (C : g_M gCl X cc RX0 ret) (hR : g_R X = room_1) : CallW (g_R X) (g_s X) (g_as X) RX0 RX6 170 yX6_open cX6_open 8 (some .int) (ws_ yX6_open cX6_open 8 (some .int)) (g_rm 7 0 0) 0 0 2 :=
  cwV 2 C.2.2.2.2.1 (lw_V q1869 q1870 q1871 q115 q1872) rfl rfl rfl ddC_X6_open (by rw [hR]; decide)
theorem lkL_X0_171_X1_l3_w0 {X : g_F} {cc : ByteArray} {ret : Option FieldType} (C : g_M gCl X cc RX0 ret) (hR : g_R X = room_1) : CallW (g_R X) (g_s X) (g_as X) RX0 RX1 171 yX1_heard cX1_heard 3 (some .int) (ws_ yX1_heard cX1_heard 3 (some .int)) (g_rm 3 0 0) 0 0 2 :=
  cwV 2 C.2.2.2.2.1 (lw_V q1146 q1147 q1148 q110 q1149) rfl rfl rfl ddC_X1_heard (by rw [hR]; decide)
theorem lkL_X0_174_X6_l3_w0 {X : g_F} {cc : ByteArray} {ret : Option FieldType} (C : g_M gCl X cc RX0 ret) (hR : g_R X = room_1) : CallW (g_R X) (g_s X) (g_as X) RX0 RX6 174 yX6_heard cX6_heard 3 (some .int) (ws_ yX6_heard cX6_heard 3 (some .int)) (g_rm 3 0 0) 0 0 2 :=
  cwV 2 C.2.2.2.2.1 (lw_V q1873 q1874 q1875 q115 q1876) rfl rfl rfl ddC_X6_heard (by rw [hR]; decide)
theorem lkL_X0_175_X1_l1_w0 {X : g_F} {cc : ByteArray} {ret : Option FieldType} (C : g_M gCl X cc RX0 ret) (hR : g_R X = room_1) : CallW (g_R X) (g_s X) (g_as X) RX0 RX1 175 yX1_forget cX1_forget 2 (some .int) (ws_ yX1_forget cX1_forget 2 (some .int)) (g_rm 1 0 0) 0 0 0 :=
  cwV 0 C.2.2.2.2.1 (lw_V q1150 q1151 q1152 q110 q1153) rfl rfl rfl ddC_X1_forget (by rw [hR]; decide)
theorem lkL_X0_178_X6_l1_w0 {X : g_F} {cc : ByteArray} {ret : Option FieldType} (C : g_M gCl X cc RX0 ret) (hR : g_R X = room_1) : CallW (g_R X) (g_s X) (g_as X) RX0 RX6 178 yX6_forget cX6_forget 2 (some .int) (ws_ yX6_forget cX6_forget 2 (some .int)) (g_rm 1 0 0) 0 0 0 :=
  cwV 0 C.2.2.2.2.1 (lw_V q1877 q1878 q1879 q115 q1880) rfl rfl rfl ddC_X6_forget (by rw [hR]; decide)
theorem lkL_X0_179_X1_l307_w0 {X : g_F} {cc : ByteArray} {ret : Option FieldType} (C : g_M gCl X cc RX0 ret) (hR : g_R X = room_1) : CallW (g_R X) (g_s X) (g_as X) RX0 RX1 179 yX1_lost cX1_lost 3 (some .long) (ws_ yX1_lost cX1_lost 3 (some .long)) (g_rm 307 0 0) 0 0 0 :=
  cwV 0 C.2.2.2.2.1 (lw_V q1154 q1155 q1156 q110 q1157) rfl rfl rfl ddC_X1_lost (by rw [hR]; decide)
theorem lkL_X0_182_X6_l7_w0 {X : g_F} {cc : ByteArray} {ret : Option FieldType} (C : g_M gCl X cc RX0 ret) (hR : g_R X = room_1) : CallW (g_R X) (g_s X) (g_as X) RX0 RX6 182 yX6_lost cX6_lost 3 (some .long) (ws_ yX6_lost cX6_lost 3 (some .long)) (g_rm 7 0 0) 0 0 0 :=
  cwV 0 C.2.2.2.2.1 (lw_V q1881 q1882 q1883 q115 q1884) rfl rfl rfl ddC_X6_lost (by rw [hR]; decide)
theorem lkL_X0_183_X1_l307_w0 {X : g_F} {cc : ByteArray} {ret : Option FieldType} (C : g_M gCl X cc RX0 ret) (hR : g_R X = room_1) : CallW (g_R X) (g_s X) (g_as X) RX0 RX1 183 yX1_asks cX1_asks 8 (some .int) (ws_ yX1_asks cX1_asks 8 (some .int)) (g_rm 307 0 0) 0 0 0 :=
  cwV 0 C.2.2.2.2.1 (lw_V q1162 q1163 q1164 q110 q1165) rfl rfl rfl ddC_X1_asks (by rw [hR]; decide)
theorem lkL_X0_186_X6_l7_w0 {X : g_F} {cc : ByteArray} {ret : Option FieldType} (C : g_M gCl X cc RX0 ret) (hR : g_R X = room_1) : CallW (g_R X) (g_s X) (g_as X) RX0 RX6 186 yX6_asks cX6_asks 8 (some .int) (ws_ yX6_asks cX6_asks 8 (some .int)) (g_rm 7 0 0) 0 0 0 :=
  cwV 0 C.2.2.2.2.1 (lw_V q1889 q1890 q1891 q115 q1892) rfl rfl rfl ddC_X6_asks (by rw [hR]; decide)
theorem lkL_X0_187_X1_l305_w1 {X : g_F} {cc : ByteArray} {ret : Option FieldType} (C : g_M gCl X cc RX0 ret) (hR : g_R X = room_1) : CallW (g_R X) (g_s X) (g_as X) RX0 RX1 187 yX1_storm cX1_storm 11 (some .int) (ws_ yX1_storm cX1_storm 11 (some .int)) (g_rm 305 1 10) 1 10 3 :=
  cwV 3 C.2.2.2.2.1 (lw_V q1166 q1167 q1168 q110 q1169) rfl rfl rfl ddC_X1_storm (by rw [hR]; decide)
theorem lkL_X0_191_X6_l101_w0 {X : g_F} {cc : ByteArray} {ret : Option FieldType} (C : g_M gCl X cc RX0 ret) (hR : g_R X = room_1) : CallW (g_R X) (g_s X) (g_as X) RX0 RX6 191 yX6_storm cX6_storm 10 (some .int) (ws_ yX6_storm cX6_storm 10 (some .int)) (g_rm 101 0 0) 0 0 3 :=
  cwV 3 C.2.2.2.2.1 (lw_V q1893 q1894 q1895 q115 q1896) rfl rfl rfl ddC_X6_storm (by rw [hR]; decide)
theorem lkL_X0_192_X1_l2_w0 {X : g_F} {cc : ByteArray} {ret : Option FieldType} (C : g_M gCl X cc RX0 ret) (hR : g_R X = room_1) : CallW (g_R X) (g_s X) (g_as X) RX0 RX1 192 yX1_cock cX1_cock 6 (some .int) (ws_ yX1_cock cX1_cock 6 (some .int)) (g_rm 2 0 0) 0 0 2 :=
  cwV 2 C.2.2.2.2.1 (lw_V q1175 q1176 q1177 q110 q1178) rfl rfl rfl ddC_X1_cock (by rw [hR]; decide)
theorem lkL_X0_195_X6_l2_w0 {X : g_F} {cc : ByteArray} {ret : Option FieldType} (C : g_M gCl X cc RX0 ret) (hR : g_R X = room_1) : CallW (g_R X) (g_s X) (g_as X) RX0 RX6 195 yX6_cock cX6_cock 7 (some .int) (ws_ yX6_cock cX6_cock 7 (some .int)) (g_rm 2 0 0) 0 0 2 :=
  cwV 2 C.2.2.2.2.1 (lw_V q1902 q1903 q1904 q115 q1905) rfl rfl rfl ddC_X6_cock (by rw [hR]; decide)
theorem lkL_X0_196_X1_l307_w3 {X : g_F} {cc : ByteArray} {ret : Option FieldType} (C : g_M gCl X cc RX0 ret) (hR : g_R X = room_1) : vx_CVW (g_R X) (g_s X) (g_as X) RX0 RX1 196 yX1_law cX1_law 9 (some .int)  [((39 : Nat), (77 : Nat), (85 : Nat), (185 : Nat)), ((39 : Nat), (77 : Nat), (106 : Nat), (0 : Nat)), ((85 : Nat), (98 : Nat), (106 : Nat), (0 : Nat)), ((106 : Nat), (108 : Nat), (106 : Nat), (0 : Nat))] (wsW_ yX1_law cX1_law 9 (some .int)  [((39 : Nat), (77 : Nat), (85 : Nat), (185 : Nat)), ((39 : Nat), (77 : Nat), (106 : Nat), (0 : Nat)), ((85 : Nat), (98 : Nat), (106 : Nat), (0 : Nat)), ((106 : Nat), (108 : Nat), (106 : Nat), (0 : Nat))]) (g_rm 307 3 95) 3 95 0 :=
  vx_cwVW 0 C.2.2.2.2.1 (lw_VW q1181 q1182 q1183 q110 q1184) rfl rfl rfl ddC_X1_law (by rw [hR]; decide)
theorem lkL_X0_199_X6_l107_w0 {X : g_F} {cc : ByteArray} {ret : Option FieldType} (C : g_M gCl X cc RX0 ret) (hR : g_R X = room_1) : CallW (g_R X) (g_s X) (g_as X) RX0 RX6 199 yX6_law cX6_law 5 (some .int) (ws_ yX6_law cX6_law 5 (some .int)) (g_rm 107 0 0) 0 0 0 :=
  cwV 0 C.2.2.2.2.1 (lw_V q1907 q1908 q1909 q115 q1910) rfl rfl rfl ddC_X6_law (by rw [hR]; decide)
theorem lkL_X0_200_X1_l3_w0 {X : g_F} {cc : ByteArray} {ret : Option FieldType} (C : g_M gCl X cc RX0 ret) (hR : g_R X = room_1) : CallW (g_R X) (g_s X) (g_as X) RX0 RX1 200 yX1_rests cX1_rests 5 (some .int) (ws_ yX1_rests cX1_rests 5 (some .int)) (g_rm 3 0 0) 0 0 1 :=
  cwV 1 C.2.2.2.2.1 (lw_V q1185 q1186 q1187 q110 q1188) rfl rfl rfl ddC_X1_rests (by rw [hR]; decide)
theorem lkL_X0_203_X6_l3_w0 {X : g_F} {cc : ByteArray} {ret : Option FieldType} (C : g_M gCl X cc RX0 ret) (hR : g_R X = room_1) : CallW (g_R X) (g_s X) (g_as X) RX0 RX6 203 yX6_rests cX6_rests 5 (some .int) (ws_ yX6_rests cX6_rests 5 (some .int)) (g_rm 3 0 0) 0 0 1 :=
  cwV 1 C.2.2.2.2.1 (lw_V q1911 q1912 q1913 q115 q1914) rfl rfl rfl ddC_X6_rests (by rw [hR]; decide)
theorem lkL_X0_204_X1_l308_w0 {X : g_F} {cc : ByteArray} {ret : Option FieldType} (C : g_M gCl X cc RX0 ret) (hR : g_R X = room_1) : CallW (g_R X) (g_s X) (g_as X) RX0 RX1 204 yX1_years cX1_years 7 (some .int) (ws_ yX1_years cX1_years 7 (some .int)) (g_rm 308 0 0) 0 0 2 :=
  cwV 2 C.2.2.2.2.1 (lw_V q1196 q1197 q1198 q110 q1199) rfl rfl rfl ddC_X1_years (by rw [hR]; decide)
theorem lkL_X0_207_X6_l9_w0 {X : g_F} {cc : ByteArray} {ret : Option FieldType} (C : g_M gCl X cc RX0 ret) (hR : g_R X = room_1) : CallW (g_R X) (g_s X) (g_as X) RX0 RX6 207 yX6_years cX6_years 7 (some .int) (ws_ yX6_years cX6_years 7 (some .int)) (g_rm 9 0 0) 0 0 2 :=
  cwV 2 C.2.2.2.2.1 (lw_V q1922 q1923 q1924 q115 q1925) rfl rfl rfl ddC_X6_years (by rw [hR]; decide)
theorem lkL_X0_208_X1_l3_w7 {X : g_F} {cc : ByteArray} {ret : Option FieldType} (C : g_M gCl X cc RX0 ret) (hR : g_R X = room_1) : CallW (g_R X) (g_s X) (g_as X) RX0 RX1 208 yX1_keep cX1_keep 2 (some .boolean) (ws_ yX1_keep cX1_keep 2 (some .boolean)) (g_rm 3 7 49) 7 49 1 :=
  cwV 1 C.2.2.2.2.1 (lw_V q1205 q1206 q1207 q110 q1208) rfl rfl rfl ddC_X1_keep (by rw [hR]; decide)
theorem lkL_X0_211_X6_l2_w0 {X : g_F} {cc : ByteArray} {ret : Option FieldType} (C : g_M gCl X cc RX0 ret) (hR : g_R X = room_1) : CallW (g_R X) (g_s X) (g_as X) RX0 RX6 211 yX6_keep cX6_keep 3 (some .boolean) (ws_ yX6_keep cX6_keep 3 (some .boolean)) (g_rm 2 0 0) 0 0 1 :=
  cwV 1 C.2.2.2.2.1 (lw_V q1931 q1932 q1933 q115 q1934) rfl rfl rfl ddC_X6_keep (by rw [hR]; decide)
theorem lkL_X0_212_X1_l2_w0 {X : g_F} {cc : ByteArray} {ret : Option FieldType} (C : g_M gCl X cc RX0 ret) (hR : g_R X = room_1) : CallW (g_R X) (g_s X) (g_as X) RX0 RX1 212 yX1_again cX1_again 2 (some .boolean) (ws_ yX1_again cX1_again 2 (some .boolean)) (g_rm 2 0 0) 0 0 1 :=
  cwV 1 C.2.2.2.2.1 (lw_V q1229 q1230 q1231 q110 q1232) rfl rfl rfl ddC_X1_again (by rw [hR]; decide)
theorem lkL_X0_215_X6_l2_w0 {X : g_F} {cc : ByteArray} {ret : Option FieldType} (C : g_M gCl X cc RX0 ret) (hR : g_R X = room_1) : CallW (g_R X) (g_s X) (g_as X) RX0 RX6 215 yX6_again cX6_again 3 (some .boolean) (ws_ yX6_again cX6_again 3 (some .boolean)) (g_rm 2 0 0) 0 0 1 :=
  cwV 1 C.2.2.2.2.1 (lw_V q1935 q1936 q1937 q115 q1938) rfl rfl rfl ddC_X6_again (by rw [hR]; decide)
theorem lkL_X0_216_X1_l307_w0 {X : g_F} {cc : ByteArray} {ret : Option FieldType} (C : g_M gCl X cc RX0 ret) (hR : g_R X = room_1) : CallW (g_R X) (g_s X) (g_as X) RX0 RX1 216 yX1_count cX1_count 2 (some .int) (ws_ yX1_count cX1_count 2 (some .int)) (g_rm 307 0 0) 0 0 1 :=
  cwV 1 C.2.2.2.2.1 (lw_V q1233 q1234 q1235 q110 q1236) rfl rfl rfl ddC_X1_count (by rw [hR]; decide)
theorem lkL_X0_219_X6_l7_w0 {X : g_F} {cc : ByteArray} {ret : Option FieldType} (C : g_M gCl X cc RX0 ret) (hR : g_R X = room_1) : CallW (g_R X) (g_s X) (g_as X) RX0 RX6 219 yX6_count cX6_count 2 (some .int) (ws_ yX6_count cX6_count 2 (some .int)) (g_rm 7 0 0) 0 0 1 :=
  cwV 1 C.2.2.2.2.1 (lw_V q1939 q1940 q1941 q115 q1942) rfl rfl rfl ddC_X6_count (by rw [hR]; decide)
theorem lkL_S_row {X : g_F} {cc : ByteArray} {ret : Option FieldType} (C : g_M gCl X cc RX0 ret) (hR : g_R X = room_1) : vx_CSW (g_R X) (g_s X) (g_as X) RX0 220 yX0_row cX0_row 4 (some .int)  [((0 : Nat), (8 : Nat), (11 : Nat), (13 : Nat))] (wsW_ yX0_row cX0_row 4 (some .int)  [((0 : Nat), (8 : Nat), (11 : Nat), (13 : Nat))]) (g_rm 12 1 6) 1 6 3 :=
  vx_cwSW 3 C.2.2.2.2.1 (lw_SW q1271 q1272 q109 q1273) rfl rfl rfl (by decide +kernel) (by rw [hR]; decide)
theorem lkL_X0_223_X6_l2_w0 {X : g_F} {cc : ByteArray} {ret : Option FieldType} (C : g_M gCl X cc RX0 ret) (hR : g_R X = room_1) : CallW (g_R X) (g_s X) (g_as X) RX0 RX6 223 yX6_row cX6_row 2 (some .long) (ws_ yX6_row cX6_row 2 (some .long)) (g_rm 2 0 0) 0 0 1 :=
  cwV 1 C.2.2.2.2.1 (lw_V q1943 q1944 q1945 q115 q1946) rfl rfl rfl ddC_X6_row (by rw [hR]; decide)
theorem lc_sign {Rel : Nat → g_S → g_S → Prop} {X : g_F} {b L ax am ao : Nat} {xs : Nat → Int32} (C : g_M gCl X cL_law RX0 ret) (hR : g_R X = room_1) (hX : va_X b L xs (g_s X) (g_s X).heap) (hb : b < (g_s X).heap.size) (hbA : ¬ g_A X b) (hnL : g_nL X = 8) (hlt : (g_l X).stackTraces = false) (hp : pr_sign Rel) {σC σM : g_S} {o : Int64} {j : Nat} (hj : j < 65) (hI : Rel j σC σM) {i : Int32} (h1 : g_in (i + 1) L = true) (h2 : g_in (i + 2) L = true) (h3 : g_in (i + 3) L = true) (h4 : g_in (i + 4) L = true) {w : Nat × Nat} (hw : w.1 + 11 ≤ 603072 ∧ w.2 + 196 ≤ 7088234) (next : ∀ σC1 σM1 o1, Rel (j + 1) σC1 σM1 → g_YP X (g_P2 (g_D X) (g_dA X) (g_A X) ax am ao σC1 σM1 o1) (w.1 + 11, w.2 + 196) 1534 [(4, .int i), (3, .ref ao), (2, .ref am), (1, .ref ax), (0, .ref b)] []) : g_YP X (g_P2 (g_D X) (g_dA X) (g_A X) ax am ao σC σM o) w 240 [(4, .int i), (3, .ref ao), (2, .ref am), (1, .ref ax), (0, .ref b)] [] := by
  obtain ⟨r, σC1, σM1, e1, e2, hI1⟩ := hp j σC σM (xs (i + 1).toNatClampNeg) hj hI
  refine p_aload_n C dL_law_240 3 rfl rfl ?_
  refine p_aload_n C dL_law_241 4 rfl rfl ?_
  refine p_iload C dL_law_242 0 rfl ?_
  refine p_iconst (v := 1) C dL_law_244 rfl ?_
  refine p_iadd C dL_law_245 ?_
  refine p_sld C hX hb hbA h1 dL_law_246 ?_
  refine p_callV (As := [.int (xs (i + 1).toNatClampNeg)]) (w1 := (0, 0)) C g_splC rfl (by decide) (fun _ => ⟨_, rfl⟩) (lkL_X0_26_X1_l1_w0 C hR) (fun ad A1 => ct_C1_sign e1) rfl rfl (Nat.le_of_ble_eq_true rfl) (by rw [hR]; exact ⟨show w.1 + 0 ≤ 603072 by omega, show w.2 + 0 ≤ 7088234 by omega⟩) dL_law_247 ?_
  show g_YP X _ _ 250 [(4, .int i), (3, .ref ao), (2, .ref am), (1, .ref ax), (0, .ref b)] [.int r]
  refine p_aload_n C dL_law_250 2 rfl rfl ?_
  refine p_aload_n C dL_law_251 4 rfl rfl ?_
  refine p_iload C dL_law_252 0 rfl ?_
  refine p_iconst (v := 1) C dL_law_254 rfl ?_
  refine p_iadd C dL_law_255 ?_
  refine p_sld C hX hb hbA h1 dL_law_256 ?_
  refine p_callV (As := [.int (xs (i + 1).toNatClampNeg)]) (w1 := (0, 0)) C g_splM rfl (by decide) (fun _ => ⟨_, rfl⟩) (lkL_X0_30_X6_l1_w0 C hR) (fun ad A1 => ct_M_sign e2) rfl rfl (Nat.le_of_ble_eq_true rfl) (by rw [hR]; exact ⟨show w.1 + 0 + 0 ≤ 603072 by omega, show w.2 + 0 + 0 ≤ 7088234 by omega⟩) dL_law_257 ?_
  show g_YP X _ _ 260 [(4, .int i), (3, .ref ao), (2, .ref am), (1, .ref ax), (0, .ref b)] [.int r, .int r]
  refine p_icmp_eq (tgt := 1534) C dL_law_260 rfl (fun _ => ?_) (fun hne => absurd rfl hne)
  exact p_widen ⟨show w.1 + 0 + 0 ≤ w.1 + 11 by omega, show w.2 + 0 + 0 ≤ w.2 + 196 by omega⟩ (next _ _ _ hI1)
theorem lc_end {Rel : Nat → g_S → g_S → Prop} {X : g_F} {b L ax am ao : Nat} {xs : Nat → Int32} (C : g_M gCl X cL_law RX0 ret) (hR : g_R X = room_1) (hX : va_X b L xs (g_s X) (g_s X).heap) (hb : b < (g_s X).heap.size) (hbA : ¬ g_A X b) (hnL : g_nL X = 8) (hlt : (g_l X).stackTraces = false) (hp : pr_end Rel) {σC σM : g_S} {o : Int64} {j : Nat} (hj : j < 65) (hI : Rel j σC σM) {i : Int32} (h1 : g_in (i + 1) L = true) (h2 : g_in (i + 2) L = true) (h3 : g_in (i + 3) L = true) (h4 : g_in (i + 4) L = true) {w : Nat × Nat} (hw : w.1 + 11 ≤ 603072 ∧ w.2 + 196 ≤ 7088234) (next : ∀ σC1 σM1 o1, Rel (j + 1) σC1 σM1 → g_YP X (g_P2 (g_D X) (g_dA X) (g_A X) ax am ao σC1 σM1 o1) (w.1 + 11, w.2 + 196) 1534 [(4, .int i), (3, .ref ao), (2, .ref am), (1, .ref ax), (0, .ref b)] []) : g_YP X (g_P2 (g_D X) (g_dA X) (g_A X) ax am ao σC σM o) w 265 [(4, .int i), (3, .ref ao), (2, .ref am), (1, .ref ax), (0, .ref b)] [] := by
  obtain ⟨r, σC1, σM1, e1, e2, hI1⟩ := hp j σC σM (xs (i + 1).toNatClampNeg) hj hI
  refine p_aload_n C dL_law_265 3 rfl rfl ?_
  refine p_aload_n C dL_law_266 4 rfl rfl ?_
  refine p_iload C dL_law_267 0 rfl ?_
  refine p_iconst (v := 1) C dL_law_269 rfl ?_
  refine p_iadd C dL_law_270 ?_
  refine p_sld C hX hb hbA h1 dL_law_271 ?_
  refine p_callV (As := [.int (xs (i + 1).toNatClampNeg)]) (w1 := (0, 0)) C g_splC rfl (by decide) (fun _ => ⟨_, rfl⟩) (lkL_X0_31_X1_l2_w0 C hR) (fun ad A1 => ct_C1_end e1) rfl rfl (Nat.le_of_ble_eq_true rfl) (by rw [hR]; exact ⟨show w.1 + 0 ≤ 603072 by omega, show w.2 + 0 ≤ 7088234 by omega⟩) dL_law_272 ?_
  show g_YP X _ _ 275 [(4, .int i), (3, .ref ao), (2, .ref am), (1, .ref ax), (0, .ref b)] [.int r]
  refine p_aload_n C dL_law_275 2 rfl rfl ?_
  refine p_aload_n C dL_law_276 4 rfl rfl ?_
  refine p_iload C dL_law_277 0 rfl ?_
  refine p_iconst (v := 1) C dL_law_279 rfl ?_
  refine p_iadd C dL_law_280 ?_
  refine p_sld C hX hb hbA h1 dL_law_281 ?_
  refine p_callV (As := [.int (xs (i + 1).toNatClampNeg)]) (w1 := (0, 0)) C g_splM rfl (by decide) (fun _ => ⟨_, rfl⟩) (lkL_X0_35_X6_l2_w0 C hR) (fun ad A1 => ct_M_end e2) rfl rfl (Nat.le_of_ble_eq_true rfl) (by rw [hR]; exact ⟨show w.1 + 0 + 0 ≤ 603072 by omega, show w.2 + 0 + 0 ≤ 7088234 by omega⟩) dL_law_282 ?_
  show g_YP X _ _ 285 [(4, .int i), (3, .ref ao), (2, .ref am), (1, .ref ax), (0, .ref b)] [.int r, .int r]
  refine p_icmp_eq (tgt := 1534) C dL_law_285 rfl (fun _ => ?_) (fun hne => absurd rfl hne)
  exact p_widen ⟨show w.1 + 0 + 0 ≤ w.1 + 11 by omega, show w.2 + 0 + 0 ≤ w.2 + 196 by omega⟩ (next _ _ _ hI1)
theorem lc_valley {Rel : Nat → g_S → g_S → Prop} {X : g_F} {b L ax am ao : Nat} {xs : Nat → Int32} (C : g_M gCl X cL_law RX0 ret) (hR : g_R X = room_1) (hX : va_X b L xs (g_s X) (g_s X).heap) (hb : b < (g_s X).heap.size) (hbA : ¬ g_A X b) (hnL : g_nL X = 8) (hlt : (g_l X).stackTraces = false) (hp : pr_valley Rel) {σC σM : g_S} {o : Int64} {j : Nat} (hj : j < 65) (hI : Rel j σC σM) {i : Int32} (h1 : g_in (i + 1) L = true) (h2 : g_in (i + 2) L = true) (h3 : g_in (i + 3) L = true) (h4 : g_in (i + 4) L = true) {w : Nat × Nat} (hw : w.1 + 11 ≤ 603072 ∧ w.2 + 196 ≤ 7088234) (next : ∀ σC1 σM1 o1, Rel (j + 1) σC1 σM1 → g_YP X (g_P2 (g_D X) (g_dA X) (g_A X) ax am ao σC1 σM1 o1) (w.1 + 11, w.2 + 196) 1534 [(4, .int i), (3, .ref ao), (2, .ref am), (1, .ref ax), (0, .ref b)] []) : g_YP X (g_P2 (g_D X) (g_dA X) (g_A X) ax am ao σC σM o) w 290 [(4, .int i), (3, .ref ao), (2, .ref am), (1, .ref ax), (0, .ref b)] [] := by
  obtain ⟨r, σC1, σM1, e1, e2, hI1⟩ := hp j σC σM hj hI
  refine p_aload_n C dL_law_290 3 rfl rfl ?_
  refine p_callVH (Z := fun v s2 => v = some (.int r) ∧ s2 = σC1) (As := []) (w1 := (2, 11)) C g_splC rfl (by decide) (fun _ => ⟨_, rfl⟩) (lkL_X0_36_X1_l8_w2 C hR) (fun ad A1 => ct_C1_valley hlt e1) (fun _ _ _ _ hh => ⟨⟨hh.1, hh.2.1⟩, hh.2.2⟩) rfl rfl (Nat.le_of_ble_eq_true rfl) (by rw [hR]; exact ⟨show w.1 + 2 ≤ 603072 by omega, show w.2 + 11 ≤ 7088234 by omega⟩) dL_law_291 ?_
  rintro _ _ ⟨rfl, rfl⟩
  show g_YP X _ _ 294 [(4, .int i), (3, .ref ao), (2, .ref am), (1, .ref ax), (0, .ref b)] [.int r]
  refine p_aload_n C dL_law_294 2 rfl rfl ?_
  refine p_callV (As := []) (w1 := (0, 0)) C g_splM rfl (by decide) (fun _ => ⟨_, rfl⟩) (lkL_X0_40_X6_l6_w0 C hR) (fun ad A1 => ct_M_valley e2) rfl rfl (Nat.le_of_ble_eq_true rfl) (by rw [hR]; exact ⟨show w.1 + 2 + 0 ≤ 603072 by omega, show w.2 + 11 + 0 ≤ 7088234 by omega⟩) dL_law_295 ?_
  show g_YP X _ _ 298 [(4, .int i), (3, .ref ao), (2, .ref am), (1, .ref ax), (0, .ref b)] [.int r, .int r]
  refine p_icmp_eq (tgt := 1534) C dL_law_298 rfl (fun _ => ?_) (fun hne => absurd rfl hne)
  exact p_widen ⟨show w.1 + 2 + 0 ≤ w.1 + 11 by omega, show w.2 + 11 + 0 ≤ w.2 + 196 by omega⟩ (next _ _ _ hI1)
theorem lc_people {Rel : Nat → g_S → g_S → Prop} {X : g_F} {b L ax am ao : Nat} {xs : Nat → Int32} (C : g_M gCl X cL_law RX0 ret) (hR : g_R X = room_1) (hX : va_X b L xs (g_s X) (g_s X).heap) (hb : b < (g_s X).heap.size) (hbA : ¬ g_A X b) (hnL : g_nL X = 8) (hlt : (g_l X).stackTraces = false) (hp : pr_people Rel) {σC σM : g_S} {o : Int64} {j : Nat} (hj : j < 65) (hI : Rel j σC σM) {i : Int32} (h1 : g_in (i + 1) L = true) (h2 : g_in (i + 2) L = true) (h3 : g_in (i + 3) L = true) (h4 : g_in (i + 4) L = true) {w : Nat × Nat} (hw : w.1 + 11 ≤ 603072 ∧ w.2 + 196 ≤ 7088234) (next : ∀ σC1 σM1 o1, Rel (j + 1) σC1 σM1 → g_YP X (g_P2 (g_D X) (g_dA X) (g_A X) ax am ao σC1 σM1 o1) (w.1 + 11, w.2 + 196) 1534 [(4, .int i), (3, .ref ao), (2, .ref am), (1, .ref ax), (0, .ref b)] []) : g_YP X (g_P2 (g_D X) (g_dA X) (g_A X) ax am ao σC σM o) w 303 [(4, .int i), (3, .ref ao), (2, .ref am), (1, .ref ax), (0, .ref b)] [] := by
  obtain ⟨r, σC1, σM1, e1, e2, hI1⟩ := hp j σC σM hj hI
  refine p_aload_n C dL_law_303 3 rfl rfl ?_
  refine p_callVH (Z := fun v s2 => v = some (.int r) ∧ s2 = σC1) (As := []) (w1 := (11, 43)) C g_splC rfl (by decide) (fun _ => ⟨_, rfl⟩) (lkL_X0_41_X1_l9_w11 C hR) (fun ad A1 => ct_C1_people hlt e1) (fun _ _ _ _ hh => ⟨⟨hh.1, hh.2.1⟩, hh.2.2⟩) rfl rfl (Nat.le_of_ble_eq_true rfl) (by rw [hR]; exact ⟨show w.1 + 11 ≤ 603072 by omega, show w.2 + 43 ≤ 7088234 by omega⟩) dL_law_304 ?_
  rintro _ _ ⟨rfl, rfl⟩
  show g_YP X _ _ 307 [(4, .int i), (3, .ref ao), (2, .ref am), (1, .ref ax), (0, .ref b)] [.int r]
  refine p_aload_n C dL_law_307 2 rfl rfl ?_
  refine p_callV (As := []) (w1 := (0, 0)) C g_splM rfl (by decide) (fun _ => ⟨_, rfl⟩) (lkL_X0_44_X6_l6_w0 C hR) (fun ad A1 => ct_M_people e2) rfl rfl (Nat.le_of_ble_eq_true rfl) (by rw [hR]; exact ⟨show w.1 + 11 + 0 ≤ 603072 by omega, show w.2 + 43 + 0 ≤ 7088234 by omega⟩) dL_law_308 ?_
  show g_YP X _ _ 311 [(4, .int i), (3, .ref ao), (2, .ref am), (1, .ref ax), (0, .ref b)] [.int r, .int r]
  refine p_icmp_eq (tgt := 1534) C dL_law_311 rfl (fun _ => ?_) (fun hne => absurd rfl hne)
  exact p_widen ⟨show w.1 + 11 + 0 ≤ w.1 + 11 by omega, show w.2 + 43 + 0 ≤ w.2 + 196 by omega⟩ (next _ _ _ hI1)
theorem lc_things {Rel : Nat → g_S → g_S → Prop} {X : g_F} {b L ax am ao : Nat} {xs : Nat → Int32} (C : g_M gCl X cL_law RX0 ret) (hR : g_R X = room_1) (hX : va_X b L xs (g_s X) (g_s X).heap) (hb : b < (g_s X).heap.size) (hbA : ¬ g_A X b) (hnL : g_nL X = 8) (hlt : (g_l X).stackTraces = false) (hp : pr_things Rel) {σC σM : g_S} {o : Int64} {j : Nat} (hj : j < 65) (hI : Rel j σC σM) {i : Int32} (h1 : g_in (i + 1) L = true) (h2 : g_in (i + 2) L = true) (h3 : g_in (i + 3) L = true) (h4 : g_in (i + 4) L = true) {w : Nat × Nat} (hw : w.1 + 11 ≤ 603072 ∧ w.2 + 196 ≤ 7088234) (next : ∀ σC1 σM1 o1, Rel (j + 1) σC1 σM1 → g_YP X (g_P2 (g_D X) (g_dA X) (g_A X) ax am ao σC1 σM1 o1) (w.1 + 11, w.2 + 196) 1534 [(4, .int i), (3, .ref ao), (2, .ref am), (1, .ref ax), (0, .ref b)] []) : g_YP X (g_P2 (g_D X) (g_dA X) (g_A X) ax am ao σC σM o) w 316 [(4, .int i), (3, .ref ao), (2, .ref am), (1, .ref ax), (0, .ref b)] [] := by
  obtain ⟨r, σC1, σM1, e1, e2, hI1⟩ := hp j σC σM hj hI
  refine p_aload_n C dL_law_316 3 rfl rfl ?_
  refine p_callVH (Z := fun v s2 => v = some (.int r) ∧ s2 = σC1) (As := []) (w1 := (3, 19)) C g_splC rfl (by decide) (fun _ => ⟨_, rfl⟩) (lkL_X0_45_X1_l9_w3 C hR) (fun ad A1 => ct_C1_things hlt e1) (fun _ _ _ _ hh => ⟨⟨hh.1, hh.2.1⟩, hh.2.2⟩) rfl rfl (Nat.le_of_ble_eq_true rfl) (by rw [hR]; exact ⟨show w.1 + 3 ≤ 603072 by omega, show w.2 + 19 ≤ 7088234 by omega⟩) dL_law_317 ?_
  rintro _ _ ⟨rfl, rfl⟩
  show g_YP X _ _ 320 [(4, .int i), (3, .ref ao), (2, .ref am), (1, .ref ax), (0, .ref b)] [.int r]
  refine p_aload_n C dL_law_320 2 rfl rfl ?_
  refine p_callV (As := []) (w1 := (0, 0)) C g_splM rfl (by decide) (fun _ => ⟨_, rfl⟩) (lkL_X0_48_X6_l6_w0 C hR) (fun ad A1 => ct_M_things e2) rfl rfl (Nat.le_of_ble_eq_true rfl) (by rw [hR]; exact ⟨show w.1 + 3 + 0 ≤ 603072 by omega, show w.2 + 19 + 0 ≤ 7088234 by omega⟩) dL_law_321 ?_
  show g_YP X _ _ 324 [(4, .int i), (3, .ref ao), (2, .ref am), (1, .ref ax), (0, .ref b)] [.int r, .int r]
  refine p_icmp_eq (tgt := 1534) C dL_law_324 rfl (fun _ => ?_) (fun hne => absurd rfl hne)
  exact p_widen ⟨show w.1 + 3 + 0 ≤ w.1 + 11 by omega, show w.2 + 19 + 0 ≤ w.2 + 196 by omega⟩ (next _ _ _ hI1)
theorem lc_light {Rel : Nat → g_S → g_S → Prop} {X : g_F} {b L ax am ao : Nat} {xs : Nat → Int32} (C : g_M gCl X cL_law RX0 ret) (hR : g_R X = room_1) (hX : va_X b L xs (g_s X) (g_s X).heap) (hb : b < (g_s X).heap.size) (hbA : ¬ g_A X b) (hnL : g_nL X = 8) (hlt : (g_l X).stackTraces = false) (hp : pr_light Rel) {σC σM : g_S} {o : Int64} {j : Nat} (hj : j < 65) (hI : Rel j σC σM) {i : Int32} (h1 : g_in (i + 1) L = true) (h2 : g_in (i + 2) L = true) (h3 : g_in (i + 3) L = true) (h4 : g_in (i + 4) L = true) {w : Nat × Nat} (hw : w.1 + 11 ≤ 603072 ∧ w.2 + 196 ≤ 7088234) (next : ∀ σC1 σM1 o1, Rel (j + 1) σC1 σM1 → g_YP X (g_P2 (g_D X) (g_dA X) (g_A X) ax am ao σC1 σM1 o1) (w.1 + 11, w.2 + 196) 1534 [(4, .int i), (3, .ref ao), (2, .ref am), (1, .ref ax), (0, .ref b)] []) : g_YP X (g_P2 (g_D X) (g_dA X) (g_A X) ax am ao σC σM o) w 329 [(4, .int i), (3, .ref ao), (2, .ref am), (1, .ref ax), (0, .ref b)] [] := by
  obtain ⟨s1, hs1, r, σC1, σM1, e1, e2, hI1⟩ := hp j σC σM hj hI
  refine p_aload_n C dL_law_329 3 rfl rfl ?_
  refine p_callVH (Z := fun v s2 => v = some (.int r) ∧ s2 = σC1) (As := []) (w1 := (3, 31)) C g_splC rfl (by decide) (fun _ => ⟨_, rfl⟩) (lkL_X0_49_X1_l8_w3 C hR) (fun ad A1 => ct_C1_light hlt hs1 e1) (fun _ _ _ _ hh => ⟨⟨hh.1, hh.2.1⟩, hh.2.2⟩) rfl rfl (Nat.le_of_ble_eq_true rfl) (by rw [hR]; exact ⟨show w.1 + 3 ≤ 603072 by omega, show w.2 + 31 ≤ 7088234 by omega⟩) dL_law_330 ?_
  rintro _ _ ⟨rfl, rfl⟩
  show g_YP X _ _ 333 [(4, .int i), (3, .ref ao), (2, .ref am), (1, .ref ax), (0, .ref b)] [.int r]
  refine p_aload_n C dL_law_333 2 rfl rfl ?_
  refine p_callV (As := []) (w1 := (0, 0)) C g_splM rfl (by decide) (fun _ => ⟨_, rfl⟩) (lkL_X0_52_X6_l4_w0 C hR) (fun ad A1 => ct_M_light e2) rfl rfl (Nat.le_of_ble_eq_true rfl) (by rw [hR]; exact ⟨show w.1 + 3 + 0 ≤ 603072 by omega, show w.2 + 31 + 0 ≤ 7088234 by omega⟩) dL_law_334 ?_
  show g_YP X _ _ 337 [(4, .int i), (3, .ref ao), (2, .ref am), (1, .ref ax), (0, .ref b)] [.int r, .int r]
  refine p_icmp_eq (tgt := 1534) C dL_law_337 rfl (fun _ => ?_) (fun hne => absurd rfl hne)
  exact p_widen ⟨show w.1 + 3 + 0 ≤ w.1 + 11 by omega, show w.2 + 31 + 0 ≤ w.2 + 196 by omega⟩ (next _ _ _ hI1)
theorem lc_rule {Rel : Nat → g_S → g_S → Prop} {X : g_F} {b L ax am ao : Nat} {xs : Nat → Int32} (C : g_M gCl X cL_law RX0 ret) (hR : g_R X = room_1) (hX : va_X b L xs (g_s X) (g_s X).heap) (hb : b < (g_s X).heap.size) (hbA : ¬ g_A X b) (hnL : g_nL X = 8) (hlt : (g_l X).stackTraces = false) (hp : pr_rule Rel) {σC σM : g_S} {o : Int64} {j : Nat} (hj : j < 65) (hI : Rel j σC σM) {i : Int32} (h1 : g_in (i + 1) L = true) (h2 : g_in (i + 2) L = true) (h3 : g_in (i + 3) L = true) (h4 : g_in (i + 4) L = true) {w : Nat × Nat} (hw : w.1 + 11 ≤ 603072 ∧ w.2 + 196 ≤ 7088234) (next : ∀ σC1 σM1 o1, Rel (j + 1) σC1 σM1 → g_YP X (g_P2 (g_D X) (g_dA X) (g_A X) ax am ao σC1 σM1 o1) (w.1 + 11, w.2 + 196) 1534 [(4, .int i), (3, .ref ao), (2, .ref am), (1, .ref ax), (0, .ref b)] []) : g_YP X (g_P2 (g_D X) (g_dA X) (g_A X) ax am ao σC σM o) w 342 [(4, .int i), (3, .ref ao), (2, .ref am), (1, .ref ax), (0, .ref b)] [] := by
  obtain ⟨s1, hs1, r, σC1, σM1, e1, e2, hI1⟩ := hp j σC σM hj hI
  refine p_aload_n C dL_law_342 3 rfl rfl ?_
  refine p_callVH (Z := fun v s2 => v = some (.int r) ∧ s2 = σC1) (As := []) (w1 := (3, 95)) C g_splC rfl (by decide) (fun _ => ⟨_, rfl⟩) (lkL_X0_53_X1_l302_w3 C hR) (fun ad A1 => ct_C1_rule hlt hs1 e1) (fun _ _ _ _ hh => ⟨⟨hh.1, hh.2.1⟩, hh.2.2⟩) rfl rfl (Nat.le_of_ble_eq_true rfl) (by rw [hR]; exact ⟨show w.1 + 3 ≤ 603072 by omega, show w.2 + 95 ≤ 7088234 by omega⟩) dL_law_343 ?_
  rintro _ _ ⟨rfl, rfl⟩
  show g_YP X _ _ 346 [(4, .int i), (3, .ref ao), (2, .ref am), (1, .ref ax), (0, .ref b)] [.int r]
  refine p_aload_n C dL_law_346 2 rfl rfl ?_
  refine p_callV (As := []) (w1 := (0, 0)) C g_splM rfl (by decide) (fun _ => ⟨_, rfl⟩) (lkL_X0_56_X6_l107_w0 C hR) (fun ad A1 => ct_M_rule e2) rfl rfl (Nat.le_of_ble_eq_true rfl) (by rw [hR]; exact ⟨show w.1 + 3 + 0 ≤ 603072 by omega, show w.2 + 95 + 0 ≤ 7088234 by omega⟩) dL_law_347 ?_
  show g_YP X _ _ 350 [(4, .int i), (3, .ref ao), (2, .ref am), (1, .ref ax), (0, .ref b)] [.int r, .int r]
  refine p_icmp_eq (tgt := 1534) C dL_law_350 rfl (fun _ => ?_) (fun hne => absurd rfl hne)
  exact p_widen ⟨show w.1 + 3 + 0 ≤ w.1 + 11 by omega, show w.2 + 95 + 0 ≤ w.2 + 196 by omega⟩ (next _ _ _ hI1)
theorem lc_person {Rel : Nat → g_S → g_S → Prop} {X : g_F} {b L ax am ao : Nat} {xs : Nat → Int32} (C : g_M gCl X cL_law RX0 ret) (hR : g_R X = room_1) (hX : va_X b L xs (g_s X) (g_s X).heap) (hb : b < (g_s X).heap.size) (hbA : ¬ g_A X b) (hnL : g_nL X = 8) (hlt : (g_l X).stackTraces = false) (hp : pr_person Rel) {σC σM : g_S} {o : Int64} {j : Nat} (hj : j < 65) (hI : Rel j σC σM) {i : Int32} (h1 : g_in (i + 1) L = true) (h2 : g_in (i + 2) L = true) (h3 : g_in (i + 3) L = true) (h4 : g_in (i + 4) L = true) {w : Nat × Nat} (hw : w.1 + 11 ≤ 603072 ∧ w.2 + 196 ≤ 7088234) (next : ∀ σC1 σM1 o1, Rel (j + 1) σC1 σM1 → g_YP X (g_P2 (g_D X) (g_dA X) (g_A X) ax am ao σC1 σM1 o1) (w.1 + 11, w.2 + 196) 1534 [(4, .int i), (3, .ref ao), (2, .ref am), (1, .ref ax), (0, .ref b)] []) : g_YP X (g_P2 (g_D X) (g_dA X) (g_A X) ax am ao σC σM o) w 355 [(4, .int i), (3, .ref ao), (2, .ref am), (1, .ref ax), (0, .ref b)] [] := by
  obtain ⟨oo, r, σM1, k, e1, e2, e3, e4, hI1⟩ := hp j σC σM (xs (i + 1).toNatClampNeg) (xs (i + 2).toNatClampNeg) hj hI
  rcases e4 with ⟨rfl, rfl⟩ | ⟨rfl, rfl⟩
  · refine p_aload_n C dL_law_355 3 rfl rfl ?_
    refine p_aload_n C dL_law_356 4 rfl rfl ?_
    refine p_iload C dL_law_357 0 rfl ?_
    refine p_iconst (v := 1) C dL_law_359 rfl ?_
    refine p_iadd C dL_law_360 ?_
    refine p_sld C hX hb hbA h1 dL_law_361 ?_
    refine p_aload_n C dL_law_362 4 rfl rfl ?_
    refine p_iload C dL_law_363 0 rfl ?_
    refine p_iconst (v := 2) C dL_law_365 rfl ?_
    refine p_iadd C dL_law_366 ?_
    refine p_sld C hX hb hbA h2 dL_law_367 ?_
    refine p_aload_n C dL_law_368 1 rfl rfl ?_
    refine p_callSP (As := [.ref ax, .int (xs (i + 1).toNatClampNeg), .int (xs (i + 2).toNatClampNeg), .ref ao]) (w1 := (1, 6)) C (lkL_S_person C hR) (ct_X0_person_t hlt e1) rfl rfl (Nat.le_of_ble_eq_true rfl) (by rw [hR]; exact ⟨show w.1 + 1 ≤ 603072 by omega, show w.2 + 6 ≤ 7088234 by omega⟩) dL_law_369 ?_
    show g_YP X _ _ 372 [(4, .int i), (3, .ref ao), (2, .ref am), (1, .ref ax), (0, .ref b)] [.int 1]
    refine p_istore (vs1 := [(5, .int 1), (4, .int i), (3, .ref ao), (2, .ref am), (1, .ref ax), (0, .ref b)]) C rfl dL_law_372 (by rw [hnL]; decide) rfl ?_
    refine p_aload_n C dL_law_374 3 rfl rfl ?_
    refine p_aload_n C dL_law_375 5 rfl rfl ?_
    refine p_iload C dL_law_376 1 rfl ?_
    refine p_iconst (v := 1) C dL_law_378 rfl ?_
    refine p_iadd C dL_law_379 ?_
    refine p_sld C hX hb hbA h1 dL_law_380 ?_
    refine p_aload_n C dL_law_381 5 rfl rfl ?_
    refine p_iload C dL_law_382 1 rfl ?_
    refine p_iconst (v := 2) C dL_law_384 rfl ?_
    refine p_iadd C dL_law_385 ?_
    refine p_sld C hX hb hbA h2 dL_law_386 ?_
    refine p_callV (As := [.int (xs (i + 1).toNatClampNeg), .int (xs (i + 2).toNatClampNeg)]) (w1 := (0, 0)) C g_splM rfl (by decide) (fun _ => ⟨_, rfl⟩) (lkL_X0_62_X6_l6_w0 C hR) (fun ad A1 => ct_M_person e2) rfl rfl (Nat.le_of_ble_eq_true rfl) (by rw [hR]; exact ⟨show w.1 + 1 + 0 ≤ 603072 by omega, show w.2 + 6 + 0 ≤ 7088234 by omega⟩) dL_law_387 ?_
    show g_YP X _ _ 390 [(5, .int 1), (4, .int i), (3, .ref ao), (2, .ref am), (1, .ref ax), (0, .ref b)] [.int r]
    refine p_istore (vs1 := [(6, .int r), (5, .int 1), (4, .int i), (3, .ref ao), (2, .ref am), (1, .ref ax), (0, .ref b)]) C rfl dL_law_390 (by rw [hnL]; decide) rfl ?_
    refine p_aload_n C dL_law_392 4 rfl rfl ?_
    refine p_callV (As := []) (w1 := (0, 0)) C g_splM rfl (by decide) (fun _ => ⟨_, rfl⟩) (lkL_X0_63_X6_l1_w0 C hR) (fun ad A1 => ct_M_thrown e3) rfl rfl (Nat.le_of_ble_eq_true rfl) (by rw [hR]; exact ⟨show w.1 + 1 + 0 + 0 ≤ 603072 by omega, show w.2 + 6 + 0 + 0 ≤ 7088234 by omega⟩) dL_law_393 ?_
    show g_YP X _ _ 396 [(6, .int r), (5, .int 1), (4, .int i), (3, .ref ao), (2, .ref am), (1, .ref ax), (0, .ref b)] [.int 1]
    refine p_iload C dL_law_396 1 rfl ?_
    refine p_icmp_eq (tgt := 403) C dL_law_398 rfl (fun _ => ?_) (fun hne => absurd rfl hne)
    refine p_iload C dL_law_403 1 rfl ?_
    refine p_if_ne (tgt := 420) C dL_law_405 rfl (fun _ => ?_) (fun hne => absurd hne (by decide))
    refine p_goto (tgt := 1534) C dL_law_420 rfl ?_
    refine p_sub [2, 3, 4, 5, 6] rfl ?_
    exact p_widen ⟨show w.1 + 1 + 0 + 0 ≤ w.1 + 11 by omega, show w.2 + 6 + 0 + 0 ≤ w.2 + 196 by omega⟩ (next _ _ _ hI1)
  · refine p_aload_n C dL_law_355 3 rfl rfl ?_
    refine p_aload_n C dL_law_356 4 rfl rfl ?_
    refine p_iload C dL_law_357 0 rfl ?_
    refine p_iconst (v := 1) C dL_law_359 rfl ?_
    refine p_iadd C dL_law_360 ?_
    refine p_sld C hX hb hbA h1 dL_law_361 ?_
    refine p_aload_n C dL_law_362 4 rfl rfl ?_
    refine p_iload C dL_law_363 0 rfl ?_
    refine p_iconst (v := 2) C dL_law_365 rfl ?_
    refine p_iadd C dL_law_366 ?_
    refine p_sld C hX hb hbA h2 dL_law_367 ?_
    refine p_aload_n C dL_law_368 1 rfl rfl ?_
    refine p_callSP (As := [.ref ax, .int (xs (i + 1).toNatClampNeg), .int (xs (i + 2).toNatClampNeg), .ref ao]) (w1 := (1, 6)) C (lkL_S_person C hR) (ct_X0_person_r hlt e1) rfl rfl (Nat.le_of_ble_eq_true rfl) (by rw [hR]; exact ⟨show w.1 + 1 ≤ 603072 by omega, show w.2 + 6 ≤ 7088234 by omega⟩) dL_law_369 ?_
    show g_YP X _ _ 372 [(4, .int i), (3, .ref ao), (2, .ref am), (1, .ref ax), (0, .ref b)] [.int 0]
    refine p_istore (vs1 := [(5, .int 0), (4, .int i), (3, .ref ao), (2, .ref am), (1, .ref ax), (0, .ref b)]) C rfl dL_law_372 (by rw [hnL]; decide) rfl ?_
    refine p_aload_n C dL_law_374 3 rfl rfl ?_
    refine p_aload_n C dL_law_375 5 rfl rfl ?_
    refine p_iload C dL_law_376 1 rfl ?_
    refine p_iconst (v := 1) C dL_law_378 rfl ?_
    refine p_iadd C dL_law_379 ?_
    refine p_sld C hX hb hbA h1 dL_law_380 ?_
    refine p_aload_n C dL_law_381 5 rfl rfl ?_
    refine p_iload C dL_law_382 1 rfl ?_
    refine p_iconst (v := 2) C dL_law_384 rfl ?_
    refine p_iadd C dL_law_385 ?_
    refine p_sld C hX hb hbA h2 dL_law_386 ?_
    refine p_callV (As := [.int (xs (i + 1).toNatClampNeg), .int (xs (i + 2).toNatClampNeg)]) (w1 := (0, 0)) C g_splM rfl (by decide) (fun _ => ⟨_, rfl⟩) (lkL_X0_62_X6_l6_w0 C hR) (fun ad A1 => ct_M_person e2) rfl rfl (Nat.le_of_ble_eq_true rfl) (by rw [hR]; exact ⟨show w.1 + 1 + 0 ≤ 603072 by omega, show w.2 + 6 + 0 ≤ 7088234 by omega⟩) dL_law_387 ?_
    show g_YP X _ _ 390 [(5, .int 0), (4, .int i), (3, .ref ao), (2, .ref am), (1, .ref ax), (0, .ref b)] [.int r]
    refine p_istore (vs1 := [(6, .int r), (5, .int 0), (4, .int i), (3, .ref ao), (2, .ref am), (1, .ref ax), (0, .ref b)]) C rfl dL_law_390 (by rw [hnL]; decide) rfl ?_
    refine p_aload_n C dL_law_392 4 rfl rfl ?_
    refine p_callV (As := []) (w1 := (0, 0)) C g_splM rfl (by decide) (fun _ => ⟨_, rfl⟩) (lkL_X0_63_X6_l1_w0 C hR) (fun ad A1 => ct_M_thrown e3) rfl rfl (Nat.le_of_ble_eq_true rfl) (by rw [hR]; exact ⟨show w.1 + 1 + 0 + 0 ≤ 603072 by omega, show w.2 + 6 + 0 + 0 ≤ 7088234 by omega⟩) dL_law_393 ?_
    show g_YP X _ _ 396 [(6, .int r), (5, .int 0), (4, .int i), (3, .ref ao), (2, .ref am), (1, .ref ax), (0, .ref b)] [.int 0]
    refine p_iload C dL_law_396 1 rfl ?_
    refine p_icmp_eq (tgt := 403) C dL_law_398 rfl (fun _ => ?_) (fun hne => absurd rfl hne)
    refine p_iload C dL_law_403 1 rfl ?_
    refine p_if_ne (tgt := 420) C dL_law_405 rfl (fun hne => absurd rfl hne) (fun _ => ?_)
    show g_YP X _ _ 408 [(6, .int r), (5, .int 0), (4, .int i), (3, .ref ao), (2, .ref am), (1, .ref ax), (0, .ref b)] []
    refine p_aload_n C dL_law_408 3 rfl rfl ?_
    refine p_iconst (v := 0) C dL_law_409 rfl ?_
    refine p_lald C dL_law_410 ?_
    refine p_iload C dL_law_411 0 rfl ?_
    refine p_i2l C dL_law_413 ?_
    refine p_lcmp C dL_law_414 ?_
    refine p_if_eq (tgt := 420) C dL_law_415 rfl (fun _ => ?_) (fun hne => absurd (g_cmp0 _) hne)
    refine p_goto (tgt := 1534) C dL_law_420 rfl ?_
    refine p_sub [2, 3, 4, 5, 6] rfl ?_
    exact p_widen ⟨show w.1 + 1 + 0 + 0 ≤ w.1 + 11 by omega, show w.2 + 6 + 0 + 0 ≤ w.2 + 196 by omega⟩ (next _ _ _ hI1)
theorem lc_thing {Rel : Nat → g_S → g_S → Prop} {X : g_F} {b L ax am ao : Nat} {xs : Nat → Int32} (C : g_M gCl X cL_law RX0 ret) (hR : g_R X = room_1) (hX : va_X b L xs (g_s X) (g_s X).heap) (hb : b < (g_s X).heap.size) (hbA : ¬ g_A X b) (hnL : g_nL X = 8) (hlt : (g_l X).stackTraces = false) (hp : pr_thing Rel) {σC σM : g_S} {o : Int64} {j : Nat} (hj : j < 65) (hI : Rel j σC σM) {i : Int32} (h1 : g_in (i + 1) L = true) (h2 : g_in (i + 2) L = true) (h3 : g_in (i + 3) L = true) (h4 : g_in (i + 4) L = true) {w : Nat × Nat} (hw : w.1 + 11 ≤ 603072 ∧ w.2 + 196 ≤ 7088234) (next : ∀ σC1 σM1 o1, Rel (j + 1) σC1 σM1 → g_YP X (g_P2 (g_D X) (g_dA X) (g_A X) ax am ao σC1 σM1 o1) (w.1 + 11, w.2 + 196) 1534 [(4, .int i), (3, .ref ao), (2, .ref am), (1, .ref ax), (0, .ref b)] []) : g_YP X (g_P2 (g_D X) (g_dA X) (g_A X) ax am ao σC σM o) w 423 [(4, .int i), (3, .ref ao), (2, .ref am), (1, .ref ax), (0, .ref b)] [] := by
  obtain ⟨oo, r, σM1, k, e1, e2, e3, e4, hI1⟩ := hp j σC σM (xs (i + 1).toNatClampNeg) (xs (i + 2).toNatClampNeg) hj hI
  rcases e4 with ⟨rfl, rfl⟩ | ⟨rfl, rfl⟩
  · refine p_aload_n C dL_law_423 3 rfl rfl ?_
    refine p_aload_n C dL_law_424 4 rfl rfl ?_
    refine p_iload C dL_law_425 0 rfl ?_
    refine p_iconst (v := 1) C dL_law_427 rfl ?_
    refine p_iadd C dL_law_428 ?_
    refine p_sld C hX hb hbA h1 dL_law_429 ?_
    refine p_aload_n C dL_law_430 4 rfl rfl ?_
    refine p_iload C dL_law_431 0 rfl ?_
    refine p_iconst (v := 2) C dL_law_433 rfl ?_
    refine p_iadd C dL_law_434 ?_
    refine p_sld C hX hb hbA h2 dL_law_435 ?_
    refine p_aload_n C dL_law_436 1 rfl rfl ?_
    refine p_callSP (As := [.ref ax, .int (xs (i + 1).toNatClampNeg), .int (xs (i + 2).toNatClampNeg), .ref ao]) (w1 := (1, 6)) C (lkL_S_thing C hR) (ct_X0_thing_t hlt e1) rfl rfl (Nat.le_of_ble_eq_true rfl) (by rw [hR]; exact ⟨show w.1 + 1 ≤ 603072 by omega, show w.2 + 6 ≤ 7088234 by omega⟩) dL_law_437 ?_
    show g_YP X _ _ 440 [(4, .int i), (3, .ref ao), (2, .ref am), (1, .ref ax), (0, .ref b)] [.int 1]
    refine p_istore (vs1 := [(5, .int 1), (4, .int i), (3, .ref ao), (2, .ref am), (1, .ref ax), (0, .ref b)]) C rfl dL_law_440 (by rw [hnL]; decide) rfl ?_
    refine p_aload_n C dL_law_442 3 rfl rfl ?_
    refine p_aload_n C dL_law_443 5 rfl rfl ?_
    refine p_iload C dL_law_444 1 rfl ?_
    refine p_iconst (v := 1) C dL_law_446 rfl ?_
    refine p_iadd C dL_law_447 ?_
    refine p_sld C hX hb hbA h1 dL_law_448 ?_
    refine p_aload_n C dL_law_449 5 rfl rfl ?_
    refine p_iload C dL_law_450 1 rfl ?_
    refine p_iconst (v := 2) C dL_law_452 rfl ?_
    refine p_iadd C dL_law_453 ?_
    refine p_sld C hX hb hbA h2 dL_law_454 ?_
    refine p_callV (As := [.int (xs (i + 1).toNatClampNeg), .int (xs (i + 2).toNatClampNeg)]) (w1 := (0, 0)) C g_splM rfl (by decide) (fun _ => ⟨_, rfl⟩) (lkL_X0_68_X6_l7_w0 C hR) (fun ad A1 => ct_M_thing e2) rfl rfl (Nat.le_of_ble_eq_true rfl) (by rw [hR]; exact ⟨show w.1 + 1 + 0 ≤ 603072 by omega, show w.2 + 6 + 0 ≤ 7088234 by omega⟩) dL_law_455 ?_
    show g_YP X _ _ 458 [(5, .int 1), (4, .int i), (3, .ref ao), (2, .ref am), (1, .ref ax), (0, .ref b)] [.int r]
    refine p_istore (vs1 := [(6, .int r), (5, .int 1), (4, .int i), (3, .ref ao), (2, .ref am), (1, .ref ax), (0, .ref b)]) C rfl dL_law_458 (by rw [hnL]; decide) rfl ?_
    refine p_aload_n C dL_law_460 4 rfl rfl ?_
    refine p_callV (As := []) (w1 := (0, 0)) C g_splM rfl (by decide) (fun _ => ⟨_, rfl⟩) (lkL_X0_63_X6_l1_w0 C hR) (fun ad A1 => ct_M_thrown e3) rfl rfl (Nat.le_of_ble_eq_true rfl) (by rw [hR]; exact ⟨show w.1 + 1 + 0 + 0 ≤ 603072 by omega, show w.2 + 6 + 0 + 0 ≤ 7088234 by omega⟩) dL_law_461 ?_
    show g_YP X _ _ 464 [(6, .int r), (5, .int 1), (4, .int i), (3, .ref ao), (2, .ref am), (1, .ref ax), (0, .ref b)] [.int 1]
    refine p_iload C dL_law_464 1 rfl ?_
    refine p_icmp_eq (tgt := 471) C dL_law_466 rfl (fun _ => ?_) (fun hne => absurd rfl hne)
    refine p_iload C dL_law_471 1 rfl ?_
    refine p_if_ne (tgt := 488) C dL_law_473 rfl (fun _ => ?_) (fun hne => absurd hne (by decide))
    refine p_goto (tgt := 1534) C dL_law_488 rfl ?_
    refine p_sub [2, 3, 4, 5, 6] rfl ?_
    exact p_widen ⟨show w.1 + 1 + 0 + 0 ≤ w.1 + 11 by omega, show w.2 + 6 + 0 + 0 ≤ w.2 + 196 by omega⟩ (next _ _ _ hI1)
  · refine p_aload_n C dL_law_423 3 rfl rfl ?_
    refine p_aload_n C dL_law_424 4 rfl rfl ?_
    refine p_iload C dL_law_425 0 rfl ?_
    refine p_iconst (v := 1) C dL_law_427 rfl ?_
    refine p_iadd C dL_law_428 ?_
    refine p_sld C hX hb hbA h1 dL_law_429 ?_
    refine p_aload_n C dL_law_430 4 rfl rfl ?_
    refine p_iload C dL_law_431 0 rfl ?_
    refine p_iconst (v := 2) C dL_law_433 rfl ?_
    refine p_iadd C dL_law_434 ?_
    refine p_sld C hX hb hbA h2 dL_law_435 ?_
    refine p_aload_n C dL_law_436 1 rfl rfl ?_
    refine p_callSP (As := [.ref ax, .int (xs (i + 1).toNatClampNeg), .int (xs (i + 2).toNatClampNeg), .ref ao]) (w1 := (1, 6)) C (lkL_S_thing C hR) (ct_X0_thing_r hlt e1) rfl rfl (Nat.le_of_ble_eq_true rfl) (by rw [hR]; exact ⟨show w.1 + 1 ≤ 603072 by omega, show w.2 + 6 ≤ 7088234 by omega⟩) dL_law_437 ?_
    show g_YP X _ _ 440 [(4, .int i), (3, .ref ao), (2, .ref am), (1, .ref ax), (0, .ref b)] [.int 0]
    refine p_istore (vs1 := [(5, .int 0), (4, .int i), (3, .ref ao), (2, .ref am), (1, .ref ax), (0, .ref b)]) C rfl dL_law_440 (by rw [hnL]; decide) rfl ?_
    refine p_aload_n C dL_law_442 3 rfl rfl ?_
    refine p_aload_n C dL_law_443 5 rfl rfl ?_
    refine p_iload C dL_law_444 1 rfl ?_
    refine p_iconst (v := 1) C dL_law_446 rfl ?_
    refine p_iadd C dL_law_447 ?_
    refine p_sld C hX hb hbA h1 dL_law_448 ?_
    refine p_aload_n C dL_law_449 5 rfl rfl ?_
    refine p_iload C dL_law_450 1 rfl ?_
    refine p_iconst (v := 2) C dL_law_452 rfl ?_
    refine p_iadd C dL_law_453 ?_
    refine p_sld C hX hb hbA h2 dL_law_454 ?_
    refine p_callV (As := [.int (xs (i + 1).toNatClampNeg), .int (xs (i + 2).toNatClampNeg)]) (w1 := (0, 0)) C g_splM rfl (by decide) (fun _ => ⟨_, rfl⟩) (lkL_X0_68_X6_l7_w0 C hR) (fun ad A1 => ct_M_thing e2) rfl rfl (Nat.le_of_ble_eq_true rfl) (by rw [hR]; exact ⟨show w.1 + 1 + 0 ≤ 603072 by omega, show w.2 + 6 + 0 ≤ 7088234 by omega⟩) dL_law_455 ?_
    show g_YP X _ _ 458 [(5, .int 0), (4, .int i), (3, .ref ao), (2, .ref am), (1, .ref ax), (0, .ref b)] [.int r]
    refine p_istore (vs1 := [(6, .int r), (5, .int 0), (4, .int i), (3, .ref ao), (2, .ref am), (1, .ref ax), (0, .ref b)]) C rfl dL_law_458 (by rw [hnL]; decide) rfl ?_
    refine p_aload_n C dL_law_460 4 rfl rfl ?_
    refine p_callV (As := []) (w1 := (0, 0)) C g_splM rfl (by decide) (fun _ => ⟨_, rfl⟩) (lkL_X0_63_X6_l1_w0 C hR) (fun ad A1 => ct_M_thrown e3) rfl rfl (Nat.le_of_ble_eq_true rfl) (by rw [hR]; exact ⟨show w.1 + 1 + 0 + 0 ≤ 603072 by omega, show w.2 + 6 + 0 + 0 ≤ 7088234 by omega⟩) dL_law_461 ?_
    show g_YP X _ _ 464 [(6, .int r), (5, .int 0), (4, .int i), (3, .ref ao), (2, .ref am), (1, .ref ax), (0, .ref b)] [.int 0]
    refine p_iload C dL_law_464 1 rfl ?_
    refine p_icmp_eq (tgt := 471) C dL_law_466 rfl (fun _ => ?_) (fun hne => absurd rfl hne)
    refine p_iload C dL_law_471 1 rfl ?_
    refine p_if_ne (tgt := 488) C dL_law_473 rfl (fun hne => absurd rfl hne) (fun _ => ?_)
    show g_YP X _ _ 476 [(6, .int r), (5, .int 0), (4, .int i), (3, .ref ao), (2, .ref am), (1, .ref ax), (0, .ref b)] []
    refine p_aload_n C dL_law_476 3 rfl rfl ?_
    refine p_iconst (v := 0) C dL_law_477 rfl ?_
    refine p_lald C dL_law_478 ?_
    refine p_iload C dL_law_479 0 rfl ?_
    refine p_i2l C dL_law_481 ?_
    refine p_lcmp C dL_law_482 ?_
    refine p_if_eq (tgt := 488) C dL_law_483 rfl (fun _ => ?_) (fun hne => absurd (g_cmp0 _) hne)
    refine p_goto (tgt := 1534) C dL_law_488 rfl ?_
    refine p_sub [2, 3, 4, 5, 6] rfl ?_
    exact p_widen ⟨show w.1 + 1 + 0 + 0 ≤ w.1 + 11 by omega, show w.2 + 6 + 0 + 0 ≤ w.2 + 196 by omega⟩ (next _ _ _ hI1)
theorem lc_sheet {Rel : Nat → g_S → g_S → Prop} {X : g_F} {b L ax am ao : Nat} {xs : Nat → Int32} (C : g_M gCl X cL_law RX0 ret) (hR : g_R X = room_1) (hX : va_X b L xs (g_s X) (g_s X).heap) (hb : b < (g_s X).heap.size) (hbA : ¬ g_A X b) (hnL : g_nL X = 8) (hlt : (g_l X).stackTraces = false) (hp : pr_sheet Rel) {σC σM : g_S} {o : Int64} {j : Nat} (hj : j < 65) (hI : Rel j σC σM) {i : Int32} (h1 : g_in (i + 1) L = true) (h2 : g_in (i + 2) L = true) (h3 : g_in (i + 3) L = true) (h4 : g_in (i + 4) L = true) {w : Nat × Nat} (hw : w.1 + 11 ≤ 603072 ∧ w.2 + 196 ≤ 7088234) (next : ∀ σC1 σM1 o1, Rel (j + 1) σC1 σM1 → g_YP X (g_P2 (g_D X) (g_dA X) (g_A X) ax am ao σC1 σM1 o1) (w.1 + 11, w.2 + 196) 1534 [(4, .int i), (3, .ref ao), (2, .ref am), (1, .ref ax), (0, .ref b)] []) : g_YP X (g_P2 (g_D X) (g_dA X) (g_A X) ax am ao σC σM o) w 491 [(4, .int i), (3, .ref ao), (2, .ref am), (1, .ref ax), (0, .ref b)] [] := by
  obtain ⟨r, σC1, σM1, e1, e2, hI1⟩ := hp j σC σM (xs (i + 1).toNatClampNeg) (xs (i + 2).toNatClampNeg) (xs (i + 3).toNatClampNeg) (xs (i + 4).toNatClampNeg) hj hI
  rcases e1 with e1 | e1 | e1
  · refine p_aload_n C dL_law_491 3 rfl rfl ?_
    refine p_aload_n C dL_law_492 4 rfl rfl ?_
    refine p_iload C dL_law_493 0 rfl ?_
    refine p_iconst (v := 1) C dL_law_495 rfl ?_
    refine p_iadd C dL_law_496 ?_
    refine p_sld C hX hb hbA h1 dL_law_497 ?_
    refine p_aload_n C dL_law_498 4 rfl rfl ?_
    refine p_iload C dL_law_499 0 rfl ?_
    refine p_iconst (v := 2) C dL_law_501 rfl ?_
    refine p_iadd C dL_law_502 ?_
    refine p_sld C hX hb hbA h2 dL_law_503 ?_
    refine p_aload_n C dL_law_504 4 rfl rfl ?_
    refine p_iload C dL_law_505 0 rfl ?_
    refine p_iconst (v := 3) C dL_law_507 rfl ?_
    refine p_iadd C dL_law_508 ?_
    refine p_sld C hX hb hbA h3 dL_law_509 ?_
    refine p_aload_n C dL_law_510 4 rfl rfl ?_
    refine p_iload C dL_law_511 0 rfl ?_
    refine p_iconst (v := 4) C dL_law_513 rfl ?_
    refine p_iadd C dL_law_514 ?_
    refine p_sld C hX hb hbA h4 dL_law_515 ?_
    refine p_callVH (Z := fun v s2 => v = some (.int r) ∧ s2 = σC1) (As := [.int (xs (i + 1).toNatClampNeg), .int (xs (i + 2).toNatClampNeg), .int (xs (i + 3).toNatClampNeg), .int (xs (i + 4).toNatClampNeg)]) (w1 := (0, 0)) C g_splC rfl (by decide) (fun _ => ⟨_, rfl⟩) (lkL_X0_69_X1_l2_w0 C hR) (fun ad A1 => ct_C1_sheet_n hlt e1) (fun _ _ _ _ hh => ⟨⟨hh.1, hh.2.1⟩, hh.2.2⟩) rfl rfl (Nat.le_of_ble_eq_true rfl) (by rw [hR]; exact ⟨show w.1 + 0 ≤ 603072 by omega, show w.2 + 0 ≤ 7088234 by omega⟩) dL_law_516 ?_
    rintro _ _ ⟨rfl, rfl⟩
    show g_YP X _ _ 519 [(4, .int i), (3, .ref ao), (2, .ref am), (1, .ref ax), (0, .ref b)] [.int r]
    refine p_aload_n C dL_law_519 2 rfl rfl ?_
    refine p_aload_n C dL_law_520 4 rfl rfl ?_
    refine p_iload C dL_law_521 0 rfl ?_
    refine p_iconst (v := 1) C dL_law_523 rfl ?_
    refine p_iadd C dL_law_524 ?_
    refine p_sld C hX hb hbA h1 dL_law_525 ?_
    refine p_aload_n C dL_law_526 4 rfl rfl ?_
    refine p_iload C dL_law_527 0 rfl ?_
    refine p_iconst (v := 2) C dL_law_529 rfl ?_
    refine p_iadd C dL_law_530 ?_
    refine p_sld C hX hb hbA h2 dL_law_531 ?_
    refine p_aload_n C dL_law_532 4 rfl rfl ?_
    refine p_iload C dL_law_533 0 rfl ?_
    refine p_iconst (v := 3) C dL_law_535 rfl ?_
    refine p_iadd C dL_law_536 ?_
    refine p_sld C hX hb hbA h3 dL_law_537 ?_
    refine p_aload_n C dL_law_538 4 rfl rfl ?_
    refine p_iload C dL_law_539 0 rfl ?_
    refine p_iconst (v := 4) C dL_law_541 rfl ?_
    refine p_iadd C dL_law_542 ?_
    refine p_sld C hX hb hbA h4 dL_law_543 ?_
    refine p_callV (As := [.int (xs (i + 1).toNatClampNeg), .int (xs (i + 2).toNatClampNeg), .int (xs (i + 3).toNatClampNeg), .int (xs (i + 4).toNatClampNeg)]) (w1 := (0, 0)) C g_splM rfl (by decide) (fun _ => ⟨_, rfl⟩) (lkL_X0_73_X6_l2_w0 C hR) (fun ad A1 => ct_M_sheet e2) rfl rfl (Nat.le_of_ble_eq_true rfl) (by rw [hR]; exact ⟨show w.1 + 0 + 0 ≤ 603072 by omega, show w.2 + 0 + 0 ≤ 7088234 by omega⟩) dL_law_544 ?_
    show g_YP X _ _ 547 [(4, .int i), (3, .ref ao), (2, .ref am), (1, .ref ax), (0, .ref b)] [.int r, .int r]
    refine p_icmp_eq (tgt := 1534) C dL_law_547 rfl (fun _ => ?_) (fun hne => absurd rfl hne)
    exact p_widen ⟨show w.1 + 0 + 0 ≤ w.1 + 11 by omega, show w.2 + 0 + 0 ≤ w.2 + 196 by omega⟩ (next _ _ _ hI1)
  · refine p_aload_n C dL_law_491 3 rfl rfl ?_
    refine p_aload_n C dL_law_492 4 rfl rfl ?_
    refine p_iload C dL_law_493 0 rfl ?_
    refine p_iconst (v := 1) C dL_law_495 rfl ?_
    refine p_iadd C dL_law_496 ?_
    refine p_sld C hX hb hbA h1 dL_law_497 ?_
    refine p_aload_n C dL_law_498 4 rfl rfl ?_
    refine p_iload C dL_law_499 0 rfl ?_
    refine p_iconst (v := 2) C dL_law_501 rfl ?_
    refine p_iadd C dL_law_502 ?_
    refine p_sld C hX hb hbA h2 dL_law_503 ?_
    refine p_aload_n C dL_law_504 4 rfl rfl ?_
    refine p_iload C dL_law_505 0 rfl ?_
    refine p_iconst (v := 3) C dL_law_507 rfl ?_
    refine p_iadd C dL_law_508 ?_
    refine p_sld C hX hb hbA h3 dL_law_509 ?_
    refine p_aload_n C dL_law_510 4 rfl rfl ?_
    refine p_iload C dL_law_511 0 rfl ?_
    refine p_iconst (v := 4) C dL_law_513 rfl ?_
    refine p_iadd C dL_law_514 ?_
    refine p_sld C hX hb hbA h4 dL_law_515 ?_
    refine p_callVH (Z := fun v s2 => v = some (.int r) ∧ s2 = σC1) (As := [.int (xs (i + 1).toNatClampNeg), .int (xs (i + 2).toNatClampNeg), .int (xs (i + 3).toNatClampNeg), .int (xs (i + 4).toNatClampNeg)]) (w1 := (1, 8)) C g_splC rfl (by decide) (fun _ => ⟨_, rfl⟩) (lkL_X0_69_X1_l2_w1 C hR) (fun ad A1 => ct_C1_sheet_r hlt e1) (fun _ _ _ _ hh => ⟨⟨hh.1, hh.2.1⟩, hh.2.2⟩) rfl rfl (Nat.le_of_ble_eq_true rfl) (by rw [hR]; exact ⟨show w.1 + 1 ≤ 603072 by omega, show w.2 + 8 ≤ 7088234 by omega⟩) dL_law_516 ?_
    rintro _ _ ⟨rfl, rfl⟩
    show g_YP X _ _ 519 [(4, .int i), (3, .ref ao), (2, .ref am), (1, .ref ax), (0, .ref b)] [.int r]
    refine p_aload_n C dL_law_519 2 rfl rfl ?_
    refine p_aload_n C dL_law_520 4 rfl rfl ?_
    refine p_iload C dL_law_521 0 rfl ?_
    refine p_iconst (v := 1) C dL_law_523 rfl ?_
    refine p_iadd C dL_law_524 ?_
    refine p_sld C hX hb hbA h1 dL_law_525 ?_
    refine p_aload_n C dL_law_526 4 rfl rfl ?_
    refine p_iload C dL_law_527 0 rfl ?_
    refine p_iconst (v := 2) C dL_law_529 rfl ?_
    refine p_iadd C dL_law_530 ?_
    refine p_sld C hX hb hbA h2 dL_law_531 ?_
    refine p_aload_n C dL_law_532 4 rfl rfl ?_
    refine p_iload C dL_law_533 0 rfl ?_
    refine p_iconst (v := 3) C dL_law_535 rfl ?_
    refine p_iadd C dL_law_536 ?_
    refine p_sld C hX hb hbA h3 dL_law_537 ?_
    refine p_aload_n C dL_law_538 4 rfl rfl ?_
    refine p_iload C dL_law_539 0 rfl ?_
    refine p_iconst (v := 4) C dL_law_541 rfl ?_
    refine p_iadd C dL_law_542 ?_
    refine p_sld C hX hb hbA h4 dL_law_543 ?_
    refine p_callV (As := [.int (xs (i + 1).toNatClampNeg), .int (xs (i + 2).toNatClampNeg), .int (xs (i + 3).toNatClampNeg), .int (xs (i + 4).toNatClampNeg)]) (w1 := (0, 0)) C g_splM rfl (by decide) (fun _ => ⟨_, rfl⟩) (lkL_X0_73_X6_l2_w0 C hR) (fun ad A1 => ct_M_sheet e2) rfl rfl (Nat.le_of_ble_eq_true rfl) (by rw [hR]; exact ⟨show w.1 + 1 + 0 ≤ 603072 by omega, show w.2 + 8 + 0 ≤ 7088234 by omega⟩) dL_law_544 ?_
    show g_YP X _ _ 547 [(4, .int i), (3, .ref ao), (2, .ref am), (1, .ref ax), (0, .ref b)] [.int r, .int r]
    refine p_icmp_eq (tgt := 1534) C dL_law_547 rfl (fun _ => ?_) (fun hne => absurd rfl hne)
    exact p_widen ⟨show w.1 + 1 + 0 ≤ w.1 + 11 by omega, show w.2 + 8 + 0 ≤ w.2 + 196 by omega⟩ (next _ _ _ hI1)
  · refine p_aload_n C dL_law_491 3 rfl rfl ?_
    refine p_aload_n C dL_law_492 4 rfl rfl ?_
    refine p_iload C dL_law_493 0 rfl ?_
    refine p_iconst (v := 1) C dL_law_495 rfl ?_
    refine p_iadd C dL_law_496 ?_
    refine p_sld C hX hb hbA h1 dL_law_497 ?_
    refine p_aload_n C dL_law_498 4 rfl rfl ?_
    refine p_iload C dL_law_499 0 rfl ?_
    refine p_iconst (v := 2) C dL_law_501 rfl ?_
    refine p_iadd C dL_law_502 ?_
    refine p_sld C hX hb hbA h2 dL_law_503 ?_
    refine p_aload_n C dL_law_504 4 rfl rfl ?_
    refine p_iload C dL_law_505 0 rfl ?_
    refine p_iconst (v := 3) C dL_law_507 rfl ?_
    refine p_iadd C dL_law_508 ?_
    refine p_sld C hX hb hbA h3 dL_law_509 ?_
    refine p_aload_n C dL_law_510 4 rfl rfl ?_
    refine p_iload C dL_law_511 0 rfl ?_
    refine p_iconst (v := 4) C dL_law_513 rfl ?_
    refine p_iadd C dL_law_514 ?_
    refine p_sld C hX hb hbA h4 dL_law_515 ?_
    refine p_callVH (Z := fun v s2 => v = some (.int r) ∧ s2 = σC1) (As := [.int (xs (i + 1).toNatClampNeg), .int (xs (i + 2).toNatClampNeg), .int (xs (i + 3).toNatClampNeg), .int (xs (i + 4).toNatClampNeg)]) (w1 := (3, 54)) C g_splC rfl (by decide) (fun _ => ⟨_, rfl⟩) (lkL_X0_69_X1_l301_w3 C hR) (fun ad A1 => ct_C1_sheet_x hlt e1) (fun _ _ _ _ hh => ⟨⟨hh.1, hh.2.1⟩, hh.2.2⟩) rfl rfl (Nat.le_of_ble_eq_true rfl) (by rw [hR]; exact ⟨show w.1 + 3 ≤ 603072 by omega, show w.2 + 54 ≤ 7088234 by omega⟩) dL_law_516 ?_
    rintro _ _ ⟨rfl, rfl⟩
    show g_YP X _ _ 519 [(4, .int i), (3, .ref ao), (2, .ref am), (1, .ref ax), (0, .ref b)] [.int r]
    refine p_aload_n C dL_law_519 2 rfl rfl ?_
    refine p_aload_n C dL_law_520 4 rfl rfl ?_
    refine p_iload C dL_law_521 0 rfl ?_
    refine p_iconst (v := 1) C dL_law_523 rfl ?_
    refine p_iadd C dL_law_524 ?_
    refine p_sld C hX hb hbA h1 dL_law_525 ?_
    refine p_aload_n C dL_law_526 4 rfl rfl ?_
    refine p_iload C dL_law_527 0 rfl ?_
    refine p_iconst (v := 2) C dL_law_529 rfl ?_
    refine p_iadd C dL_law_530 ?_
    refine p_sld C hX hb hbA h2 dL_law_531 ?_
    refine p_aload_n C dL_law_532 4 rfl rfl ?_
    refine p_iload C dL_law_533 0 rfl ?_
    refine p_iconst (v := 3) C dL_law_535 rfl ?_
    refine p_iadd C dL_law_536 ?_
    refine p_sld C hX hb hbA h3 dL_law_537 ?_
    refine p_aload_n C dL_law_538 4 rfl rfl ?_
    refine p_iload C dL_law_539 0 rfl ?_
    refine p_iconst (v := 4) C dL_law_541 rfl ?_
    refine p_iadd C dL_law_542 ?_
    refine p_sld C hX hb hbA h4 dL_law_543 ?_
    refine p_callV (As := [.int (xs (i + 1).toNatClampNeg), .int (xs (i + 2).toNatClampNeg), .int (xs (i + 3).toNatClampNeg), .int (xs (i + 4).toNatClampNeg)]) (w1 := (0, 0)) C g_splM rfl (by decide) (fun _ => ⟨_, rfl⟩) (lkL_X0_73_X6_l2_w0 C hR) (fun ad A1 => ct_M_sheet e2) rfl rfl (Nat.le_of_ble_eq_true rfl) (by rw [hR]; exact ⟨show w.1 + 3 + 0 ≤ 603072 by omega, show w.2 + 54 + 0 ≤ 7088234 by omega⟩) dL_law_544 ?_
    show g_YP X _ _ 547 [(4, .int i), (3, .ref ao), (2, .ref am), (1, .ref ax), (0, .ref b)] [.int r, .int r]
    refine p_icmp_eq (tgt := 1534) C dL_law_547 rfl (fun _ => ?_) (fun hne => absurd rfl hne)
    exact p_widen ⟨show w.1 + 3 + 0 ≤ w.1 + 11 by omega, show w.2 + 54 + 0 ≤ w.2 + 196 by omega⟩ (next _ _ _ hI1)
theorem lc_hours {Rel : Nat → g_S → g_S → Prop} {X : g_F} {b L ax am ao : Nat} {xs : Nat → Int32} (C : g_M gCl X cL_law RX0 ret) (hR : g_R X = room_1) (hX : va_X b L xs (g_s X) (g_s X).heap) (hb : b < (g_s X).heap.size) (hbA : ¬ g_A X b) (hnL : g_nL X = 8) (hlt : (g_l X).stackTraces = false) (hp : pr_hours Rel) {σC σM : g_S} {o : Int64} {j : Nat} (hj : j < 65) (hI : Rel j σC σM) {i : Int32} (h1 : g_in (i + 1) L = true) (h2 : g_in (i + 2) L = true) (h3 : g_in (i + 3) L = true) (h4 : g_in (i + 4) L = true) {w : Nat × Nat} (hw : w.1 + 11 ≤ 603072 ∧ w.2 + 196 ≤ 7088234) (next : ∀ σC1 σM1 o1, Rel (j + 1) σC1 σM1 → g_YP X (g_P2 (g_D X) (g_dA X) (g_A X) ax am ao σC1 σM1 o1) (w.1 + 11, w.2 + 196) 1534 [(4, .int i), (3, .ref ao), (2, .ref am), (1, .ref ax), (0, .ref b)] []) : g_YP X (g_P2 (g_D X) (g_dA X) (g_A X) ax am ao σC σM o) w 552 [(4, .int i), (3, .ref ao), (2, .ref am), (1, .ref ax), (0, .ref b)] [] := by
  obtain ⟨r, σC1, σM1, e1, e2, hI1⟩ := hp j σC σM (xs (i + 1).toNatClampNeg) hj hI
  refine p_aload_n C dL_law_552 3 rfl rfl ?_
  refine p_aload_n C dL_law_553 4 rfl rfl ?_
  refine p_iload C dL_law_554 0 rfl ?_
  refine p_iconst (v := 1) C dL_law_556 rfl ?_
  refine p_iadd C dL_law_557 ?_
  refine p_sld C hX hb hbA h1 dL_law_558 ?_
  refine p_callV (As := [.int (xs (i + 1).toNatClampNeg)]) (w1 := (0, 0)) C g_splC rfl (by decide) (fun _ => ⟨_, rfl⟩) (lkL_X0_74_X1_l309_w0 C hR) (fun ad A1 => ct_C1_hours e1) rfl rfl (Nat.le_of_ble_eq_true rfl) (by rw [hR]; exact ⟨show w.1 + 0 ≤ 603072 by omega, show w.2 + 0 ≤ 7088234 by omega⟩) dL_law_559 ?_
  show g_YP X _ _ 562 [(4, .int i), (3, .ref ao), (2, .ref am), (1, .ref ax), (0, .ref b)] [.int r]
  refine p_aload_n C dL_law_562 2 rfl rfl ?_
  refine p_aload_n C dL_law_563 4 rfl rfl ?_
  refine p_iload C dL_law_564 0 rfl ?_
  refine p_iconst (v := 1) C dL_law_566 rfl ?_
  refine p_iadd C dL_law_567 ?_
  refine p_sld C hX hb hbA h1 dL_law_568 ?_
  refine p_callV (As := [.int (xs (i + 1).toNatClampNeg)]) (w1 := (0, 0)) C g_splM rfl (by decide) (fun _ => ⟨_, rfl⟩) (lkL_X0_77_X6_l10_w0 C hR) (fun ad A1 => ct_M_hours e2) rfl rfl (Nat.le_of_ble_eq_true rfl) (by rw [hR]; exact ⟨show w.1 + 0 + 0 ≤ 603072 by omega, show w.2 + 0 + 0 ≤ 7088234 by omega⟩) dL_law_569 ?_
  show g_YP X _ _ 572 [(4, .int i), (3, .ref ao), (2, .ref am), (1, .ref ax), (0, .ref b)] [.int r, .int r]
  refine p_icmp_eq (tgt := 1534) C dL_law_572 rfl (fun _ => ?_) (fun hne => absurd rfl hne)
  exact p_widen ⟨show w.1 + 0 + 0 ≤ w.1 + 11 by omega, show w.2 + 0 + 0 ≤ w.2 + 196 by omega⟩ (next _ _ _ hI1)
theorem lc_faces {Rel : Nat → g_S → g_S → Prop} {X : g_F} {b L ax am ao : Nat} {xs : Nat → Int32} (C : g_M gCl X cL_law RX0 ret) (hR : g_R X = room_1) (hX : va_X b L xs (g_s X) (g_s X).heap) (hb : b < (g_s X).heap.size) (hbA : ¬ g_A X b) (hnL : g_nL X = 8) (hlt : (g_l X).stackTraces = false) (hp : pr_faces Rel) {σC σM : g_S} {o : Int64} {j : Nat} (hj : j < 65) (hI : Rel j σC σM) {i : Int32} (h1 : g_in (i + 1) L = true) (h2 : g_in (i + 2) L = true) (h3 : g_in (i + 3) L = true) (h4 : g_in (i + 4) L = true) {w : Nat × Nat} (hw : w.1 + 11 ≤ 603072 ∧ w.2 + 196 ≤ 7088234) (next : ∀ σC1 σM1 o1, Rel (j + 1) σC1 σM1 → g_YP X (g_P2 (g_D X) (g_dA X) (g_A X) ax am ao σC1 σM1 o1) (w.1 + 11, w.2 + 196) 1534 [(4, .int i), (3, .ref ao), (2, .ref am), (1, .ref ax), (0, .ref b)] []) : g_YP X (g_P2 (g_D X) (g_dA X) (g_A X) ax am ao σC σM o) w 577 [(4, .int i), (3, .ref ao), (2, .ref am), (1, .ref ax), (0, .ref b)] [] := by
  obtain ⟨r, σC1, σM1, e1, e2, hI1⟩ := hp j σC σM (xs (i + 1).toNatClampNeg) (xs (i + 2).toNatClampNeg) hj hI
  refine p_aload_n C dL_law_577 3 rfl rfl ?_
  refine p_aload_n C dL_law_578 4 rfl rfl ?_
  refine p_iload C dL_law_579 0 rfl ?_
  refine p_iconst (v := 1) C dL_law_581 rfl ?_
  refine p_iadd C dL_law_582 ?_
  refine p_sld C hX hb hbA h1 dL_law_583 ?_
  refine p_aload_n C dL_law_584 4 rfl rfl ?_
  refine p_iload C dL_law_585 0 rfl ?_
  refine p_iconst (v := 2) C dL_law_587 rfl ?_
  refine p_iadd C dL_law_588 ?_
  refine p_sld C hX hb hbA h2 dL_law_589 ?_
  refine p_callV (As := [.int (xs (i + 1).toNatClampNeg), .int (xs (i + 2).toNatClampNeg)]) (w1 := (0, 0)) C g_splC rfl (by decide) (fun _ => ⟨_, rfl⟩) (lkL_X0_78_X1_l4_w0 C hR) (fun ad A1 => ct_C1_faces e1) rfl rfl (Nat.le_of_ble_eq_true rfl) (by rw [hR]; exact ⟨show w.1 + 0 ≤ 603072 by omega, show w.2 + 0 ≤ 7088234 by omega⟩) dL_law_590 ?_
  show g_YP X _ _ 593 [(4, .int i), (3, .ref ao), (2, .ref am), (1, .ref ax), (0, .ref b)] [.int r]
  refine p_aload_n C dL_law_593 2 rfl rfl ?_
  refine p_aload_n C dL_law_594 4 rfl rfl ?_
  refine p_iload C dL_law_595 0 rfl ?_
  refine p_iconst (v := 1) C dL_law_597 rfl ?_
  refine p_iadd C dL_law_598 ?_
  refine p_sld C hX hb hbA h1 dL_law_599 ?_
  refine p_aload_n C dL_law_600 4 rfl rfl ?_
  refine p_iload C dL_law_601 0 rfl ?_
  refine p_iconst (v := 2) C dL_law_603 rfl ?_
  refine p_iadd C dL_law_604 ?_
  refine p_sld C hX hb hbA h2 dL_law_605 ?_
  refine p_callV (As := [.int (xs (i + 1).toNatClampNeg), .int (xs (i + 2).toNatClampNeg)]) (w1 := (0, 0)) C g_splM rfl (by decide) (fun _ => ⟨_, rfl⟩) (lkL_X0_81_X6_l4_w0 C hR) (fun ad A1 => ct_M_faces e2) rfl rfl (Nat.le_of_ble_eq_true rfl) (by rw [hR]; exact ⟨show w.1 + 0 + 0 ≤ 603072 by omega, show w.2 + 0 + 0 ≤ 7088234 by omega⟩) dL_law_606 ?_
  show g_YP X _ _ 609 [(4, .int i), (3, .ref ao), (2, .ref am), (1, .ref ax), (0, .ref b)] [.int r, .int r]
  refine p_icmp_eq (tgt := 1534) C dL_law_609 rfl (fun _ => ?_) (fun hne => absurd rfl hne)
  exact p_widen ⟨show w.1 + 0 + 0 ≤ w.1 + 11 by omega, show w.2 + 0 + 0 ≤ w.2 + 196 by omega⟩ (next _ _ _ hI1)
theorem lc_steps {Rel : Nat → g_S → g_S → Prop} {X : g_F} {b L ax am ao : Nat} {xs : Nat → Int32} (C : g_M gCl X cL_law RX0 ret) (hR : g_R X = room_1) (hX : va_X b L xs (g_s X) (g_s X).heap) (hb : b < (g_s X).heap.size) (hbA : ¬ g_A X b) (hnL : g_nL X = 8) (hlt : (g_l X).stackTraces = false) (hp : pr_steps Rel) {σC σM : g_S} {o : Int64} {j : Nat} (hj : j < 65) (hI : Rel j σC σM) {i : Int32} (h1 : g_in (i + 1) L = true) (h2 : g_in (i + 2) L = true) (h3 : g_in (i + 3) L = true) (h4 : g_in (i + 4) L = true) {w : Nat × Nat} (hw : w.1 + 11 ≤ 603072 ∧ w.2 + 196 ≤ 7088234) (next : ∀ σC1 σM1 o1, Rel (j + 1) σC1 σM1 → g_YP X (g_P2 (g_D X) (g_dA X) (g_A X) ax am ao σC1 σM1 o1) (w.1 + 11, w.2 + 196) 1534 [(4, .int i), (3, .ref ao), (2, .ref am), (1, .ref ax), (0, .ref b)] []) : g_YP X (g_P2 (g_D X) (g_dA X) (g_A X) ax am ao σC σM o) w 614 [(4, .int i), (3, .ref ao), (2, .ref am), (1, .ref ax), (0, .ref b)] [] := by
  obtain ⟨r, σC1, σM1, e1, e2, hI1⟩ := hp j σC σM (xs (i + 1).toNatClampNeg) (xs (i + 2).toNatClampNeg) hj hI
  refine p_aload_n C dL_law_614 3 rfl rfl ?_
  refine p_aload_n C dL_law_615 4 rfl rfl ?_
  refine p_iload C dL_law_616 0 rfl ?_
  refine p_iconst (v := 1) C dL_law_618 rfl ?_
  refine p_iadd C dL_law_619 ?_
  refine p_sld C hX hb hbA h1 dL_law_620 ?_
  refine p_aload_n C dL_law_621 4 rfl rfl ?_
  refine p_iload C dL_law_622 0 rfl ?_
  refine p_iconst (v := 2) C dL_law_624 rfl ?_
  refine p_iadd C dL_law_625 ?_
  refine p_sld C hX hb hbA h2 dL_law_626 ?_
  refine p_callV (As := [.int (xs (i + 1).toNatClampNeg), .int (xs (i + 2).toNatClampNeg)]) (w1 := (0, 0)) C g_splC rfl (by decide) (fun _ => ⟨_, rfl⟩) (lkL_X0_82_X1_l5_w0 C hR) (fun ad A1 => ct_C1_steps e1) rfl rfl (Nat.le_of_ble_eq_true rfl) (by rw [hR]; exact ⟨show w.1 + 0 ≤ 603072 by omega, show w.2 + 0 ≤ 7088234 by omega⟩) dL_law_627 ?_
  show g_YP X _ _ 630 [(4, .int i), (3, .ref ao), (2, .ref am), (1, .ref ax), (0, .ref b)] [.int r]
  refine p_aload_n C dL_law_630 2 rfl rfl ?_
  refine p_aload_n C dL_law_631 4 rfl rfl ?_
  refine p_iload C dL_law_632 0 rfl ?_
  refine p_iconst (v := 1) C dL_law_634 rfl ?_
  refine p_iadd C dL_law_635 ?_
  refine p_sld C hX hb hbA h1 dL_law_636 ?_
  refine p_aload_n C dL_law_637 4 rfl rfl ?_
  refine p_iload C dL_law_638 0 rfl ?_
  refine p_iconst (v := 2) C dL_law_640 rfl ?_
  refine p_iadd C dL_law_641 ?_
  refine p_sld C hX hb hbA h2 dL_law_642 ?_
  refine p_callV (As := [.int (xs (i + 1).toNatClampNeg), .int (xs (i + 2).toNatClampNeg)]) (w1 := (0, 0)) C g_splM rfl (by decide) (fun _ => ⟨_, rfl⟩) (lkL_X0_85_X6_l4_w0 C hR) (fun ad A1 => ct_M_steps e2) rfl rfl (Nat.le_of_ble_eq_true rfl) (by rw [hR]; exact ⟨show w.1 + 0 + 0 ≤ 603072 by omega, show w.2 + 0 + 0 ≤ 7088234 by omega⟩) dL_law_643 ?_
  show g_YP X _ _ 646 [(4, .int i), (3, .ref ao), (2, .ref am), (1, .ref ax), (0, .ref b)] [.int r, .int r]
  refine p_icmp_eq (tgt := 1534) C dL_law_646 rfl (fun _ => ?_) (fun hne => absurd rfl hne)
  exact p_widen ⟨show w.1 + 0 + 0 ≤ w.1 + 11 by omega, show w.2 + 0 + 0 ≤ w.2 + 196 by omega⟩ (next _ _ _ hI1)
theorem lc_trims {Rel : Nat → g_S → g_S → Prop} {X : g_F} {b L ax am ao : Nat} {xs : Nat → Int32} (C : g_M gCl X cL_law RX0 ret) (hR : g_R X = room_1) (hX : va_X b L xs (g_s X) (g_s X).heap) (hb : b < (g_s X).heap.size) (hbA : ¬ g_A X b) (hnL : g_nL X = 8) (hlt : (g_l X).stackTraces = false) (hp : pr_trims Rel) {σC σM : g_S} {o : Int64} {j : Nat} (hj : j < 65) (hI : Rel j σC σM) {i : Int32} (h1 : g_in (i + 1) L = true) (h2 : g_in (i + 2) L = true) (h3 : g_in (i + 3) L = true) (h4 : g_in (i + 4) L = true) {w : Nat × Nat} (hw : w.1 + 11 ≤ 603072 ∧ w.2 + 196 ≤ 7088234) (next : ∀ σC1 σM1 o1, Rel (j + 1) σC1 σM1 → g_YP X (g_P2 (g_D X) (g_dA X) (g_A X) ax am ao σC1 σM1 o1) (w.1 + 11, w.2 + 196) 1534 [(4, .int i), (3, .ref ao), (2, .ref am), (1, .ref ax), (0, .ref b)] []) : g_YP X (g_P2 (g_D X) (g_dA X) (g_A X) ax am ao σC σM o) w 651 [(4, .int i), (3, .ref ao), (2, .ref am), (1, .ref ax), (0, .ref b)] [] := by
  obtain ⟨r, σC1, σM1, e1, e2, hI1⟩ := hp j σC σM (xs (i + 1).toNatClampNeg) (xs (i + 2).toNatClampNeg) hj hI
  refine p_aload_n C dL_law_651 3 rfl rfl ?_
  refine p_aload_n C dL_law_652 4 rfl rfl ?_
  refine p_iload C dL_law_653 0 rfl ?_
  refine p_iconst (v := 1) C dL_law_655 rfl ?_
  refine p_iadd C dL_law_656 ?_
  refine p_sld C hX hb hbA h1 dL_law_657 ?_
  refine p_aload_n C dL_law_658 4 rfl rfl ?_
  refine p_iload C dL_law_659 0 rfl ?_
  refine p_iconst (v := 2) C dL_law_661 rfl ?_
  refine p_iadd C dL_law_662 ?_
  refine p_sld C hX hb hbA h2 dL_law_663 ?_
  refine p_callV (As := [.int (xs (i + 1).toNatClampNeg), .int (xs (i + 2).toNatClampNeg)]) (w1 := (0, 0)) C g_splC rfl (by decide) (fun _ => ⟨_, rfl⟩) (lkL_X0_86_X1_l4_w0 C hR) (fun ad A1 => ct_C1_trims e1) rfl rfl (Nat.le_of_ble_eq_true rfl) (by rw [hR]; exact ⟨show w.1 + 0 ≤ 603072 by omega, show w.2 + 0 ≤ 7088234 by omega⟩) dL_law_664 ?_
  show g_YP X _ _ 667 [(4, .int i), (3, .ref ao), (2, .ref am), (1, .ref ax), (0, .ref b)] [.int r]
  refine p_aload_n C dL_law_667 2 rfl rfl ?_
  refine p_aload_n C dL_law_668 4 rfl rfl ?_
  refine p_iload C dL_law_669 0 rfl ?_
  refine p_iconst (v := 1) C dL_law_671 rfl ?_
  refine p_iadd C dL_law_672 ?_
  refine p_sld C hX hb hbA h1 dL_law_673 ?_
  refine p_aload_n C dL_law_674 4 rfl rfl ?_
  refine p_iload C dL_law_675 0 rfl ?_
  refine p_iconst (v := 2) C dL_law_677 rfl ?_
  refine p_iadd C dL_law_678 ?_
  refine p_sld C hX hb hbA h2 dL_law_679 ?_
  refine p_callV (As := [.int (xs (i + 1).toNatClampNeg), .int (xs (i + 2).toNatClampNeg)]) (w1 := (0, 0)) C g_splM rfl (by decide) (fun _ => ⟨_, rfl⟩) (lkL_X0_89_X6_l4_w0 C hR) (fun ad A1 => ct_M_trims e2) rfl rfl (Nat.le_of_ble_eq_true rfl) (by rw [hR]; exact ⟨show w.1 + 0 + 0 ≤ 603072 by omega, show w.2 + 0 + 0 ≤ 7088234 by omega⟩) dL_law_680 ?_
  show g_YP X _ _ 683 [(4, .int i), (3, .ref ao), (2, .ref am), (1, .ref ax), (0, .ref b)] [.int r, .int r]
  refine p_icmp_eq (tgt := 1534) C dL_law_683 rfl (fun _ => ?_) (fun hne => absurd rfl hne)
  exact p_widen ⟨show w.1 + 0 + 0 ≤ w.1 + 11 by omega, show w.2 + 0 + 0 ≤ w.2 + 196 by omega⟩ (next _ _ _ hI1)
theorem lc_puts {Rel : Nat → g_S → g_S → Prop} {X : g_F} {b L ax am ao : Nat} {xs : Nat → Int32} (C : g_M gCl X cL_law RX0 ret) (hR : g_R X = room_1) (hX : va_X b L xs (g_s X) (g_s X).heap) (hb : b < (g_s X).heap.size) (hbA : ¬ g_A X b) (hnL : g_nL X = 8) (hlt : (g_l X).stackTraces = false) (hp : pr_puts Rel) {σC σM : g_S} {o : Int64} {j : Nat} (hj : j < 65) (hI : Rel j σC σM) {i : Int32} (h1 : g_in (i + 1) L = true) (h2 : g_in (i + 2) L = true) (h3 : g_in (i + 3) L = true) (h4 : g_in (i + 4) L = true) {w : Nat × Nat} (hw : w.1 + 11 ≤ 603072 ∧ w.2 + 196 ≤ 7088234) (next : ∀ σC1 σM1 o1, Rel (j + 1) σC1 σM1 → g_YP X (g_P2 (g_D X) (g_dA X) (g_A X) ax am ao σC1 σM1 o1) (w.1 + 11, w.2 + 196) 1534 [(4, .int i), (3, .ref ao), (2, .ref am), (1, .ref ax), (0, .ref b)] []) : g_YP X (g_P2 (g_D X) (g_dA X) (g_A X) ax am ao σC σM o) w 688 [(4, .int i), (3, .ref ao), (2, .ref am), (1, .ref ax), (0, .ref b)] [] := by
  obtain ⟨r, σC1, σM1, e1, e2, hI1⟩ := hp j σC σM (xs (i + 1).toNatClampNeg) (xs (i + 2).toNatClampNeg) hj hI
  refine p_aload_n C dL_law_688 3 rfl rfl ?_
  refine p_aload_n C dL_law_689 4 rfl rfl ?_
  refine p_iload C dL_law_690 0 rfl ?_
  refine p_iconst (v := 1) C dL_law_692 rfl ?_
  refine p_iadd C dL_law_693 ?_
  refine p_sld C hX hb hbA h1 dL_law_694 ?_
  refine p_aload_n C dL_law_695 4 rfl rfl ?_
  refine p_iload C dL_law_696 0 rfl ?_
  refine p_iconst (v := 2) C dL_law_698 rfl ?_
  refine p_iadd C dL_law_699 ?_
  refine p_sld C hX hb hbA h2 dL_law_700 ?_
  refine p_callV (As := [.int (xs (i + 1).toNatClampNeg), .int (xs (i + 2).toNatClampNeg)]) (w1 := (0, 0)) C g_splC rfl (by decide) (fun _ => ⟨_, rfl⟩) (lkL_X0_90_X1_l4_w0 C hR) (fun ad A1 => ct_C1_puts e1) rfl rfl (Nat.le_of_ble_eq_true rfl) (by rw [hR]; exact ⟨show w.1 + 0 ≤ 603072 by omega, show w.2 + 0 ≤ 7088234 by omega⟩) dL_law_701 ?_
  show g_YP X _ _ 704 [(4, .int i), (3, .ref ao), (2, .ref am), (1, .ref ax), (0, .ref b)] [.int r]
  refine p_aload_n C dL_law_704 2 rfl rfl ?_
  refine p_aload_n C dL_law_705 4 rfl rfl ?_
  refine p_iload C dL_law_706 0 rfl ?_
  refine p_iconst (v := 1) C dL_law_708 rfl ?_
  refine p_iadd C dL_law_709 ?_
  refine p_sld C hX hb hbA h1 dL_law_710 ?_
  refine p_aload_n C dL_law_711 4 rfl rfl ?_
  refine p_iload C dL_law_712 0 rfl ?_
  refine p_iconst (v := 2) C dL_law_714 rfl ?_
  refine p_iadd C dL_law_715 ?_
  refine p_sld C hX hb hbA h2 dL_law_716 ?_
  refine p_callV (As := [.int (xs (i + 1).toNatClampNeg), .int (xs (i + 2).toNatClampNeg)]) (w1 := (0, 0)) C g_splM rfl (by decide) (fun _ => ⟨_, rfl⟩) (lkL_X0_93_X6_l4_w0 C hR) (fun ad A1 => ct_M_puts e2) rfl rfl (Nat.le_of_ble_eq_true rfl) (by rw [hR]; exact ⟨show w.1 + 0 + 0 ≤ 603072 by omega, show w.2 + 0 + 0 ≤ 7088234 by omega⟩) dL_law_717 ?_
  show g_YP X _ _ 720 [(4, .int i), (3, .ref ao), (2, .ref am), (1, .ref ax), (0, .ref b)] [.int r, .int r]
  refine p_icmp_eq (tgt := 1534) C dL_law_720 rfl (fun _ => ?_) (fun hne => absurd rfl hne)
  exact p_widen ⟨show w.1 + 0 + 0 ≤ w.1 + 11 by omega, show w.2 + 0 + 0 ≤ w.2 + 196 by omega⟩ (next _ _ _ hI1)
theorem lc_day {Rel : Nat → g_S → g_S → Prop} {X : g_F} {b L ax am ao : Nat} {xs : Nat → Int32} (C : g_M gCl X cL_law RX0 ret) (hR : g_R X = room_1) (hX : va_X b L xs (g_s X) (g_s X).heap) (hb : b < (g_s X).heap.size) (hbA : ¬ g_A X b) (hnL : g_nL X = 8) (hlt : (g_l X).stackTraces = false) (hp : pr_day Rel) {σC σM : g_S} {o : Int64} {j : Nat} (hj : j < 65) (hI : Rel j σC σM) {i : Int32} (h1 : g_in (i + 1) L = true) (h2 : g_in (i + 2) L = true) (h3 : g_in (i + 3) L = true) (h4 : g_in (i + 4) L = true) {w : Nat × Nat} (hw : w.1 + 11 ≤ 603072 ∧ w.2 + 196 ≤ 7088234) (next : ∀ σC1 σM1 o1, Rel (j + 1) σC1 σM1 → g_YP X (g_P2 (g_D X) (g_dA X) (g_A X) ax am ao σC1 σM1 o1) (w.1 + 11, w.2 + 196) 1534 [(4, .int i), (3, .ref ao), (2, .ref am), (1, .ref ax), (0, .ref b)] []) : g_YP X (g_P2 (g_D X) (g_dA X) (g_A X) ax am ao σC σM o) w 725 [(4, .int i), (3, .ref ao), (2, .ref am), (1, .ref ax), (0, .ref b)] [] := by
  obtain ⟨r, σC1, σM1, e1, e2, hI1⟩ := hp j σC σM hj hI
  refine p_aload_n C dL_law_725 3 rfl rfl ?_
  refine p_callVH (Z := fun v s2 => v = some (.int r) ∧ s2 = σC1) (As := []) (w1 := (5, 196)) C g_splC rfl (by decide) (fun _ => ⟨_, rfl⟩) (lkL_X0_94_X1_l310_w5 C hR) (fun ad A1 => ct_C1_day hlt e1) (fun _ _ _ _ hh => ⟨⟨hh.1, hh.2.1⟩, hh.2.2⟩) rfl rfl (Nat.le_of_ble_eq_true rfl) (by rw [hR]; exact ⟨show w.1 + 5 ≤ 603072 by omega, show w.2 + 196 ≤ 7088234 by omega⟩) dL_law_726 ?_
  rintro _ _ ⟨rfl, rfl⟩
  show g_YP X _ _ 729 [(4, .int i), (3, .ref ao), (2, .ref am), (1, .ref ax), (0, .ref b)] [.int r]
  refine p_aload_n C dL_law_729 2 rfl rfl ?_
  refine p_callV (As := []) (w1 := (0, 0)) C g_splM rfl (by decide) (fun _ => ⟨_, rfl⟩) (lkL_X0_97_X6_l11_w0 C hR) (fun ad A1 => ct_M_day e2) rfl rfl (Nat.le_of_ble_eq_true rfl) (by rw [hR]; exact ⟨show w.1 + 5 + 0 ≤ 603072 by omega, show w.2 + 196 + 0 ≤ 7088234 by omega⟩) dL_law_730 ?_
  show g_YP X _ _ 733 [(4, .int i), (3, .ref ao), (2, .ref am), (1, .ref ax), (0, .ref b)] [.int r, .int r]
  refine p_icmp_eq (tgt := 1534) C dL_law_733 rfl (fun _ => ?_) (fun hne => absurd rfl hne)
  exact p_widen ⟨show w.1 + 5 + 0 ≤ w.1 + 11 by omega, show w.2 + 196 + 0 ≤ w.2 + 196 by omega⟩ (next _ _ _ hI1)
theorem lc_undo {Rel : Nat → g_S → g_S → Prop} {X : g_F} {b L ax am ao : Nat} {xs : Nat → Int32} (C : g_M gCl X cL_law RX0 ret) (hR : g_R X = room_1) (hX : va_X b L xs (g_s X) (g_s X).heap) (hb : b < (g_s X).heap.size) (hbA : ¬ g_A X b) (hnL : g_nL X = 8) (hlt : (g_l X).stackTraces = false) (hp : pr_undo Rel) {σC σM : g_S} {o : Int64} {j : Nat} (hj : j < 65) (hI : Rel j σC σM) {i : Int32} (h1 : g_in (i + 1) L = true) (h2 : g_in (i + 2) L = true) (h3 : g_in (i + 3) L = true) (h4 : g_in (i + 4) L = true) {w : Nat × Nat} (hw : w.1 + 11 ≤ 603072 ∧ w.2 + 196 ≤ 7088234) (next : ∀ σC1 σM1 o1, Rel (j + 1) σC1 σM1 → g_YP X (g_P2 (g_D X) (g_dA X) (g_A X) ax am ao σC1 σM1 o1) (w.1 + 11, w.2 + 196) 1534 [(4, .int i), (3, .ref ao), (2, .ref am), (1, .ref ax), (0, .ref b)] []) : g_YP X (g_P2 (g_D X) (g_dA X) (g_A X) ax am ao σC σM o) w 738 [(4, .int i), (3, .ref ao), (2, .ref am), (1, .ref ax), (0, .ref b)] [] := by
  obtain ⟨r, σC1, σM1, e1, e2, hI1⟩ := hp j σC σM hj hI
  refine p_aload_n C dL_law_738 3 rfl rfl ?_
  refine p_callV (As := []) (w1 := (0, 0)) C g_splC rfl (by decide) (fun _ => ⟨_, rfl⟩) (lkL_X0_98_X1_l2_w0 C hR) (fun ad A1 => ct_C1_undo e1) rfl rfl (Nat.le_of_ble_eq_true rfl) (by rw [hR]; exact ⟨show w.1 + 0 ≤ 603072 by omega, show w.2 + 0 ≤ 7088234 by omega⟩) dL_law_739 ?_
  show g_YP X _ _ 742 [(4, .int i), (3, .ref ao), (2, .ref am), (1, .ref ax), (0, .ref b)] [.int r]
  refine p_aload_n C dL_law_742 2 rfl rfl ?_
  refine p_callV (As := []) (w1 := (0, 0)) C g_splM rfl (by decide) (fun _ => ⟨_, rfl⟩) (lkL_X0_101_X6_l1_w0 C hR) (fun ad A1 => ct_M_undo e2) rfl rfl (Nat.le_of_ble_eq_true rfl) (by rw [hR]; exact ⟨show w.1 + 0 + 0 ≤ 603072 by omega, show w.2 + 0 + 0 ≤ 7088234 by omega⟩) dL_law_743 ?_
  show g_YP X _ _ 746 [(4, .int i), (3, .ref ao), (2, .ref am), (1, .ref ax), (0, .ref b)] [.int r, .int r]
  refine p_icmp_eq (tgt := 1534) C dL_law_746 rfl (fun _ => ?_) (fun hne => absurd rfl hne)
  exact p_widen ⟨show w.1 + 0 + 0 ≤ w.1 + 11 by omega, show w.2 + 0 + 0 ≤ w.2 + 196 by omega⟩ (next _ _ _ hI1)
theorem lc_sees {Rel : Nat → g_S → g_S → Prop} {X : g_F} {b L ax am ao : Nat} {xs : Nat → Int32} (C : g_M gCl X cL_law RX0 ret) (hR : g_R X = room_1) (hX : va_X b L xs (g_s X) (g_s X).heap) (hb : b < (g_s X).heap.size) (hbA : ¬ g_A X b) (hnL : g_nL X = 8) (hlt : (g_l X).stackTraces = false) (hp : pr_sees Rel) {σC σM : g_S} {o : Int64} {j : Nat} (hj : j < 65) (hI : Rel j σC σM) {i : Int32} (h1 : g_in (i + 1) L = true) (h2 : g_in (i + 2) L = true) (h3 : g_in (i + 3) L = true) (h4 : g_in (i + 4) L = true) {w : Nat × Nat} (hw : w.1 + 11 ≤ 603072 ∧ w.2 + 196 ≤ 7088234) (next : ∀ σC1 σM1 o1, Rel (j + 1) σC1 σM1 → g_YP X (g_P2 (g_D X) (g_dA X) (g_A X) ax am ao σC1 σM1 o1) (w.1 + 11, w.2 + 196) 1534 [(4, .int i), (3, .ref ao), (2, .ref am), (1, .ref ax), (0, .ref b)] []) : g_YP X (g_P2 (g_D X) (g_dA X) (g_A X) ax am ao σC σM o) w 751 [(4, .int i), (3, .ref ao), (2, .ref am), (1, .ref ax), (0, .ref b)] [] := by
  obtain ⟨r, σC1, σM1, e1, e2, hI1⟩ := hp j σC σM (xs (i + 1).toNatClampNeg) hj hI
  refine p_aload_n C dL_law_751 3 rfl rfl ?_
  refine p_aload_n C dL_law_752 4 rfl rfl ?_
  refine p_iload C dL_law_753 0 rfl ?_
  refine p_iconst (v := 1) C dL_law_755 rfl ?_
  refine p_iadd C dL_law_756 ?_
  refine p_sld C hX hb hbA h1 dL_law_757 ?_
  refine p_callV (As := [.int (xs (i + 1).toNatClampNeg)]) (w1 := (0, 0)) C g_splC rfl (by decide) (fun _ => ⟨_, rfl⟩) (lkL_X0_102_X1_l306_w0 C hR) (fun ad A1 => ct_C1_sees e1) rfl rfl (Nat.le_of_ble_eq_true rfl) (by rw [hR]; exact ⟨show w.1 + 0 ≤ 603072 by omega, show w.2 + 0 ≤ 7088234 by omega⟩) dL_law_758 ?_
  show g_YP X _ _ 761 [(4, .int i), (3, .ref ao), (2, .ref am), (1, .ref ax), (0, .ref b)] [.long r]
  refine p_aload_n C dL_law_761 2 rfl rfl ?_
  refine p_aload_n C dL_law_762 4 rfl rfl ?_
  refine p_iload C dL_law_763 0 rfl ?_
  refine p_iconst (v := 1) C dL_law_765 rfl ?_
  refine p_iadd C dL_law_766 ?_
  refine p_sld C hX hb hbA h1 dL_law_767 ?_
  refine p_callV (As := [.int (xs (i + 1).toNatClampNeg)]) (w1 := (0, 0)) C g_splM rfl (by decide) (fun _ => ⟨_, rfl⟩) (lkL_X0_105_X6_l6_w0 C hR) (fun ad A1 => ct_M_sees e2) rfl rfl (Nat.le_of_ble_eq_true rfl) (by rw [hR]; exact ⟨show w.1 + 0 + 0 ≤ 603072 by omega, show w.2 + 0 + 0 ≤ 7088234 by omega⟩) dL_law_768 ?_
  show g_YP X _ _ 771 [(4, .int i), (3, .ref ao), (2, .ref am), (1, .ref ax), (0, .ref b)] [.long r, .long r]
  refine p_lcmp C dL_law_771 ?_
  refine p_if_eq (tgt := 1534) C dL_law_772 rfl (fun _ => ?_) (fun hne => absurd (g_cmp0 _) hne)
  exact p_widen ⟨show w.1 + 0 + 0 ≤ w.1 + 11 by omega, show w.2 + 0 + 0 ≤ w.2 + 196 by omega⟩ (next _ _ _ hI1)
theorem lc_seers {Rel : Nat → g_S → g_S → Prop} {X : g_F} {b L ax am ao : Nat} {xs : Nat → Int32} (C : g_M gCl X cL_law RX0 ret) (hR : g_R X = room_1) (hX : va_X b L xs (g_s X) (g_s X).heap) (hb : b < (g_s X).heap.size) (hbA : ¬ g_A X b) (hnL : g_nL X = 8) (hlt : (g_l X).stackTraces = false) (hp : pr_seers Rel) {σC σM : g_S} {o : Int64} {j : Nat} (hj : j < 65) (hI : Rel j σC σM) {i : Int32} (h1 : g_in (i + 1) L = true) (h2 : g_in (i + 2) L = true) (h3 : g_in (i + 3) L = true) (h4 : g_in (i + 4) L = true) {w : Nat × Nat} (hw : w.1 + 11 ≤ 603072 ∧ w.2 + 196 ≤ 7088234) (next : ∀ σC1 σM1 o1, Rel (j + 1) σC1 σM1 → g_YP X (g_P2 (g_D X) (g_dA X) (g_A X) ax am ao σC1 σM1 o1) (w.1 + 11, w.2 + 196) 1534 [(4, .int i), (3, .ref ao), (2, .ref am), (1, .ref ax), (0, .ref b)] []) : g_YP X (g_P2 (g_D X) (g_dA X) (g_A X) ax am ao σC σM o) w 777 [(4, .int i), (3, .ref ao), (2, .ref am), (1, .ref ax), (0, .ref b)] [] := by
  obtain ⟨r, σC1, σM1, e1, e2, hI1⟩ := hp j σC σM (xs (i + 1).toNatClampNeg) hj hI
  refine p_aload_n C dL_law_777 3 rfl rfl ?_
  refine p_aload_n C dL_law_778 4 rfl rfl ?_
  refine p_iload C dL_law_779 0 rfl ?_
  refine p_iconst (v := 1) C dL_law_781 rfl ?_
  refine p_iadd C dL_law_782 ?_
  refine p_sld C hX hb hbA h1 dL_law_783 ?_
  refine p_callV (As := [.int (xs (i + 1).toNatClampNeg)]) (w1 := (0, 0)) C g_splC rfl (by decide) (fun _ => ⟨_, rfl⟩) (lkL_X0_106_X1_l306_w0 C hR) (fun ad A1 => ct_C1_seers e1) rfl rfl (Nat.le_of_ble_eq_true rfl) (by rw [hR]; exact ⟨show w.1 + 0 ≤ 603072 by omega, show w.2 + 0 ≤ 7088234 by omega⟩) dL_law_784 ?_
  show g_YP X _ _ 787 [(4, .int i), (3, .ref ao), (2, .ref am), (1, .ref ax), (0, .ref b)] [.int r]
  refine p_aload_n C dL_law_787 2 rfl rfl ?_
  refine p_aload_n C dL_law_788 4 rfl rfl ?_
  refine p_iload C dL_law_789 0 rfl ?_
  refine p_iconst (v := 1) C dL_law_791 rfl ?_
  refine p_iadd C dL_law_792 ?_
  refine p_sld C hX hb hbA h1 dL_law_793 ?_
  refine p_callV (As := [.int (xs (i + 1).toNatClampNeg)]) (w1 := (0, 0)) C g_splM rfl (by decide) (fun _ => ⟨_, rfl⟩) (lkL_X0_109_X6_l7_w0 C hR) (fun ad A1 => ct_M_seers e2) rfl rfl (Nat.le_of_ble_eq_true rfl) (by rw [hR]; exact ⟨show w.1 + 0 + 0 ≤ 603072 by omega, show w.2 + 0 + 0 ≤ 7088234 by omega⟩) dL_law_794 ?_
  show g_YP X _ _ 797 [(4, .int i), (3, .ref ao), (2, .ref am), (1, .ref ax), (0, .ref b)] [.int r, .int r]
  refine p_icmp_eq (tgt := 1534) C dL_law_797 rfl (fun _ => ?_) (fun hne => absurd rfl hne)
  exact p_widen ⟨show w.1 + 0 + 0 ≤ w.1 + 11 by omega, show w.2 + 0 + 0 ≤ w.2 + 196 by omega⟩ (next _ _ _ hI1)
theorem lc_hidden {Rel : Nat → g_S → g_S → Prop} {X : g_F} {b L ax am ao : Nat} {xs : Nat → Int32} (C : g_M gCl X cL_law RX0 ret) (hR : g_R X = room_1) (hX : va_X b L xs (g_s X) (g_s X).heap) (hb : b < (g_s X).heap.size) (hbA : ¬ g_A X b) (hnL : g_nL X = 8) (hlt : (g_l X).stackTraces = false) (hp : pr_hidden Rel) {σC σM : g_S} {o : Int64} {j : Nat} (hj : j < 65) (hI : Rel j σC σM) {i : Int32} (h1 : g_in (i + 1) L = true) (h2 : g_in (i + 2) L = true) (h3 : g_in (i + 3) L = true) (h4 : g_in (i + 4) L = true) {w : Nat × Nat} (hw : w.1 + 11 ≤ 603072 ∧ w.2 + 196 ≤ 7088234) (next : ∀ σC1 σM1 o1, Rel (j + 1) σC1 σM1 → g_YP X (g_P2 (g_D X) (g_dA X) (g_A X) ax am ao σC1 σM1 o1) (w.1 + 11, w.2 + 196) 1534 [(4, .int i), (3, .ref ao), (2, .ref am), (1, .ref ax), (0, .ref b)] []) : g_YP X (g_P2 (g_D X) (g_dA X) (g_A X) ax am ao σC σM o) w 802 [(4, .int i), (3, .ref ao), (2, .ref am), (1, .ref ax), (0, .ref b)] [] := by
  obtain ⟨r, σC1, σM1, e1, e2, hI1⟩ := hp j σC σM hj hI
  refine p_aload_n C dL_law_802 3 rfl rfl ?_
  refine p_callV (As := []) (w1 := (0, 0)) C g_splC rfl (by decide) (fun _ => ⟨_, rfl⟩) (lkL_X0_110_X1_l307_w0 C hR) (fun ad A1 => ct_C1_hidden e1) rfl rfl (Nat.le_of_ble_eq_true rfl) (by rw [hR]; exact ⟨show w.1 + 0 ≤ 603072 by omega, show w.2 + 0 ≤ 7088234 by omega⟩) dL_law_803 ?_
  show g_YP X _ _ 806 [(4, .int i), (3, .ref ao), (2, .ref am), (1, .ref ax), (0, .ref b)] [.long r]
  refine p_aload_n C dL_law_806 2 rfl rfl ?_
  refine p_callV (As := []) (w1 := (0, 0)) C g_splM rfl (by decide) (fun _ => ⟨_, rfl⟩) (lkL_X0_114_X6_l7_w0 C hR) (fun ad A1 => ct_M_hidden e2) rfl rfl (Nat.le_of_ble_eq_true rfl) (by rw [hR]; exact ⟨show w.1 + 0 + 0 ≤ 603072 by omega, show w.2 + 0 + 0 ≤ 7088234 by omega⟩) dL_law_807 ?_
  show g_YP X _ _ 810 [(4, .int i), (3, .ref ao), (2, .ref am), (1, .ref ax), (0, .ref b)] [.long r, .long r]
  refine p_lcmp C dL_law_810 ?_
  refine p_if_eq (tgt := 1534) C dL_law_811 rfl (fun _ => ?_) (fun hne => absurd (g_cmp0 _) hne)
  exact p_widen ⟨show w.1 + 0 + 0 ≤ w.1 + 11 by omega, show w.2 + 0 + 0 ≤ w.2 + 196 by omega⟩ (next _ _ _ hI1)
theorem lc_pairs {Rel : Nat → g_S → g_S → Prop} {X : g_F} {b L ax am ao : Nat} {xs : Nat → Int32} (C : g_M gCl X cL_law RX0 ret) (hR : g_R X = room_1) (hX : va_X b L xs (g_s X) (g_s X).heap) (hb : b < (g_s X).heap.size) (hbA : ¬ g_A X b) (hnL : g_nL X = 8) (hlt : (g_l X).stackTraces = false) (hp : pr_pairs Rel) {σC σM : g_S} {o : Int64} {j : Nat} (hj : j < 65) (hI : Rel j σC σM) {i : Int32} (h1 : g_in (i + 1) L = true) (h2 : g_in (i + 2) L = true) (h3 : g_in (i + 3) L = true) (h4 : g_in (i + 4) L = true) {w : Nat × Nat} (hw : w.1 + 11 ≤ 603072 ∧ w.2 + 196 ≤ 7088234) (next : ∀ σC1 σM1 o1, Rel (j + 1) σC1 σM1 → g_YP X (g_P2 (g_D X) (g_dA X) (g_A X) ax am ao σC1 σM1 o1) (w.1 + 11, w.2 + 196) 1534 [(4, .int i), (3, .ref ao), (2, .ref am), (1, .ref ax), (0, .ref b)] []) : g_YP X (g_P2 (g_D X) (g_dA X) (g_A X) ax am ao σC σM o) w 816 [(4, .int i), (3, .ref ao), (2, .ref am), (1, .ref ax), (0, .ref b)] [] := by
  obtain ⟨r, σC1, σM1, e1, e2, hI1⟩ := hp j σC σM hj hI
  refine p_aload_n C dL_law_816 3 rfl rfl ?_
  refine p_callV (As := []) (w1 := (0, 0)) C g_splC rfl (by decide) (fun _ => ⟨_, rfl⟩) (lkL_X0_115_X1_l307_w0 C hR) (fun ad A1 => ct_C1_pairs e1) rfl rfl (Nat.le_of_ble_eq_true rfl) (by rw [hR]; exact ⟨show w.1 + 0 ≤ 603072 by omega, show w.2 + 0 ≤ 7088234 by omega⟩) dL_law_817 ?_
  show g_YP X _ _ 820 [(4, .int i), (3, .ref ao), (2, .ref am), (1, .ref ax), (0, .ref b)] [.int r]
  refine p_aload_n C dL_law_820 2 rfl rfl ?_
  refine p_callV (As := []) (w1 := (0, 0)) C g_splM rfl (by decide) (fun _ => ⟨_, rfl⟩) (lkL_X0_118_X6_l8_w0 C hR) (fun ad A1 => ct_M_pairs e2) rfl rfl (Nat.le_of_ble_eq_true rfl) (by rw [hR]; exact ⟨show w.1 + 0 + 0 ≤ 603072 by omega, show w.2 + 0 + 0 ≤ 7088234 by omega⟩) dL_law_821 ?_
  show g_YP X _ _ 824 [(4, .int i), (3, .ref ao), (2, .ref am), (1, .ref ax), (0, .ref b)] [.int r, .int r]
  refine p_icmp_eq (tgt := 1534) C dL_law_824 rfl (fun _ => ?_) (fun hne => absurd rfl hne)
  exact p_widen ⟨show w.1 + 0 + 0 ≤ w.1 + 11 by omega, show w.2 + 0 + 0 ≤ w.2 + 196 by omega⟩ (next _ _ _ hI1)
theorem lc_behind {Rel : Nat → g_S → g_S → Prop} {X : g_F} {b L ax am ao : Nat} {xs : Nat → Int32} (C : g_M gCl X cL_law RX0 ret) (hR : g_R X = room_1) (hX : va_X b L xs (g_s X) (g_s X).heap) (hb : b < (g_s X).heap.size) (hbA : ¬ g_A X b) (hnL : g_nL X = 8) (hlt : (g_l X).stackTraces = false) (hp : pr_behind Rel) {σC σM : g_S} {o : Int64} {j : Nat} (hj : j < 65) (hI : Rel j σC σM) {i : Int32} (h1 : g_in (i + 1) L = true) (h2 : g_in (i + 2) L = true) (h3 : g_in (i + 3) L = true) (h4 : g_in (i + 4) L = true) {w : Nat × Nat} (hw : w.1 + 11 ≤ 603072 ∧ w.2 + 196 ≤ 7088234) (next : ∀ σC1 σM1 o1, Rel (j + 1) σC1 σM1 → g_YP X (g_P2 (g_D X) (g_dA X) (g_A X) ax am ao σC1 σM1 o1) (w.1 + 11, w.2 + 196) 1534 [(4, .int i), (3, .ref ao), (2, .ref am), (1, .ref ax), (0, .ref b)] []) : g_YP X (g_P2 (g_D X) (g_dA X) (g_A X) ax am ao σC σM o) w 829 [(4, .int i), (3, .ref ao), (2, .ref am), (1, .ref ax), (0, .ref b)] [] := by
  obtain ⟨r, σC1, σM1, e1, e2, hI1⟩ := hp j σC σM (xs (i + 1).toNatClampNeg) hj hI
  refine p_aload_n C dL_law_829 3 rfl rfl ?_
  refine p_aload_n C dL_law_830 4 rfl rfl ?_
  refine p_iload C dL_law_831 0 rfl ?_
  refine p_iconst (v := 1) C dL_law_833 rfl ?_
  refine p_iadd C dL_law_834 ?_
  refine p_sld C hX hb hbA h1 dL_law_835 ?_
  refine p_callV (As := [.int (xs (i + 1).toNatClampNeg)]) (w1 := (0, 0)) C g_splC rfl (by decide) (fun _ => ⟨_, rfl⟩) (lkL_X0_119_X1_l305_w0 C hR) (fun ad A1 => ct_C1_behind e1) rfl rfl (Nat.le_of_ble_eq_true rfl) (by rw [hR]; exact ⟨show w.1 + 0 ≤ 603072 by omega, show w.2 + 0 ≤ 7088234 by omega⟩) dL_law_836 ?_
  show g_YP X _ _ 839 [(4, .int i), (3, .ref ao), (2, .ref am), (1, .ref ax), (0, .ref b)] [.int r]
  refine p_aload_n C dL_law_839 2 rfl rfl ?_
  refine p_aload_n C dL_law_840 4 rfl rfl ?_
  refine p_iload C dL_law_841 0 rfl ?_
  refine p_iconst (v := 1) C dL_law_843 rfl ?_
  refine p_iadd C dL_law_844 ?_
  refine p_sld C hX hb hbA h1 dL_law_845 ?_
  refine p_callV (As := [.int (xs (i + 1).toNatClampNeg)]) (w1 := (0, 0)) C g_splM rfl (by decide) (fun _ => ⟨_, rfl⟩) (lkL_X0_122_X6_l7_w0 C hR) (fun ad A1 => ct_M_behind e2) rfl rfl (Nat.le_of_ble_eq_true rfl) (by rw [hR]; exact ⟨show w.1 + 0 + 0 ≤ 603072 by omega, show w.2 + 0 + 0 ≤ 7088234 by omega⟩) dL_law_846 ?_
  show g_YP X _ _ 849 [(4, .int i), (3, .ref ao), (2, .ref am), (1, .ref ax), (0, .ref b)] [.int r, .int r]
  refine p_icmp_eq (tgt := 1534) C dL_law_849 rfl (fun _ => ?_) (fun hne => absurd rfl hne)
  exact p_widen ⟨show w.1 + 0 + 0 ≤ w.1 + 11 by omega, show w.2 + 0 + 0 ≤ w.2 + 196 by omega⟩ (next _ _ _ hI1)
theorem lc_widest {Rel : Nat → g_S → g_S → Prop} {X : g_F} {b L ax am ao : Nat} {xs : Nat → Int32} (C : g_M gCl X cL_law RX0 ret) (hR : g_R X = room_1) (hX : va_X b L xs (g_s X) (g_s X).heap) (hb : b < (g_s X).heap.size) (hbA : ¬ g_A X b) (hnL : g_nL X = 8) (hlt : (g_l X).stackTraces = false) (hp : pr_widest Rel) {σC σM : g_S} {o : Int64} {j : Nat} (hj : j < 65) (hI : Rel j σC σM) {i : Int32} (h1 : g_in (i + 1) L = true) (h2 : g_in (i + 2) L = true) (h3 : g_in (i + 3) L = true) (h4 : g_in (i + 4) L = true) {w : Nat × Nat} (hw : w.1 + 11 ≤ 603072 ∧ w.2 + 196 ≤ 7088234) (next : ∀ σC1 σM1 o1, Rel (j + 1) σC1 σM1 → g_YP X (g_P2 (g_D X) (g_dA X) (g_A X) ax am ao σC1 σM1 o1) (w.1 + 11, w.2 + 196) 1534 [(4, .int i), (3, .ref ao), (2, .ref am), (1, .ref ax), (0, .ref b)] []) : g_YP X (g_P2 (g_D X) (g_dA X) (g_A X) ax am ao σC σM o) w 854 [(4, .int i), (3, .ref ao), (2, .ref am), (1, .ref ax), (0, .ref b)] [] := by
  obtain ⟨r, σC1, σM1, e1, e2, hI1⟩ := hp j σC σM hj hI
  refine p_aload_n C dL_law_854 3 rfl rfl ?_
  refine p_callV (As := []) (w1 := (0, 0)) C g_splC rfl (by decide) (fun _ => ⟨_, rfl⟩) (lkL_X0_123_X1_l307_w0 C hR) (fun ad A1 => ct_C1_widest e1) rfl rfl (Nat.le_of_ble_eq_true rfl) (by rw [hR]; exact ⟨show w.1 + 0 ≤ 603072 by omega, show w.2 + 0 ≤ 7088234 by omega⟩) dL_law_855 ?_
  show g_YP X _ _ 858 [(4, .int i), (3, .ref ao), (2, .ref am), (1, .ref ax), (0, .ref b)] [.int r]
  refine p_aload_n C dL_law_858 2 rfl rfl ?_
  refine p_callV (As := []) (w1 := (0, 0)) C g_splM rfl (by decide) (fun _ => ⟨_, rfl⟩) (lkL_X0_126_X6_l6_w0 C hR) (fun ad A1 => ct_M_widest e2) rfl rfl (Nat.le_of_ble_eq_true rfl) (by rw [hR]; exact ⟨show w.1 + 0 + 0 ≤ 603072 by omega, show w.2 + 0 + 0 ≤ 7088234 by omega⟩) dL_law_859 ?_
  show g_YP X _ _ 862 [(4, .int i), (3, .ref ao), (2, .ref am), (1, .ref ax), (0, .ref b)] [.int r, .int r]
  refine p_icmp_eq (tgt := 1534) C dL_law_862 rfl (fun _ => ?_) (fun hne => absurd rfl hne)
  exact p_widen ⟨show w.1 + 0 + 0 ≤ w.1 + 11 by omega, show w.2 + 0 + 0 ≤ w.2 + 196 by omega⟩ (next _ _ _ hI1)
theorem lc_watch {Rel : Nat → g_S → g_S → Prop} {X : g_F} {b L ax am ao : Nat} {xs : Nat → Int32} (C : g_M gCl X cL_law RX0 ret) (hR : g_R X = room_1) (hX : va_X b L xs (g_s X) (g_s X).heap) (hb : b < (g_s X).heap.size) (hbA : ¬ g_A X b) (hnL : g_nL X = 8) (hlt : (g_l X).stackTraces = false) (hp : pr_watch Rel) {σC σM : g_S} {o : Int64} {j : Nat} (hj : j < 65) (hI : Rel j σC σM) {i : Int32} (h1 : g_in (i + 1) L = true) (h2 : g_in (i + 2) L = true) (h3 : g_in (i + 3) L = true) (h4 : g_in (i + 4) L = true) {w : Nat × Nat} (hw : w.1 + 11 ≤ 603072 ∧ w.2 + 196 ≤ 7088234) (next : ∀ σC1 σM1 o1, Rel (j + 1) σC1 σM1 → g_YP X (g_P2 (g_D X) (g_dA X) (g_A X) ax am ao σC1 σM1 o1) (w.1 + 11, w.2 + 196) 1534 [(4, .int i), (3, .ref ao), (2, .ref am), (1, .ref ax), (0, .ref b)] []) : g_YP X (g_P2 (g_D X) (g_dA X) (g_A X) ax am ao σC σM o) w 867 [(4, .int i), (3, .ref ao), (2, .ref am), (1, .ref ax), (0, .ref b)] [] := by
  obtain ⟨r, σC1, σM1, e1, e2, hI1⟩ := hp j σC σM hj hI
  refine p_aload_n C dL_law_867 3 rfl rfl ?_
  refine p_callV (As := []) (w1 := (0, 0)) C g_splC rfl (by decide) (fun _ => ⟨_, rfl⟩) (lkL_X0_127_X1_l306_w0 C hR) (fun ad A1 => ct_C1_watch e1) rfl rfl (Nat.le_of_ble_eq_true rfl) (by rw [hR]; exact ⟨show w.1 + 0 ≤ 603072 by omega, show w.2 + 0 ≤ 7088234 by omega⟩) dL_law_868 ?_
  show g_YP X _ _ 871 [(4, .int i), (3, .ref ao), (2, .ref am), (1, .ref ax), (0, .ref b)] [.int r]
  refine p_aload_n C dL_law_871 2 rfl rfl ?_
  refine p_callV (As := []) (w1 := (0, 0)) C g_splM rfl (by decide) (fun _ => ⟨_, rfl⟩) (lkL_X0_130_X6_l7_w0 C hR) (fun ad A1 => ct_M_watch e2) rfl rfl (Nat.le_of_ble_eq_true rfl) (by rw [hR]; exact ⟨show w.1 + 0 + 0 ≤ 603072 by omega, show w.2 + 0 + 0 ≤ 7088234 by omega⟩) dL_law_872 ?_
  show g_YP X _ _ 875 [(4, .int i), (3, .ref ao), (2, .ref am), (1, .ref ax), (0, .ref b)] [.int r, .int r]
  refine p_icmp_eq (tgt := 1534) C dL_law_875 rfl (fun _ => ?_) (fun hne => absurd rfl hne)
  exact p_widen ⟨show w.1 + 0 + 0 ≤ w.1 + 11 by omega, show w.2 + 0 + 0 ≤ w.2 + 196 by omega⟩ (next _ _ _ hI1)
theorem lc_learns {Rel : Nat → g_S → g_S → Prop} {X : g_F} {b L ax am ao : Nat} {xs : Nat → Int32} (C : g_M gCl X cL_law RX0 ret) (hR : g_R X = room_1) (hX : va_X b L xs (g_s X) (g_s X).heap) (hb : b < (g_s X).heap.size) (hbA : ¬ g_A X b) (hnL : g_nL X = 8) (hlt : (g_l X).stackTraces = false) (hp : pr_learns Rel) {σC σM : g_S} {o : Int64} {j : Nat} (hj : j < 65) (hI : Rel j σC σM) {i : Int32} (h1 : g_in (i + 1) L = true) (h2 : g_in (i + 2) L = true) (h3 : g_in (i + 3) L = true) (h4 : g_in (i + 4) L = true) {w : Nat × Nat} (hw : w.1 + 11 ≤ 603072 ∧ w.2 + 196 ≤ 7088234) (next : ∀ σC1 σM1 o1, Rel (j + 1) σC1 σM1 → g_YP X (g_P2 (g_D X) (g_dA X) (g_A X) ax am ao σC1 σM1 o1) (w.1 + 11, w.2 + 196) 1534 [(4, .int i), (3, .ref ao), (2, .ref am), (1, .ref ax), (0, .ref b)] []) : g_YP X (g_P2 (g_D X) (g_dA X) (g_A X) ax am ao σC σM o) w 880 [(4, .int i), (3, .ref ao), (2, .ref am), (1, .ref ax), (0, .ref b)] [] := by
  obtain ⟨r, σC1, σM1, e1, e2, hI1⟩ := hp j σC σM (xs (i + 1).toNatClampNeg) (xs (i + 2).toNatClampNeg) hj hI
  refine p_aload_n C dL_law_880 3 rfl rfl ?_
  refine p_aload_n C dL_law_881 4 rfl rfl ?_
  refine p_iload C dL_law_882 0 rfl ?_
  refine p_iconst (v := 1) C dL_law_884 rfl ?_
  refine p_iadd C dL_law_885 ?_
  refine p_sld C hX hb hbA h1 dL_law_886 ?_
  refine p_aload_n C dL_law_887 4 rfl rfl ?_
  refine p_iload C dL_law_888 0 rfl ?_
  refine p_iconst (v := 2) C dL_law_890 rfl ?_
  refine p_iadd C dL_law_891 ?_
  refine p_sld C hX hb hbA h2 dL_law_892 ?_
  refine p_callV (As := [.int (xs (i + 1).toNatClampNeg), .int (xs (i + 2).toNatClampNeg)]) (w1 := (0, 0)) C g_splC rfl (by decide) (fun _ => ⟨_, rfl⟩) (lkL_X0_131_X1_l308_w0 C hR) (fun ad A1 => ct_C1_learns e1) rfl rfl (Nat.le_of_ble_eq_true rfl) (by rw [hR]; exact ⟨show w.1 + 0 ≤ 603072 by omega, show w.2 + 0 ≤ 7088234 by omega⟩) dL_law_893 ?_
  show g_YP X _ _ 896 [(4, .int i), (3, .ref ao), (2, .ref am), (1, .ref ax), (0, .ref b)] [.int r]
  refine p_aload_n C dL_law_896 2 rfl rfl ?_
  refine p_aload_n C dL_law_897 4 rfl rfl ?_
  refine p_iload C dL_law_898 0 rfl ?_
  refine p_iconst (v := 1) C dL_law_900 rfl ?_
  refine p_iadd C dL_law_901 ?_
  refine p_sld C hX hb hbA h1 dL_law_902 ?_
  refine p_aload_n C dL_law_903 4 rfl rfl ?_
  refine p_iload C dL_law_904 0 rfl ?_
  refine p_iconst (v := 2) C dL_law_906 rfl ?_
  refine p_iadd C dL_law_907 ?_
  refine p_sld C hX hb hbA h2 dL_law_908 ?_
  refine p_callV (As := [.int (xs (i + 1).toNatClampNeg), .int (xs (i + 2).toNatClampNeg)]) (w1 := (0, 0)) C g_splM rfl (by decide) (fun _ => ⟨_, rfl⟩) (lkL_X0_134_X6_l9_w0 C hR) (fun ad A1 => ct_M_learns e2) rfl rfl (Nat.le_of_ble_eq_true rfl) (by rw [hR]; exact ⟨show w.1 + 0 + 0 ≤ 603072 by omega, show w.2 + 0 + 0 ≤ 7088234 by omega⟩) dL_law_909 ?_
  show g_YP X _ _ 912 [(4, .int i), (3, .ref ao), (2, .ref am), (1, .ref ax), (0, .ref b)] [.int r, .int r]
  refine p_icmp_eq (tgt := 1534) C dL_law_912 rfl (fun _ => ?_) (fun hne => absurd rfl hne)
  exact p_widen ⟨show w.1 + 0 + 0 ≤ w.1 + 11 by omega, show w.2 + 0 + 0 ≤ w.2 + 196 by omega⟩ (next _ _ _ hI1)
theorem lc_all {Rel : Nat → g_S → g_S → Prop} {X : g_F} {b L ax am ao : Nat} {xs : Nat → Int32} (C : g_M gCl X cL_law RX0 ret) (hR : g_R X = room_1) (hX : va_X b L xs (g_s X) (g_s X).heap) (hb : b < (g_s X).heap.size) (hbA : ¬ g_A X b) (hnL : g_nL X = 8) (hlt : (g_l X).stackTraces = false) (hp : pr_all Rel) {σC σM : g_S} {o : Int64} {j : Nat} (hj : j < 65) (hI : Rel j σC σM) {i : Int32} (h1 : g_in (i + 1) L = true) (h2 : g_in (i + 2) L = true) (h3 : g_in (i + 3) L = true) (h4 : g_in (i + 4) L = true) {w : Nat × Nat} (hw : w.1 + 11 ≤ 603072 ∧ w.2 + 196 ≤ 7088234) (next : ∀ σC1 σM1 o1, Rel (j + 1) σC1 σM1 → g_YP X (g_P2 (g_D X) (g_dA X) (g_A X) ax am ao σC1 σM1 o1) (w.1 + 11, w.2 + 196) 1534 [(4, .int i), (3, .ref ao), (2, .ref am), (1, .ref ax), (0, .ref b)] []) : g_YP X (g_P2 (g_D X) (g_dA X) (g_A X) ax am ao σC σM o) w 917 [(4, .int i), (3, .ref ao), (2, .ref am), (1, .ref ax), (0, .ref b)] [] := by
  obtain ⟨r, σC1, σM1, e1, e2, hI1⟩ := hp j σC σM hj hI
  refine p_aload_n C dL_law_917 3 rfl rfl ?_
  refine p_callV (As := []) (w1 := (0, 0)) C g_splC rfl (by decide) (fun _ => ⟨_, rfl⟩) (lkL_X0_135_X1_l308_w0 C hR) (fun ad A1 => ct_C1_all e1) rfl rfl (Nat.le_of_ble_eq_true rfl) (by rw [hR]; exact ⟨show w.1 + 0 ≤ 603072 by omega, show w.2 + 0 ≤ 7088234 by omega⟩) dL_law_918 ?_
  show g_YP X _ _ 921 [(4, .int i), (3, .ref ao), (2, .ref am), (1, .ref ax), (0, .ref b)] [.int r]
  refine p_aload_n C dL_law_921 2 rfl rfl ?_
  refine p_callV (As := []) (w1 := (0, 0)) C g_splM rfl (by decide) (fun _ => ⟨_, rfl⟩) (lkL_X0_138_X6_l9_w0 C hR) (fun ad A1 => ct_M_all e2) rfl rfl (Nat.le_of_ble_eq_true rfl) (by rw [hR]; exact ⟨show w.1 + 0 + 0 ≤ 603072 by omega, show w.2 + 0 + 0 ≤ 7088234 by omega⟩) dL_law_922 ?_
  show g_YP X _ _ 925 [(4, .int i), (3, .ref ao), (2, .ref am), (1, .ref ax), (0, .ref b)] [.int r, .int r]
  refine p_icmp_eq (tgt := 1534) C dL_law_925 rfl (fun _ => ?_) (fun hne => absurd rfl hne)
  exact p_widen ⟨show w.1 + 0 + 0 ≤ w.1 + 11 by omega, show w.2 + 0 + 0 ≤ w.2 + 196 by omega⟩ (next _ _ _ hI1)
theorem lc_ahead {Rel : Nat → g_S → g_S → Prop} {X : g_F} {b L ax am ao : Nat} {xs : Nat → Int32} (C : g_M gCl X cL_law RX0 ret) (hR : g_R X = room_1) (hX : va_X b L xs (g_s X) (g_s X).heap) (hb : b < (g_s X).heap.size) (hbA : ¬ g_A X b) (hnL : g_nL X = 8) (hlt : (g_l X).stackTraces = false) (hp : pr_ahead Rel) {σC σM : g_S} {o : Int64} {j : Nat} (hj : j < 65) (hI : Rel j σC σM) {i : Int32} (h1 : g_in (i + 1) L = true) (h2 : g_in (i + 2) L = true) (h3 : g_in (i + 3) L = true) (h4 : g_in (i + 4) L = true) {w : Nat × Nat} (hw : w.1 + 11 ≤ 603072 ∧ w.2 + 196 ≤ 7088234) (next : ∀ σC1 σM1 o1, Rel (j + 1) σC1 σM1 → g_YP X (g_P2 (g_D X) (g_dA X) (g_A X) ax am ao σC1 σM1 o1) (w.1 + 11, w.2 + 196) 1534 [(4, .int i), (3, .ref ao), (2, .ref am), (1, .ref ax), (0, .ref b)] []) : g_YP X (g_P2 (g_D X) (g_dA X) (g_A X) ax am ao σC σM o) w 930 [(4, .int i), (3, .ref ao), (2, .ref am), (1, .ref ax), (0, .ref b)] [] := by
  obtain ⟨r, σC1, σM1, e1, e2, hI1⟩ := hp j σC σM (xs (i + 1).toNatClampNeg) hj hI
  refine p_aload_n C dL_law_930 3 rfl rfl ?_
  refine p_aload_n C dL_law_931 4 rfl rfl ?_
  refine p_iload C dL_law_932 0 rfl ?_
  refine p_iconst (v := 1) C dL_law_934 rfl ?_
  refine p_iadd C dL_law_935 ?_
  refine p_sld C hX hb hbA h1 dL_law_936 ?_
  refine p_callV (As := [.int (xs (i + 1).toNatClampNeg)]) (w1 := (0, 0)) C g_splC rfl (by decide) (fun _ => ⟨_, rfl⟩) (lkL_X0_139_X1_l309_w0 C hR) (fun ad A1 => ct_C1_ahead e1) rfl rfl (Nat.le_of_ble_eq_true rfl) (by rw [hR]; exact ⟨show w.1 + 0 ≤ 603072 by omega, show w.2 + 0 ≤ 7088234 by omega⟩) dL_law_937 ?_
  show g_YP X _ _ 940 [(4, .int i), (3, .ref ao), (2, .ref am), (1, .ref ax), (0, .ref b)] [.int r]
  refine p_aload_n C dL_law_940 2 rfl rfl ?_
  refine p_aload_n C dL_law_941 4 rfl rfl ?_
  refine p_iload C dL_law_942 0 rfl ?_
  refine p_iconst (v := 1) C dL_law_944 rfl ?_
  refine p_iadd C dL_law_945 ?_
  refine p_sld C hX hb hbA h1 dL_law_946 ?_
  refine p_callV (As := [.int (xs (i + 1).toNatClampNeg)]) (w1 := (0, 0)) C g_splM rfl (by decide) (fun _ => ⟨_, rfl⟩) (lkL_X0_142_X6_l10_w0 C hR) (fun ad A1 => ct_M_ahead e2) rfl rfl (Nat.le_of_ble_eq_true rfl) (by rw [hR]; exact ⟨show w.1 + 0 + 0 ≤ 603072 by omega, show w.2 + 0 + 0 ≤ 7088234 by omega⟩) dL_law_947 ?_
  show g_YP X _ _ 950 [(4, .int i), (3, .ref ao), (2, .ref am), (1, .ref ax), (0, .ref b)] [.int r, .int r]
  refine p_icmp_eq (tgt := 1534) C dL_law_950 rfl (fun _ => ?_) (fun hne => absurd rfl hne)
  exact p_widen ⟨show w.1 + 0 + 0 ≤ w.1 + 11 by omega, show w.2 + 0 + 0 ≤ w.2 + 196 by omega⟩ (next _ _ _ hI1)
theorem lc_gossip {Rel : Nat → g_S → g_S → Prop} {X : g_F} {b L ax am ao : Nat} {xs : Nat → Int32} (C : g_M gCl X cL_law RX0 ret) (hR : g_R X = room_1) (hX : va_X b L xs (g_s X) (g_s X).heap) (hb : b < (g_s X).heap.size) (hbA : ¬ g_A X b) (hnL : g_nL X = 8) (hlt : (g_l X).stackTraces = false) (hp : pr_gossip Rel) {σC σM : g_S} {o : Int64} {j : Nat} (hj : j < 65) (hI : Rel j σC σM) {i : Int32} (h1 : g_in (i + 1) L = true) (h2 : g_in (i + 2) L = true) (h3 : g_in (i + 3) L = true) (h4 : g_in (i + 4) L = true) {w : Nat × Nat} (hw : w.1 + 11 ≤ 603072 ∧ w.2 + 196 ≤ 7088234) (next : ∀ σC1 σM1 o1, Rel (j + 1) σC1 σM1 → g_YP X (g_P2 (g_D X) (g_dA X) (g_A X) ax am ao σC1 σM1 o1) (w.1 + 11, w.2 + 196) 1534 [(4, .int i), (3, .ref ao), (2, .ref am), (1, .ref ax), (0, .ref b)] []) : g_YP X (g_P2 (g_D X) (g_dA X) (g_A X) ax am ao σC σM o) w 955 [(4, .int i), (3, .ref ao), (2, .ref am), (1, .ref ax), (0, .ref b)] [] := by
  obtain ⟨r, σC1, σM1, e1, e2, hI1⟩ := hp j σC σM (xs (i + 1).toNatClampNeg) hj hI
  refine p_aload_n C dL_law_955 3 rfl rfl ?_
  refine p_aload_n C dL_law_956 4 rfl rfl ?_
  refine p_iload C dL_law_957 0 rfl ?_
  refine p_iconst (v := 1) C dL_law_959 rfl ?_
  refine p_iadd C dL_law_960 ?_
  refine p_sld C hX hb hbA h1 dL_law_961 ?_
  refine p_callV (As := [.int (xs (i + 1).toNatClampNeg)]) (w1 := (0, 0)) C g_splC rfl (by decide) (fun _ => ⟨_, rfl⟩) (lkL_X0_143_X1_l307_w0 C hR) (fun ad A1 => ct_C1_gossip e1) rfl rfl (Nat.le_of_ble_eq_true rfl) (by rw [hR]; exact ⟨show w.1 + 0 ≤ 603072 by omega, show w.2 + 0 ≤ 7088234 by omega⟩) dL_law_962 ?_
  show g_YP X _ _ 965 [(4, .int i), (3, .ref ao), (2, .ref am), (1, .ref ax), (0, .ref b)] [.int r]
  refine p_aload_n C dL_law_965 2 rfl rfl ?_
  refine p_aload_n C dL_law_966 4 rfl rfl ?_
  refine p_iload C dL_law_967 0 rfl ?_
  refine p_iconst (v := 1) C dL_law_969 rfl ?_
  refine p_iadd C dL_law_970 ?_
  refine p_sld C hX hb hbA h1 dL_law_971 ?_
  refine p_callV (As := [.int (xs (i + 1).toNatClampNeg)]) (w1 := (0, 0)) C g_splM rfl (by decide) (fun _ => ⟨_, rfl⟩) (lkL_X0_146_X6_l8_w0 C hR) (fun ad A1 => ct_M_gossip e2) rfl rfl (Nat.le_of_ble_eq_true rfl) (by rw [hR]; exact ⟨show w.1 + 0 + 0 ≤ 603072 by omega, show w.2 + 0 + 0 ≤ 7088234 by omega⟩) dL_law_972 ?_
  show g_YP X _ _ 975 [(4, .int i), (3, .ref ao), (2, .ref am), (1, .ref ax), (0, .ref b)] [.int r, .int r]
  refine p_icmp_eq (tgt := 1534) C dL_law_975 rfl (fun _ => ?_) (fun hne => absurd rfl hne)
  exact p_widen ⟨show w.1 + 0 + 0 ≤ w.1 + 11 by omega, show w.2 + 0 + 0 ≤ w.2 + 196 by omega⟩ (next _ _ _ hI1)
theorem lc_eighths {Rel : Nat → g_S → g_S → Prop} {X : g_F} {b L ax am ao : Nat} {xs : Nat → Int32} (C : g_M gCl X cL_law RX0 ret) (hR : g_R X = room_1) (hX : va_X b L xs (g_s X) (g_s X).heap) (hb : b < (g_s X).heap.size) (hbA : ¬ g_A X b) (hnL : g_nL X = 8) (hlt : (g_l X).stackTraces = false) (hp : pr_eighths Rel) {σC σM : g_S} {o : Int64} {j : Nat} (hj : j < 65) (hI : Rel j σC σM) {i : Int32} (h1 : g_in (i + 1) L = true) (h2 : g_in (i + 2) L = true) (h3 : g_in (i + 3) L = true) (h4 : g_in (i + 4) L = true) {w : Nat × Nat} (hw : w.1 + 11 ≤ 603072 ∧ w.2 + 196 ≤ 7088234) (next : ∀ σC1 σM1 o1, Rel (j + 1) σC1 σM1 → g_YP X (g_P2 (g_D X) (g_dA X) (g_A X) ax am ao σC1 σM1 o1) (w.1 + 11, w.2 + 196) 1534 [(4, .int i), (3, .ref ao), (2, .ref am), (1, .ref ax), (0, .ref b)] []) : g_YP X (g_P2 (g_D X) (g_dA X) (g_A X) ax am ao σC σM o) w 980 [(4, .int i), (3, .ref ao), (2, .ref am), (1, .ref ax), (0, .ref b)] [] := by
  obtain ⟨r, σC1, σM1, e1, e2, hI1⟩ := hp j σC σM (xs (i + 1).toNatClampNeg) (xs (i + 2).toNatClampNeg) hj hI
  refine p_aload_n C dL_law_980 3 rfl rfl ?_
  refine p_aload_n C dL_law_981 4 rfl rfl ?_
  refine p_iload C dL_law_982 0 rfl ?_
  refine p_iconst (v := 1) C dL_law_984 rfl ?_
  refine p_iadd C dL_law_985 ?_
  refine p_sld C hX hb hbA h1 dL_law_986 ?_
  refine p_aload_n C dL_law_987 4 rfl rfl ?_
  refine p_iload C dL_law_988 0 rfl ?_
  refine p_iconst (v := 2) C dL_law_990 rfl ?_
  refine p_iadd C dL_law_991 ?_
  refine p_sld C hX hb hbA h2 dL_law_992 ?_
  refine p_callV (As := [.int (xs (i + 1).toNatClampNeg), .int (xs (i + 2).toNatClampNeg)]) (w1 := (0, 0)) C g_splC rfl (by decide) (fun _ => ⟨_, rfl⟩) (lkL_X0_147_X1_l305_w0 C hR) (fun ad A1 => ct_C1_eighths e1) rfl rfl (Nat.le_of_ble_eq_true rfl) (by rw [hR]; exact ⟨show w.1 + 0 ≤ 603072 by omega, show w.2 + 0 ≤ 7088234 by omega⟩) dL_law_993 ?_
  show g_YP X _ _ 996 [(4, .int i), (3, .ref ao), (2, .ref am), (1, .ref ax), (0, .ref b)] [.int r]
  refine p_aload_n C dL_law_996 2 rfl rfl ?_
  refine p_aload_n C dL_law_997 4 rfl rfl ?_
  refine p_iload C dL_law_998 0 rfl ?_
  refine p_iconst (v := 1) C dL_law_1000 rfl ?_
  refine p_iadd C dL_law_1001 ?_
  refine p_sld C hX hb hbA h1 dL_law_1002 ?_
  refine p_aload_n C dL_law_1003 4 rfl rfl ?_
  refine p_iload C dL_law_1004 0 rfl ?_
  refine p_iconst (v := 2) C dL_law_1006 rfl ?_
  refine p_iadd C dL_law_1007 ?_
  refine p_sld C hX hb hbA h2 dL_law_1008 ?_
  refine p_callV (As := [.int (xs (i + 1).toNatClampNeg), .int (xs (i + 2).toNatClampNeg)]) (w1 := (0, 0)) C g_splM rfl (by decide) (fun _ => ⟨_, rfl⟩) (lkL_X0_150_X6_l6_w0 C hR) (fun ad A1 => ct_M_eighths e2) rfl rfl (Nat.le_of_ble_eq_true rfl) (by rw [hR]; exact ⟨show w.1 + 0 + 0 ≤ 603072 by omega, show w.2 + 0 + 0 ≤ 7088234 by omega⟩) dL_law_1009 ?_
  show g_YP X _ _ 1012 [(4, .int i), (3, .ref ao), (2, .ref am), (1, .ref ax), (0, .ref b)] [.int r, .int r]
  refine p_icmp_eq (tgt := 1534) C dL_law_1012 rfl (fun _ => ?_) (fun hne => absurd rfl hne)
  exact p_widen ⟨show w.1 + 0 + 0 ≤ w.1 + 11 by omega, show w.2 + 0 + 0 ≤ w.2 + 196 by omega⟩ (next _ _ _ hI1)
theorem lc_turned {Rel : Nat → g_S → g_S → Prop} {X : g_F} {b L ax am ao : Nat} {xs : Nat → Int32} (C : g_M gCl X cL_law RX0 ret) (hR : g_R X = room_1) (hX : va_X b L xs (g_s X) (g_s X).heap) (hb : b < (g_s X).heap.size) (hbA : ¬ g_A X b) (hnL : g_nL X = 8) (hlt : (g_l X).stackTraces = false) (hp : pr_turned Rel) {σC σM : g_S} {o : Int64} {j : Nat} (hj : j < 65) (hI : Rel j σC σM) {i : Int32} (h1 : g_in (i + 1) L = true) (h2 : g_in (i + 2) L = true) (h3 : g_in (i + 3) L = true) (h4 : g_in (i + 4) L = true) {w : Nat × Nat} (hw : w.1 + 11 ≤ 603072 ∧ w.2 + 196 ≤ 7088234) (next : ∀ σC1 σM1 o1, Rel (j + 1) σC1 σM1 → g_YP X (g_P2 (g_D X) (g_dA X) (g_A X) ax am ao σC1 σM1 o1) (w.1 + 11, w.2 + 196) 1534 [(4, .int i), (3, .ref ao), (2, .ref am), (1, .ref ax), (0, .ref b)] []) : g_YP X (g_P2 (g_D X) (g_dA X) (g_A X) ax am ao σC σM o) w 1017 [(4, .int i), (3, .ref ao), (2, .ref am), (1, .ref ax), (0, .ref b)] [] := by
  obtain ⟨r, σC1, σM1, e1, e2, hI1⟩ := hp j σC σM hj hI
  refine p_aload_n C dL_law_1017 3 rfl rfl ?_
  refine p_callV (As := []) (w1 := (0, 0)) C g_splC rfl (by decide) (fun _ => ⟨_, rfl⟩) (lkL_X0_151_X1_l306_w0 C hR) (fun ad A1 => ct_C1_turned e1) rfl rfl (Nat.le_of_ble_eq_true rfl) (by rw [hR]; exact ⟨show w.1 + 0 ≤ 603072 by omega, show w.2 + 0 ≤ 7088234 by omega⟩) dL_law_1018 ?_
  show g_YP X _ _ 1021 [(4, .int i), (3, .ref ao), (2, .ref am), (1, .ref ax), (0, .ref b)] [.int r]
  refine p_aload_n C dL_law_1021 2 rfl rfl ?_
  refine p_callV (As := []) (w1 := (0, 0)) C g_splM rfl (by decide) (fun _ => ⟨_, rfl⟩) (lkL_X0_154_X6_l7_w0 C hR) (fun ad A1 => ct_M_turned e2) rfl rfl (Nat.le_of_ble_eq_true rfl) (by rw [hR]; exact ⟨show w.1 + 0 + 0 ≤ 603072 by omega, show w.2 + 0 + 0 ≤ 7088234 by omega⟩) dL_law_1022 ?_
  show g_YP X _ _ 1025 [(4, .int i), (3, .ref ao), (2, .ref am), (1, .ref ax), (0, .ref b)] [.int r, .int r]
  refine p_icmp_eq (tgt := 1534) C dL_law_1025 rfl (fun _ => ?_) (fun hne => absurd rfl hne)
  exact p_widen ⟨show w.1 + 0 + 0 ≤ w.1 + 11 by omega, show w.2 + 0 + 0 ≤ w.2 + 196 by omega⟩ (next _ _ _ hI1)
theorem lc_best {Rel : Nat → g_S → g_S → Prop} {X : g_F} {b L ax am ao : Nat} {xs : Nat → Int32} (C : g_M gCl X cL_law RX0 ret) (hR : g_R X = room_1) (hX : va_X b L xs (g_s X) (g_s X).heap) (hb : b < (g_s X).heap.size) (hbA : ¬ g_A X b) (hnL : g_nL X = 8) (hlt : (g_l X).stackTraces = false) (hp : pr_best Rel) {σC σM : g_S} {o : Int64} {j : Nat} (hj : j < 65) (hI : Rel j σC σM) {i : Int32} (h1 : g_in (i + 1) L = true) (h2 : g_in (i + 2) L = true) (h3 : g_in (i + 3) L = true) (h4 : g_in (i + 4) L = true) {w : Nat × Nat} (hw : w.1 + 11 ≤ 603072 ∧ w.2 + 196 ≤ 7088234) (next : ∀ σC1 σM1 o1, Rel (j + 1) σC1 σM1 → g_YP X (g_P2 (g_D X) (g_dA X) (g_A X) ax am ao σC1 σM1 o1) (w.1 + 11, w.2 + 196) 1534 [(4, .int i), (3, .ref ao), (2, .ref am), (1, .ref ax), (0, .ref b)] []) : g_YP X (g_P2 (g_D X) (g_dA X) (g_A X) ax am ao σC σM o) w 1030 [(4, .int i), (3, .ref ao), (2, .ref am), (1, .ref ax), (0, .ref b)] [] := by
  obtain ⟨r, σC1, σM1, e1, e2, hI1⟩ := hp j σC σM (xs (i + 1).toNatClampNeg) hj hI
  refine p_aload_n C dL_law_1030 3 rfl rfl ?_
  refine p_aload_n C dL_law_1031 4 rfl rfl ?_
  refine p_iload C dL_law_1032 0 rfl ?_
  refine p_iconst (v := 1) C dL_law_1034 rfl ?_
  refine p_iadd C dL_law_1035 ?_
  refine p_sld C hX hb hbA h1 dL_law_1036 ?_
  refine p_callV (As := [.int (xs (i + 1).toNatClampNeg)]) (w1 := (0, 0)) C g_splC rfl (by decide) (fun _ => ⟨_, rfl⟩) (lkL_X0_155_X1_l306_w0 C hR) (fun ad A1 => ct_C1_best e1) rfl rfl (Nat.le_of_ble_eq_true rfl) (by rw [hR]; exact ⟨show w.1 + 0 ≤ 603072 by omega, show w.2 + 0 ≤ 7088234 by omega⟩) dL_law_1037 ?_
  show g_YP X _ _ 1040 [(4, .int i), (3, .ref ao), (2, .ref am), (1, .ref ax), (0, .ref b)] [.int r]
  refine p_aload_n C dL_law_1040 2 rfl rfl ?_
  refine p_aload_n C dL_law_1041 4 rfl rfl ?_
  refine p_iload C dL_law_1042 0 rfl ?_
  refine p_iconst (v := 1) C dL_law_1044 rfl ?_
  refine p_iadd C dL_law_1045 ?_
  refine p_sld C hX hb hbA h1 dL_law_1046 ?_
  refine p_callV (As := [.int (xs (i + 1).toNatClampNeg)]) (w1 := (0, 0)) C g_splM rfl (by decide) (fun _ => ⟨_, rfl⟩) (lkL_X0_158_X6_l7_w0 C hR) (fun ad A1 => ct_M_best e2) rfl rfl (Nat.le_of_ble_eq_true rfl) (by rw [hR]; exact ⟨show w.1 + 0 + 0 ≤ 603072 by omega, show w.2 + 0 + 0 ≤ 7088234 by omega⟩) dL_law_1047 ?_
  show g_YP X _ _ 1050 [(4, .int i), (3, .ref ao), (2, .ref am), (1, .ref ax), (0, .ref b)] [.int r, .int r]
  refine p_icmp_eq (tgt := 1534) C dL_law_1050 rfl (fun _ => ?_) (fun hne => absurd rfl hne)
  exact p_widen ⟨show w.1 + 0 + 0 ≤ w.1 + 11 by omega, show w.2 + 0 + 0 ≤ w.2 + 196 by omega⟩ (next _ _ _ hI1)
theorem lc_bears {Rel : Nat → g_S → g_S → Prop} {X : g_F} {b L ax am ao : Nat} {xs : Nat → Int32} (C : g_M gCl X cL_law RX0 ret) (hR : g_R X = room_1) (hX : va_X b L xs (g_s X) (g_s X).heap) (hb : b < (g_s X).heap.size) (hbA : ¬ g_A X b) (hnL : g_nL X = 8) (hlt : (g_l X).stackTraces = false) (hp : pr_bears Rel) {σC σM : g_S} {o : Int64} {j : Nat} (hj : j < 65) (hI : Rel j σC σM) {i : Int32} (h1 : g_in (i + 1) L = true) (h2 : g_in (i + 2) L = true) (h3 : g_in (i + 3) L = true) (h4 : g_in (i + 4) L = true) {w : Nat × Nat} (hw : w.1 + 11 ≤ 603072 ∧ w.2 + 196 ≤ 7088234) (next : ∀ σC1 σM1 o1, Rel (j + 1) σC1 σM1 → g_YP X (g_P2 (g_D X) (g_dA X) (g_A X) ax am ao σC1 σM1 o1) (w.1 + 11, w.2 + 196) 1534 [(4, .int i), (3, .ref ao), (2, .ref am), (1, .ref ax), (0, .ref b)] []) : g_YP X (g_P2 (g_D X) (g_dA X) (g_A X) ax am ao σC σM o) w 1055 [(4, .int i), (3, .ref ao), (2, .ref am), (1, .ref ax), (0, .ref b)] [] := by
  obtain ⟨r, σC1, σM1, e1, e2, hI1⟩ := hp j σC σM (xs (i + 1).toNatClampNeg) (xs (i + 2).toNatClampNeg) hj hI
  refine p_aload_n C dL_law_1055 3 rfl rfl ?_
  refine p_aload_n C dL_law_1056 4 rfl rfl ?_
  refine p_iload C dL_law_1057 0 rfl ?_
  refine p_iconst (v := 1) C dL_law_1059 rfl ?_
  refine p_iadd C dL_law_1060 ?_
  refine p_sld C hX hb hbA h1 dL_law_1061 ?_
  refine p_aload_n C dL_law_1062 4 rfl rfl ?_
  refine p_iload C dL_law_1063 0 rfl ?_
  refine p_iconst (v := 2) C dL_law_1065 rfl ?_
  refine p_iadd C dL_law_1066 ?_
  refine p_sld C hX hb hbA h2 dL_law_1067 ?_
  refine p_callV (As := [.int (xs (i + 1).toNatClampNeg), .int (xs (i + 2).toNatClampNeg)]) (w1 := (0, 0)) C g_splC rfl (by decide) (fun _ => ⟨_, rfl⟩) (lkL_X0_159_X1_l305_w0 C hR) (fun ad A1 => ct_C1_bears e1) rfl rfl (Nat.le_of_ble_eq_true rfl) (by rw [hR]; exact ⟨show w.1 + 0 ≤ 603072 by omega, show w.2 + 0 ≤ 7088234 by omega⟩) dL_law_1068 ?_
  show g_YP X _ _ 1071 [(4, .int i), (3, .ref ao), (2, .ref am), (1, .ref ax), (0, .ref b)] [.int r]
  refine p_aload_n C dL_law_1071 2 rfl rfl ?_
  refine p_aload_n C dL_law_1072 4 rfl rfl ?_
  refine p_iload C dL_law_1073 0 rfl ?_
  refine p_iconst (v := 1) C dL_law_1075 rfl ?_
  refine p_iadd C dL_law_1076 ?_
  refine p_sld C hX hb hbA h1 dL_law_1077 ?_
  refine p_aload_n C dL_law_1078 4 rfl rfl ?_
  refine p_iload C dL_law_1079 0 rfl ?_
  refine p_iconst (v := 2) C dL_law_1081 rfl ?_
  refine p_iadd C dL_law_1082 ?_
  refine p_sld C hX hb hbA h2 dL_law_1083 ?_
  refine p_callV (As := [.int (xs (i + 1).toNatClampNeg), .int (xs (i + 2).toNatClampNeg)]) (w1 := (0, 0)) C g_splM rfl (by decide) (fun _ => ⟨_, rfl⟩) (lkL_X0_162_X6_l5_w0 C hR) (fun ad A1 => ct_M_bears e2) rfl rfl (Nat.le_of_ble_eq_true rfl) (by rw [hR]; exact ⟨show w.1 + 0 + 0 ≤ 603072 by omega, show w.2 + 0 + 0 ≤ 7088234 by omega⟩) dL_law_1084 ?_
  show g_YP X _ _ 1087 [(4, .int i), (3, .ref ao), (2, .ref am), (1, .ref ax), (0, .ref b)] [.int r, .int r]
  refine p_icmp_eq (tgt := 1534) C dL_law_1087 rfl (fun _ => ?_) (fun hne => absurd rfl hne)
  exact p_widen ⟨show w.1 + 0 + 0 ≤ w.1 + 11 by omega, show w.2 + 0 + 0 ≤ w.2 + 196 by omega⟩ (next _ _ _ hI1)
theorem lc_back {Rel : Nat → g_S → g_S → Prop} {X : g_F} {b L ax am ao : Nat} {xs : Nat → Int32} (C : g_M gCl X cL_law RX0 ret) (hR : g_R X = room_1) (hX : va_X b L xs (g_s X) (g_s X).heap) (hb : b < (g_s X).heap.size) (hbA : ¬ g_A X b) (hnL : g_nL X = 8) (hlt : (g_l X).stackTraces = false) (hp : pr_back Rel) {σC σM : g_S} {o : Int64} {j : Nat} (hj : j < 65) (hI : Rel j σC σM) {i : Int32} (h1 : g_in (i + 1) L = true) (h2 : g_in (i + 2) L = true) (h3 : g_in (i + 3) L = true) (h4 : g_in (i + 4) L = true) {w : Nat × Nat} (hw : w.1 + 11 ≤ 603072 ∧ w.2 + 196 ≤ 7088234) (next : ∀ σC1 σM1 o1, Rel (j + 1) σC1 σM1 → g_YP X (g_P2 (g_D X) (g_dA X) (g_A X) ax am ao σC1 σM1 o1) (w.1 + 11, w.2 + 196) 1534 [(4, .int i), (3, .ref ao), (2, .ref am), (1, .ref ax), (0, .ref b)] []) : g_YP X (g_P2 (g_D X) (g_dA X) (g_A X) ax am ao σC σM o) w 1092 [(4, .int i), (3, .ref ao), (2, .ref am), (1, .ref ax), (0, .ref b)] [] := by
  obtain ⟨r, σC1, σM1, e1, e2, hI1⟩ := hp j σC σM (xs (i + 1).toNatClampNeg) (xs (i + 2).toNatClampNeg) hj hI
  refine p_aload_n C dL_law_1092 3 rfl rfl ?_
  refine p_aload_n C dL_law_1093 4 rfl rfl ?_
  refine p_iload C dL_law_1094 0 rfl ?_
  refine p_iconst (v := 1) C dL_law_1096 rfl ?_
  refine p_iadd C dL_law_1097 ?_
  refine p_sld C hX hb hbA h1 dL_law_1098 ?_
  refine p_aload_n C dL_law_1099 4 rfl rfl ?_
  refine p_iload C dL_law_1100 0 rfl ?_
  refine p_iconst (v := 2) C dL_law_1102 rfl ?_
  refine p_iadd C dL_law_1103 ?_
  refine p_sld C hX hb hbA h2 dL_law_1104 ?_
  refine p_callV (As := [.int (xs (i + 1).toNatClampNeg), .int (xs (i + 2).toNatClampNeg)]) (w1 := (0, 0)) C g_splC rfl (by decide) (fun _ => ⟨_, rfl⟩) (lkL_X0_163_X1_l307_w0 C hR) (fun ad A1 => ct_C1_back e1) rfl rfl (Nat.le_of_ble_eq_true rfl) (by rw [hR]; exact ⟨show w.1 + 0 ≤ 603072 by omega, show w.2 + 0 ≤ 7088234 by omega⟩) dL_law_1105 ?_
  show g_YP X _ _ 1108 [(4, .int i), (3, .ref ao), (2, .ref am), (1, .ref ax), (0, .ref b)] [.int r]
  refine p_aload_n C dL_law_1108 2 rfl rfl ?_
  refine p_aload_n C dL_law_1109 4 rfl rfl ?_
  refine p_iload C dL_law_1110 0 rfl ?_
  refine p_iconst (v := 1) C dL_law_1112 rfl ?_
  refine p_iadd C dL_law_1113 ?_
  refine p_sld C hX hb hbA h1 dL_law_1114 ?_
  refine p_aload_n C dL_law_1115 4 rfl rfl ?_
  refine p_iload C dL_law_1116 0 rfl ?_
  refine p_iconst (v := 2) C dL_law_1118 rfl ?_
  refine p_iadd C dL_law_1119 ?_
  refine p_sld C hX hb hbA h2 dL_law_1120 ?_
  refine p_callV (As := [.int (xs (i + 1).toNatClampNeg), .int (xs (i + 2).toNatClampNeg)]) (w1 := (0, 0)) C g_splM rfl (by decide) (fun _ => ⟨_, rfl⟩) (lkL_X0_166_X6_l7_w0 C hR) (fun ad A1 => ct_M_back e2) rfl rfl (Nat.le_of_ble_eq_true rfl) (by rw [hR]; exact ⟨show w.1 + 0 + 0 ≤ 603072 by omega, show w.2 + 0 + 0 ≤ 7088234 by omega⟩) dL_law_1121 ?_
  show g_YP X _ _ 1124 [(4, .int i), (3, .ref ao), (2, .ref am), (1, .ref ax), (0, .ref b)] [.int r, .int r]
  refine p_icmp_eq (tgt := 1534) C dL_law_1124 rfl (fun _ => ?_) (fun hne => absurd rfl hne)
  exact p_widen ⟨show w.1 + 0 + 0 ≤ w.1 + 11 by omega, show w.2 + 0 + 0 ≤ w.2 + 196 by omega⟩ (next _ _ _ hI1)
theorem lc_open {Rel : Nat → g_S → g_S → Prop} {X : g_F} {b L ax am ao : Nat} {xs : Nat → Int32} (C : g_M gCl X cL_law RX0 ret) (hR : g_R X = room_1) (hX : va_X b L xs (g_s X) (g_s X).heap) (hb : b < (g_s X).heap.size) (hbA : ¬ g_A X b) (hnL : g_nL X = 8) (hlt : (g_l X).stackTraces = false) (hp : pr_open Rel) {σC σM : g_S} {o : Int64} {j : Nat} (hj : j < 65) (hI : Rel j σC σM) {i : Int32} (h1 : g_in (i + 1) L = true) (h2 : g_in (i + 2) L = true) (h3 : g_in (i + 3) L = true) (h4 : g_in (i + 4) L = true) {w : Nat × Nat} (hw : w.1 + 11 ≤ 603072 ∧ w.2 + 196 ≤ 7088234) (next : ∀ σC1 σM1 o1, Rel (j + 1) σC1 σM1 → g_YP X (g_P2 (g_D X) (g_dA X) (g_A X) ax am ao σC1 σM1 o1) (w.1 + 11, w.2 + 196) 1534 [(4, .int i), (3, .ref ao), (2, .ref am), (1, .ref ax), (0, .ref b)] []) : g_YP X (g_P2 (g_D X) (g_dA X) (g_A X) ax am ao σC σM o) w 1129 [(4, .int i), (3, .ref ao), (2, .ref am), (1, .ref ax), (0, .ref b)] [] := by
  obtain ⟨r, σC1, σM1, e1, e2, hI1⟩ := hp j σC σM (xs (i + 1).toNatClampNeg) (xs (i + 2).toNatClampNeg) hj hI
  refine p_aload_n C dL_law_1129 3 rfl rfl ?_
  refine p_aload_n C dL_law_1130 4 rfl rfl ?_
  refine p_iload C dL_law_1131 0 rfl ?_
  refine p_iconst (v := 1) C dL_law_1133 rfl ?_
  refine p_iadd C dL_law_1134 ?_
  refine p_sld C hX hb hbA h1 dL_law_1135 ?_
  refine p_aload_n C dL_law_1136 4 rfl rfl ?_
  refine p_iload C dL_law_1137 0 rfl ?_
  refine p_iconst (v := 2) C dL_law_1139 rfl ?_
  refine p_iadd C dL_law_1140 ?_
  refine p_sld C hX hb hbA h2 dL_law_1141 ?_
  refine p_callV (As := [.int (xs (i + 1).toNatClampNeg), .int (xs (i + 2).toNatClampNeg)]) (w1 := (0, 0)) C g_splC rfl (by decide) (fun _ => ⟨_, rfl⟩) (lkL_X0_167_X1_l307_w0 C hR) (fun ad A1 => ct_C1_open_2 e1) rfl rfl (Nat.le_of_ble_eq_true rfl) (by rw [hR]; exact ⟨show w.1 + 0 ≤ 603072 by omega, show w.2 + 0 ≤ 7088234 by omega⟩) dL_law_1142 ?_
  show g_YP X _ _ 1145 [(4, .int i), (3, .ref ao), (2, .ref am), (1, .ref ax), (0, .ref b)] [.int r]
  refine p_aload_n C dL_law_1145 2 rfl rfl ?_
  refine p_aload_n C dL_law_1146 4 rfl rfl ?_
  refine p_iload C dL_law_1147 0 rfl ?_
  refine p_iconst (v := 1) C dL_law_1149 rfl ?_
  refine p_iadd C dL_law_1150 ?_
  refine p_sld C hX hb hbA h1 dL_law_1151 ?_
  refine p_aload_n C dL_law_1152 4 rfl rfl ?_
  refine p_iload C dL_law_1153 0 rfl ?_
  refine p_iconst (v := 2) C dL_law_1155 rfl ?_
  refine p_iadd C dL_law_1156 ?_
  refine p_sld C hX hb hbA h2 dL_law_1157 ?_
  refine p_callV (As := [.int (xs (i + 1).toNatClampNeg), .int (xs (i + 2).toNatClampNeg)]) (w1 := (0, 0)) C g_splM rfl (by decide) (fun _ => ⟨_, rfl⟩) (lkL_X0_170_X6_l7_w0 C hR) (fun ad A1 => ct_M_open e2) rfl rfl (Nat.le_of_ble_eq_true rfl) (by rw [hR]; exact ⟨show w.1 + 0 + 0 ≤ 603072 by omega, show w.2 + 0 + 0 ≤ 7088234 by omega⟩) dL_law_1158 ?_
  show g_YP X _ _ 1161 [(4, .int i), (3, .ref ao), (2, .ref am), (1, .ref ax), (0, .ref b)] [.int r, .int r]
  refine p_icmp_eq (tgt := 1534) C dL_law_1161 rfl (fun _ => ?_) (fun hne => absurd rfl hne)
  exact p_widen ⟨show w.1 + 0 + 0 ≤ w.1 + 11 by omega, show w.2 + 0 + 0 ≤ w.2 + 196 by omega⟩ (next _ _ _ hI1)
theorem lc_heard {Rel : Nat → g_S → g_S → Prop} {X : g_F} {b L ax am ao : Nat} {xs : Nat → Int32} (C : g_M gCl X cL_law RX0 ret) (hR : g_R X = room_1) (hX : va_X b L xs (g_s X) (g_s X).heap) (hb : b < (g_s X).heap.size) (hbA : ¬ g_A X b) (hnL : g_nL X = 8) (hlt : (g_l X).stackTraces = false) (hp : pr_heard Rel) {σC σM : g_S} {o : Int64} {j : Nat} (hj : j < 65) (hI : Rel j σC σM) {i : Int32} (h1 : g_in (i + 1) L = true) (h2 : g_in (i + 2) L = true) (h3 : g_in (i + 3) L = true) (h4 : g_in (i + 4) L = true) {w : Nat × Nat} (hw : w.1 + 11 ≤ 603072 ∧ w.2 + 196 ≤ 7088234) (next : ∀ σC1 σM1 o1, Rel (j + 1) σC1 σM1 → g_YP X (g_P2 (g_D X) (g_dA X) (g_A X) ax am ao σC1 σM1 o1) (w.1 + 11, w.2 + 196) 1534 [(4, .int i), (3, .ref ao), (2, .ref am), (1, .ref ax), (0, .ref b)] []) : g_YP X (g_P2 (g_D X) (g_dA X) (g_A X) ax am ao σC σM o) w 1166 [(4, .int i), (3, .ref ao), (2, .ref am), (1, .ref ax), (0, .ref b)] [] := by
  obtain ⟨r, σC1, σM1, e1, e2, hI1⟩ := hp j σC σM (xs (i + 1).toNatClampNeg) (xs (i + 2).toNatClampNeg) hj hI
  refine p_aload_n C dL_law_1166 3 rfl rfl ?_
  refine p_aload_n C dL_law_1167 4 rfl rfl ?_
  refine p_iload C dL_law_1168 0 rfl ?_
  refine p_iconst (v := 1) C dL_law_1170 rfl ?_
  refine p_iadd C dL_law_1171 ?_
  refine p_sld C hX hb hbA h1 dL_law_1172 ?_
  refine p_aload_n C dL_law_1173 4 rfl rfl ?_
  refine p_iload C dL_law_1174 0 rfl ?_
  refine p_iconst (v := 2) C dL_law_1176 rfl ?_
  refine p_iadd C dL_law_1177 ?_
  refine p_sld C hX hb hbA h2 dL_law_1178 ?_
  refine p_callV (As := [.int (xs (i + 1).toNatClampNeg), .int (xs (i + 2).toNatClampNeg)]) (w1 := (0, 0)) C g_splC rfl (by decide) (fun _ => ⟨_, rfl⟩) (lkL_X0_171_X1_l3_w0 C hR) (fun ad A1 => ct_C1_heard e1) rfl rfl (Nat.le_of_ble_eq_true rfl) (by rw [hR]; exact ⟨show w.1 + 0 ≤ 603072 by omega, show w.2 + 0 ≤ 7088234 by omega⟩) dL_law_1179 ?_
  show g_YP X _ _ 1182 [(4, .int i), (3, .ref ao), (2, .ref am), (1, .ref ax), (0, .ref b)] [.int r]
  refine p_aload_n C dL_law_1182 2 rfl rfl ?_
  refine p_aload_n C dL_law_1183 4 rfl rfl ?_
  refine p_iload C dL_law_1184 0 rfl ?_
  refine p_iconst (v := 1) C dL_law_1186 rfl ?_
  refine p_iadd C dL_law_1187 ?_
  refine p_sld C hX hb hbA h1 dL_law_1188 ?_
  refine p_aload_n C dL_law_1189 4 rfl rfl ?_
  refine p_iload C dL_law_1190 0 rfl ?_
  refine p_iconst (v := 2) C dL_law_1192 rfl ?_
  refine p_iadd C dL_law_1193 ?_
  refine p_sld C hX hb hbA h2 dL_law_1194 ?_
  refine p_callV (As := [.int (xs (i + 1).toNatClampNeg), .int (xs (i + 2).toNatClampNeg)]) (w1 := (0, 0)) C g_splM rfl (by decide) (fun _ => ⟨_, rfl⟩) (lkL_X0_174_X6_l3_w0 C hR) (fun ad A1 => ct_M_heard e2) rfl rfl (Nat.le_of_ble_eq_true rfl) (by rw [hR]; exact ⟨show w.1 + 0 + 0 ≤ 603072 by omega, show w.2 + 0 + 0 ≤ 7088234 by omega⟩) dL_law_1195 ?_
  show g_YP X _ _ 1198 [(4, .int i), (3, .ref ao), (2, .ref am), (1, .ref ax), (0, .ref b)] [.int r, .int r]
  refine p_icmp_eq (tgt := 1534) C dL_law_1198 rfl (fun _ => ?_) (fun hne => absurd rfl hne)
  exact p_widen ⟨show w.1 + 0 + 0 ≤ w.1 + 11 by omega, show w.2 + 0 + 0 ≤ w.2 + 196 by omega⟩ (next _ _ _ hI1)
theorem lc_forget {Rel : Nat → g_S → g_S → Prop} {X : g_F} {b L ax am ao : Nat} {xs : Nat → Int32} (C : g_M gCl X cL_law RX0 ret) (hR : g_R X = room_1) (hX : va_X b L xs (g_s X) (g_s X).heap) (hb : b < (g_s X).heap.size) (hbA : ¬ g_A X b) (hnL : g_nL X = 8) (hlt : (g_l X).stackTraces = false) (hp : pr_forget Rel) {σC σM : g_S} {o : Int64} {j : Nat} (hj : j < 65) (hI : Rel j σC σM) {i : Int32} (h1 : g_in (i + 1) L = true) (h2 : g_in (i + 2) L = true) (h3 : g_in (i + 3) L = true) (h4 : g_in (i + 4) L = true) {w : Nat × Nat} (hw : w.1 + 11 ≤ 603072 ∧ w.2 + 196 ≤ 7088234) (next : ∀ σC1 σM1 o1, Rel (j + 1) σC1 σM1 → g_YP X (g_P2 (g_D X) (g_dA X) (g_A X) ax am ao σC1 σM1 o1) (w.1 + 11, w.2 + 196) 1534 [(4, .int i), (3, .ref ao), (2, .ref am), (1, .ref ax), (0, .ref b)] []) : g_YP X (g_P2 (g_D X) (g_dA X) (g_A X) ax am ao σC σM o) w 1203 [(4, .int i), (3, .ref ao), (2, .ref am), (1, .ref ax), (0, .ref b)] [] := by
  obtain ⟨r, σC1, σM1, e1, e2, hI1⟩ := hp j σC σM hj hI
  refine p_aload_n C dL_law_1203 3 rfl rfl ?_
  refine p_callV (As := []) (w1 := (0, 0)) C g_splC rfl (by decide) (fun _ => ⟨_, rfl⟩) (lkL_X0_175_X1_l1_w0 C hR) (fun ad A1 => ct_C1_forget e1) rfl rfl (Nat.le_of_ble_eq_true rfl) (by rw [hR]; exact ⟨show w.1 + 0 ≤ 603072 by omega, show w.2 + 0 ≤ 7088234 by omega⟩) dL_law_1204 ?_
  show g_YP X _ _ 1207 [(4, .int i), (3, .ref ao), (2, .ref am), (1, .ref ax), (0, .ref b)] [.int r]
  refine p_aload_n C dL_law_1207 2 rfl rfl ?_
  refine p_callV (As := []) (w1 := (0, 0)) C g_splM rfl (by decide) (fun _ => ⟨_, rfl⟩) (lkL_X0_178_X6_l1_w0 C hR) (fun ad A1 => ct_M_forget e2) rfl rfl (Nat.le_of_ble_eq_true rfl) (by rw [hR]; exact ⟨show w.1 + 0 + 0 ≤ 603072 by omega, show w.2 + 0 + 0 ≤ 7088234 by omega⟩) dL_law_1208 ?_
  show g_YP X _ _ 1211 [(4, .int i), (3, .ref ao), (2, .ref am), (1, .ref ax), (0, .ref b)] [.int r, .int r]
  refine p_icmp_eq (tgt := 1534) C dL_law_1211 rfl (fun _ => ?_) (fun hne => absurd rfl hne)
  exact p_widen ⟨show w.1 + 0 + 0 ≤ w.1 + 11 by omega, show w.2 + 0 + 0 ≤ w.2 + 196 by omega⟩ (next _ _ _ hI1)
theorem lc_lost {Rel : Nat → g_S → g_S → Prop} {X : g_F} {b L ax am ao : Nat} {xs : Nat → Int32} (C : g_M gCl X cL_law RX0 ret) (hR : g_R X = room_1) (hX : va_X b L xs (g_s X) (g_s X).heap) (hb : b < (g_s X).heap.size) (hbA : ¬ g_A X b) (hnL : g_nL X = 8) (hlt : (g_l X).stackTraces = false) (hp : pr_lost Rel) {σC σM : g_S} {o : Int64} {j : Nat} (hj : j < 65) (hI : Rel j σC σM) {i : Int32} (h1 : g_in (i + 1) L = true) (h2 : g_in (i + 2) L = true) (h3 : g_in (i + 3) L = true) (h4 : g_in (i + 4) L = true) {w : Nat × Nat} (hw : w.1 + 11 ≤ 603072 ∧ w.2 + 196 ≤ 7088234) (next : ∀ σC1 σM1 o1, Rel (j + 1) σC1 σM1 → g_YP X (g_P2 (g_D X) (g_dA X) (g_A X) ax am ao σC1 σM1 o1) (w.1 + 11, w.2 + 196) 1534 [(4, .int i), (3, .ref ao), (2, .ref am), (1, .ref ax), (0, .ref b)] []) : g_YP X (g_P2 (g_D X) (g_dA X) (g_A X) ax am ao σC σM o) w 1216 [(4, .int i), (3, .ref ao), (2, .ref am), (1, .ref ax), (0, .ref b)] [] := by
  obtain ⟨r, σC1, σM1, e1, e2, hI1⟩ := hp j σC σM hj hI
  refine p_aload_n C dL_law_1216 3 rfl rfl ?_
  refine p_callV (As := []) (w1 := (0, 0)) C g_splC rfl (by decide) (fun _ => ⟨_, rfl⟩) (lkL_X0_179_X1_l307_w0 C hR) (fun ad A1 => ct_C1_lost e1) rfl rfl (Nat.le_of_ble_eq_true rfl) (by rw [hR]; exact ⟨show w.1 + 0 ≤ 603072 by omega, show w.2 + 0 ≤ 7088234 by omega⟩) dL_law_1217 ?_
  show g_YP X _ _ 1220 [(4, .int i), (3, .ref ao), (2, .ref am), (1, .ref ax), (0, .ref b)] [.long r]
  refine p_aload_n C dL_law_1220 2 rfl rfl ?_
  refine p_callV (As := []) (w1 := (0, 0)) C g_splM rfl (by decide) (fun _ => ⟨_, rfl⟩) (lkL_X0_182_X6_l7_w0 C hR) (fun ad A1 => ct_M_lost e2) rfl rfl (Nat.le_of_ble_eq_true rfl) (by rw [hR]; exact ⟨show w.1 + 0 + 0 ≤ 603072 by omega, show w.2 + 0 + 0 ≤ 7088234 by omega⟩) dL_law_1221 ?_
  show g_YP X _ _ 1224 [(4, .int i), (3, .ref ao), (2, .ref am), (1, .ref ax), (0, .ref b)] [.long r, .long r]
  refine p_lcmp C dL_law_1224 ?_
  refine p_if_eq (tgt := 1534) C dL_law_1225 rfl (fun _ => ?_) (fun hne => absurd (g_cmp0 _) hne)
  exact p_widen ⟨show w.1 + 0 + 0 ≤ w.1 + 11 by omega, show w.2 + 0 + 0 ≤ w.2 + 196 by omega⟩ (next _ _ _ hI1)
theorem lc_asks {Rel : Nat → g_S → g_S → Prop} {X : g_F} {b L ax am ao : Nat} {xs : Nat → Int32} (C : g_M gCl X cL_law RX0 ret) (hR : g_R X = room_1) (hX : va_X b L xs (g_s X) (g_s X).heap) (hb : b < (g_s X).heap.size) (hbA : ¬ g_A X b) (hnL : g_nL X = 8) (hlt : (g_l X).stackTraces = false) (hp : pr_asks Rel) {σC σM : g_S} {o : Int64} {j : Nat} (hj : j < 65) (hI : Rel j σC σM) {i : Int32} (h1 : g_in (i + 1) L = true) (h2 : g_in (i + 2) L = true) (h3 : g_in (i + 3) L = true) (h4 : g_in (i + 4) L = true) {w : Nat × Nat} (hw : w.1 + 11 ≤ 603072 ∧ w.2 + 196 ≤ 7088234) (next : ∀ σC1 σM1 o1, Rel (j + 1) σC1 σM1 → g_YP X (g_P2 (g_D X) (g_dA X) (g_A X) ax am ao σC1 σM1 o1) (w.1 + 11, w.2 + 196) 1534 [(4, .int i), (3, .ref ao), (2, .ref am), (1, .ref ax), (0, .ref b)] []) : g_YP X (g_P2 (g_D X) (g_dA X) (g_A X) ax am ao σC σM o) w 1230 [(4, .int i), (3, .ref ao), (2, .ref am), (1, .ref ax), (0, .ref b)] [] := by
  obtain ⟨r, σC1, σM1, e1, e2, hI1⟩ := hp j σC σM hj hI
  refine p_aload_n C dL_law_1230 3 rfl rfl ?_
  refine p_callV (As := []) (w1 := (0, 0)) C g_splC rfl (by decide) (fun _ => ⟨_, rfl⟩) (lkL_X0_183_X1_l307_w0 C hR) (fun ad A1 => ct_C1_asks e1) rfl rfl (Nat.le_of_ble_eq_true rfl) (by rw [hR]; exact ⟨show w.1 + 0 ≤ 603072 by omega, show w.2 + 0 ≤ 7088234 by omega⟩) dL_law_1231 ?_
  show g_YP X _ _ 1234 [(4, .int i), (3, .ref ao), (2, .ref am), (1, .ref ax), (0, .ref b)] [.int r]
  refine p_aload_n C dL_law_1234 2 rfl rfl ?_
  refine p_callV (As := []) (w1 := (0, 0)) C g_splM rfl (by decide) (fun _ => ⟨_, rfl⟩) (lkL_X0_186_X6_l7_w0 C hR) (fun ad A1 => ct_M_asks e2) rfl rfl (Nat.le_of_ble_eq_true rfl) (by rw [hR]; exact ⟨show w.1 + 0 + 0 ≤ 603072 by omega, show w.2 + 0 + 0 ≤ 7088234 by omega⟩) dL_law_1235 ?_
  show g_YP X _ _ 1238 [(4, .int i), (3, .ref ao), (2, .ref am), (1, .ref ax), (0, .ref b)] [.int r, .int r]
  refine p_icmp_eq (tgt := 1534) C dL_law_1238 rfl (fun _ => ?_) (fun hne => absurd rfl hne)
  exact p_widen ⟨show w.1 + 0 + 0 ≤ w.1 + 11 by omega, show w.2 + 0 + 0 ≤ w.2 + 196 by omega⟩ (next _ _ _ hI1)
theorem lc_storm {Rel : Nat → g_S → g_S → Prop} {X : g_F} {b L ax am ao : Nat} {xs : Nat → Int32} (C : g_M gCl X cL_law RX0 ret) (hR : g_R X = room_1) (hX : va_X b L xs (g_s X) (g_s X).heap) (hb : b < (g_s X).heap.size) (hbA : ¬ g_A X b) (hnL : g_nL X = 8) (hlt : (g_l X).stackTraces = false) (hp : pr_storm Rel) {σC σM : g_S} {o : Int64} {j : Nat} (hj : j < 65) (hI : Rel j σC σM) {i : Int32} (h1 : g_in (i + 1) L = true) (h2 : g_in (i + 2) L = true) (h3 : g_in (i + 3) L = true) (h4 : g_in (i + 4) L = true) {w : Nat × Nat} (hw : w.1 + 11 ≤ 603072 ∧ w.2 + 196 ≤ 7088234) (next : ∀ σC1 σM1 o1, Rel (j + 1) σC1 σM1 → g_YP X (g_P2 (g_D X) (g_dA X) (g_A X) ax am ao σC1 σM1 o1) (w.1 + 11, w.2 + 196) 1534 [(4, .int i), (3, .ref ao), (2, .ref am), (1, .ref ax), (0, .ref b)] []) : g_YP X (g_P2 (g_D X) (g_dA X) (g_A X) ax am ao σC σM o) w 1243 [(4, .int i), (3, .ref ao), (2, .ref am), (1, .ref ax), (0, .ref b)] [] := by
  obtain ⟨r, σC1, σM1, e1, e2, hI1⟩ := hp j σC σM (xs (i + 1).toNatClampNeg) (xs (i + 2).toNatClampNeg) (xs (i + 3).toNatClampNeg) hj hI
  refine p_aload_n C dL_law_1243 3 rfl rfl ?_
  refine p_aload_n C dL_law_1244 4 rfl rfl ?_
  refine p_iload C dL_law_1245 0 rfl ?_
  refine p_iconst (v := 1) C dL_law_1247 rfl ?_
  refine p_iadd C dL_law_1248 ?_
  refine p_sld C hX hb hbA h1 dL_law_1249 ?_
  refine p_aload_n C dL_law_1250 4 rfl rfl ?_
  refine p_iload C dL_law_1251 0 rfl ?_
  refine p_iconst (v := 2) C dL_law_1253 rfl ?_
  refine p_iadd C dL_law_1254 ?_
  refine p_sld C hX hb hbA h2 dL_law_1255 ?_
  refine p_aload_n C dL_law_1256 4 rfl rfl ?_
  refine p_iload C dL_law_1257 0 rfl ?_
  refine p_iconst (v := 3) C dL_law_1259 rfl ?_
  refine p_iadd C dL_law_1260 ?_
  refine p_sld C hX hb hbA h3 dL_law_1261 ?_
  refine p_callVG (Z := fun v s2 => v = some (.int r) ∧ s2 = σC1) (As := [.int (xs (i + 1).toNatClampNeg), .int (xs (i + 2).toNatClampNeg), .int (xs (i + 3).toNatClampNeg)]) (w1 := (1, 10)) C g_splC rfl (by decide) (fun _ => ⟨_, rfl⟩) (lkL_X0_187_X1_l305_w1 C hR) (fun ad A1 => ct_C1_storm e1) (fun _ _ _ _ hh => ⟨⟨hh.1, hh.2.1⟩, hh.2.2⟩) rfl rfl (Nat.le_of_ble_eq_true rfl) (by rw [hR]; exact ⟨show w.1 + 1 ≤ 603072 by omega, show w.2 + 10 ≤ 7088234 by omega⟩) dL_law_1262 ?_
  rintro _ _ ⟨rfl, rfl⟩
  show g_YP X _ _ 1265 [(4, .int i), (3, .ref ao), (2, .ref am), (1, .ref ax), (0, .ref b)] [.int r]
  refine p_aload_n C dL_law_1265 2 rfl rfl ?_
  refine p_aload_n C dL_law_1266 4 rfl rfl ?_
  refine p_iload C dL_law_1267 0 rfl ?_
  refine p_iconst (v := 1) C dL_law_1269 rfl ?_
  refine p_iadd C dL_law_1270 ?_
  refine p_sld C hX hb hbA h1 dL_law_1271 ?_
  refine p_aload_n C dL_law_1272 4 rfl rfl ?_
  refine p_iload C dL_law_1273 0 rfl ?_
  refine p_iconst (v := 2) C dL_law_1275 rfl ?_
  refine p_iadd C dL_law_1276 ?_
  refine p_sld C hX hb hbA h2 dL_law_1277 ?_
  refine p_aload_n C dL_law_1278 4 rfl rfl ?_
  refine p_iload C dL_law_1279 0 rfl ?_
  refine p_iconst (v := 3) C dL_law_1281 rfl ?_
  refine p_iadd C dL_law_1282 ?_
  refine p_sld C hX hb hbA h3 dL_law_1283 ?_
  refine p_callV (As := [.int (xs (i + 1).toNatClampNeg), .int (xs (i + 2).toNatClampNeg), .int (xs (i + 3).toNatClampNeg)]) (w1 := (0, 0)) C g_splM rfl (by decide) (fun _ => ⟨_, rfl⟩) (lkL_X0_191_X6_l101_w0 C hR) (fun ad A1 => ct_M_storm e2) rfl rfl (Nat.le_of_ble_eq_true rfl) (by rw [hR]; exact ⟨show w.1 + 1 + 0 ≤ 603072 by omega, show w.2 + 10 + 0 ≤ 7088234 by omega⟩) dL_law_1284 ?_
  show g_YP X _ _ 1287 [(4, .int i), (3, .ref ao), (2, .ref am), (1, .ref ax), (0, .ref b)] [.int r, .int r]
  refine p_icmp_eq (tgt := 1534) C dL_law_1287 rfl (fun _ => ?_) (fun hne => absurd rfl hne)
  exact p_widen ⟨show w.1 + 1 + 0 ≤ w.1 + 11 by omega, show w.2 + 10 + 0 ≤ w.2 + 196 by omega⟩ (next _ _ _ hI1)
theorem lc_cock {Rel : Nat → g_S → g_S → Prop} {X : g_F} {b L ax am ao : Nat} {xs : Nat → Int32} (C : g_M gCl X cL_law RX0 ret) (hR : g_R X = room_1) (hX : va_X b L xs (g_s X) (g_s X).heap) (hb : b < (g_s X).heap.size) (hbA : ¬ g_A X b) (hnL : g_nL X = 8) (hlt : (g_l X).stackTraces = false) (hp : pr_cock Rel) {σC σM : g_S} {o : Int64} {j : Nat} (hj : j < 65) (hI : Rel j σC σM) {i : Int32} (h1 : g_in (i + 1) L = true) (h2 : g_in (i + 2) L = true) (h3 : g_in (i + 3) L = true) (h4 : g_in (i + 4) L = true) {w : Nat × Nat} (hw : w.1 + 11 ≤ 603072 ∧ w.2 + 196 ≤ 7088234) (next : ∀ σC1 σM1 o1, Rel (j + 1) σC1 σM1 → g_YP X (g_P2 (g_D X) (g_dA X) (g_A X) ax am ao σC1 σM1 o1) (w.1 + 11, w.2 + 196) 1534 [(4, .int i), (3, .ref ao), (2, .ref am), (1, .ref ax), (0, .ref b)] []) : g_YP X (g_P2 (g_D X) (g_dA X) (g_A X) ax am ao σC σM o) w 1292 [(4, .int i), (3, .ref ao), (2, .ref am), (1, .ref ax), (0, .ref b)] [] := by
  obtain ⟨r, σC1, σM1, e1, e2, hI1⟩ := hp j σC σM (xs (i + 1).toNatClampNeg) (xs (i + 2).toNatClampNeg) hj hI
  refine p_aload_n C dL_law_1292 3 rfl rfl ?_
  refine p_aload_n C dL_law_1293 4 rfl rfl ?_
  refine p_iload C dL_law_1294 0 rfl ?_
  refine p_iconst (v := 1) C dL_law_1296 rfl ?_
  refine p_iadd C dL_law_1297 ?_
  refine p_sld C hX hb hbA h1 dL_law_1298 ?_
  refine p_aload_n C dL_law_1299 4 rfl rfl ?_
  refine p_iload C dL_law_1300 0 rfl ?_
  refine p_iconst (v := 2) C dL_law_1302 rfl ?_
  refine p_iadd C dL_law_1303 ?_
  refine p_sld C hX hb hbA h2 dL_law_1304 ?_
  refine p_callV (As := [.int (xs (i + 1).toNatClampNeg), .int (xs (i + 2).toNatClampNeg)]) (w1 := (0, 0)) C g_splC rfl (by decide) (fun _ => ⟨_, rfl⟩) (lkL_X0_192_X1_l2_w0 C hR) (fun ad A1 => ct_C1_cock e1) rfl rfl (Nat.le_of_ble_eq_true rfl) (by rw [hR]; exact ⟨show w.1 + 0 ≤ 603072 by omega, show w.2 + 0 ≤ 7088234 by omega⟩) dL_law_1305 ?_
  show g_YP X _ _ 1308 [(4, .int i), (3, .ref ao), (2, .ref am), (1, .ref ax), (0, .ref b)] [.int r]
  refine p_aload_n C dL_law_1308 2 rfl rfl ?_
  refine p_aload_n C dL_law_1309 4 rfl rfl ?_
  refine p_iload C dL_law_1310 0 rfl ?_
  refine p_iconst (v := 1) C dL_law_1312 rfl ?_
  refine p_iadd C dL_law_1313 ?_
  refine p_sld C hX hb hbA h1 dL_law_1314 ?_
  refine p_aload_n C dL_law_1315 4 rfl rfl ?_
  refine p_iload C dL_law_1316 0 rfl ?_
  refine p_iconst (v := 2) C dL_law_1318 rfl ?_
  refine p_iadd C dL_law_1319 ?_
  refine p_sld C hX hb hbA h2 dL_law_1320 ?_
  refine p_callV (As := [.int (xs (i + 1).toNatClampNeg), .int (xs (i + 2).toNatClampNeg)]) (w1 := (0, 0)) C g_splM rfl (by decide) (fun _ => ⟨_, rfl⟩) (lkL_X0_195_X6_l2_w0 C hR) (fun ad A1 => ct_M_cock e2) rfl rfl (Nat.le_of_ble_eq_true rfl) (by rw [hR]; exact ⟨show w.1 + 0 + 0 ≤ 603072 by omega, show w.2 + 0 + 0 ≤ 7088234 by omega⟩) dL_law_1321 ?_
  show g_YP X _ _ 1324 [(4, .int i), (3, .ref ao), (2, .ref am), (1, .ref ax), (0, .ref b)] [.int r, .int r]
  refine p_icmp_eq (tgt := 1534) C dL_law_1324 rfl (fun _ => ?_) (fun hne => absurd rfl hne)
  exact p_widen ⟨show w.1 + 0 + 0 ≤ w.1 + 11 by omega, show w.2 + 0 + 0 ≤ w.2 + 196 by omega⟩ (next _ _ _ hI1)
theorem lc_law {Rel : Nat → g_S → g_S → Prop} {X : g_F} {b L ax am ao : Nat} {xs : Nat → Int32} (C : g_M gCl X cL_law RX0 ret) (hR : g_R X = room_1) (hX : va_X b L xs (g_s X) (g_s X).heap) (hb : b < (g_s X).heap.size) (hbA : ¬ g_A X b) (hnL : g_nL X = 8) (hlt : (g_l X).stackTraces = false) (hp : pr_law Rel) {σC σM : g_S} {o : Int64} {j : Nat} (hj : j < 65) (hI : Rel j σC σM) {i : Int32} (h1 : g_in (i + 1) L = true) (h2 : g_in (i + 2) L = true) (h3 : g_in (i + 3) L = true) (h4 : g_in (i + 4) L = true) {w : Nat × Nat} (hw : w.1 + 11 ≤ 603072 ∧ w.2 + 196 ≤ 7088234) (next : ∀ σC1 σM1 o1, Rel (j + 1) σC1 σM1 → g_YP X (g_P2 (g_D X) (g_dA X) (g_A X) ax am ao σC1 σM1 o1) (w.1 + 11, w.2 + 196) 1534 [(4, .int i), (3, .ref ao), (2, .ref am), (1, .ref ax), (0, .ref b)] []) : g_YP X (g_P2 (g_D X) (g_dA X) (g_A X) ax am ao σC σM o) w 1329 [(4, .int i), (3, .ref ao), (2, .ref am), (1, .ref ax), (0, .ref b)] [] := by
  obtain ⟨s1, hs1, r, σC1, σM1, e1, e2, hI1⟩ := hp j σC σM hj hI
  refine p_aload_n C dL_law_1329 3 rfl rfl ?_
  refine p_callVH (Z := fun v s2 => v = some (.int r) ∧ s2 = σC1) (As := []) (w1 := (3, 95)) C g_splC rfl (by decide) (fun _ => ⟨_, rfl⟩) (lkL_X0_196_X1_l307_w3 C hR) (fun ad A1 => ct_C1_law hlt hs1 e1) (fun _ _ _ _ hh => ⟨⟨hh.1, hh.2.1⟩, hh.2.2⟩) rfl rfl (Nat.le_of_ble_eq_true rfl) (by rw [hR]; exact ⟨show w.1 + 3 ≤ 603072 by omega, show w.2 + 95 ≤ 7088234 by omega⟩) dL_law_1330 ?_
  rintro _ _ ⟨rfl, rfl⟩
  show g_YP X _ _ 1333 [(4, .int i), (3, .ref ao), (2, .ref am), (1, .ref ax), (0, .ref b)] [.int r]
  refine p_aload_n C dL_law_1333 2 rfl rfl ?_
  refine p_callV (As := []) (w1 := (0, 0)) C g_splM rfl (by decide) (fun _ => ⟨_, rfl⟩) (lkL_X0_199_X6_l107_w0 C hR) (fun ad A1 => ct_M_law e2) rfl rfl (Nat.le_of_ble_eq_true rfl) (by rw [hR]; exact ⟨show w.1 + 3 + 0 ≤ 603072 by omega, show w.2 + 95 + 0 ≤ 7088234 by omega⟩) dL_law_1334 ?_
  show g_YP X _ _ 1337 [(4, .int i), (3, .ref ao), (2, .ref am), (1, .ref ax), (0, .ref b)] [.int r, .int r]
  refine p_icmp_eq (tgt := 1534) C dL_law_1337 rfl (fun _ => ?_) (fun hne => absurd rfl hne)
  exact p_widen ⟨show w.1 + 3 + 0 ≤ w.1 + 11 by omega, show w.2 + 95 + 0 ≤ w.2 + 196 by omega⟩ (next _ _ _ hI1)
theorem lc_rests {Rel : Nat → g_S → g_S → Prop} {X : g_F} {b L ax am ao : Nat} {xs : Nat → Int32} (C : g_M gCl X cL_law RX0 ret) (hR : g_R X = room_1) (hX : va_X b L xs (g_s X) (g_s X).heap) (hb : b < (g_s X).heap.size) (hbA : ¬ g_A X b) (hnL : g_nL X = 8) (hlt : (g_l X).stackTraces = false) (hp : pr_rests Rel) {σC σM : g_S} {o : Int64} {j : Nat} (hj : j < 65) (hI : Rel j σC σM) {i : Int32} (h1 : g_in (i + 1) L = true) (h2 : g_in (i + 2) L = true) (h3 : g_in (i + 3) L = true) (h4 : g_in (i + 4) L = true) {w : Nat × Nat} (hw : w.1 + 11 ≤ 603072 ∧ w.2 + 196 ≤ 7088234) (next : ∀ σC1 σM1 o1, Rel (j + 1) σC1 σM1 → g_YP X (g_P2 (g_D X) (g_dA X) (g_A X) ax am ao σC1 σM1 o1) (w.1 + 11, w.2 + 196) 1534 [(4, .int i), (3, .ref ao), (2, .ref am), (1, .ref ax), (0, .ref b)] []) : g_YP X (g_P2 (g_D X) (g_dA X) (g_A X) ax am ao σC σM o) w 1342 [(4, .int i), (3, .ref ao), (2, .ref am), (1, .ref ax), (0, .ref b)] [] := by
  obtain ⟨r, σC1, σM1, e1, e2, hI1⟩ := hp j σC σM (xs (i + 1).toNatClampNeg) hj hI
  refine p_aload_n C dL_law_1342 3 rfl rfl ?_
  refine p_aload_n C dL_law_1343 4 rfl rfl ?_
  refine p_iload C dL_law_1344 0 rfl ?_
  refine p_iconst (v := 1) C dL_law_1346 rfl ?_
  refine p_iadd C dL_law_1347 ?_
  refine p_sld C hX hb hbA h1 dL_law_1348 ?_
  refine p_callV (As := [.int (xs (i + 1).toNatClampNeg)]) (w1 := (0, 0)) C g_splC rfl (by decide) (fun _ => ⟨_, rfl⟩) (lkL_X0_200_X1_l3_w0 C hR) (fun ad A1 => ct_C1_rests e1) rfl rfl (Nat.le_of_ble_eq_true rfl) (by rw [hR]; exact ⟨show w.1 + 0 ≤ 603072 by omega, show w.2 + 0 ≤ 7088234 by omega⟩) dL_law_1349 ?_
  show g_YP X _ _ 1352 [(4, .int i), (3, .ref ao), (2, .ref am), (1, .ref ax), (0, .ref b)] [.int r]
  refine p_aload_n C dL_law_1352 2 rfl rfl ?_
  refine p_aload_n C dL_law_1353 4 rfl rfl ?_
  refine p_iload C dL_law_1354 0 rfl ?_
  refine p_iconst (v := 1) C dL_law_1356 rfl ?_
  refine p_iadd C dL_law_1357 ?_
  refine p_sld C hX hb hbA h1 dL_law_1358 ?_
  refine p_callV (As := [.int (xs (i + 1).toNatClampNeg)]) (w1 := (0, 0)) C g_splM rfl (by decide) (fun _ => ⟨_, rfl⟩) (lkL_X0_203_X6_l3_w0 C hR) (fun ad A1 => ct_M_rests e2) rfl rfl (Nat.le_of_ble_eq_true rfl) (by rw [hR]; exact ⟨show w.1 + 0 + 0 ≤ 603072 by omega, show w.2 + 0 + 0 ≤ 7088234 by omega⟩) dL_law_1359 ?_
  show g_YP X _ _ 1362 [(4, .int i), (3, .ref ao), (2, .ref am), (1, .ref ax), (0, .ref b)] [.int r, .int r]
  refine p_icmp_eq (tgt := 1534) C dL_law_1362 rfl (fun _ => ?_) (fun hne => absurd rfl hne)
  exact p_widen ⟨show w.1 + 0 + 0 ≤ w.1 + 11 by omega, show w.2 + 0 + 0 ≤ w.2 + 196 by omega⟩ (next _ _ _ hI1)
theorem lc_years {Rel : Nat → g_S → g_S → Prop} {X : g_F} {b L ax am ao : Nat} {xs : Nat → Int32} (C : g_M gCl X cL_law RX0 ret) (hR : g_R X = room_1) (hX : va_X b L xs (g_s X) (g_s X).heap) (hb : b < (g_s X).heap.size) (hbA : ¬ g_A X b) (hnL : g_nL X = 8) (hlt : (g_l X).stackTraces = false) (hp : pr_years Rel) {σC σM : g_S} {o : Int64} {j : Nat} (hj : j < 65) (hI : Rel j σC σM) {i : Int32} (h1 : g_in (i + 1) L = true) (h2 : g_in (i + 2) L = true) (h3 : g_in (i + 3) L = true) (h4 : g_in (i + 4) L = true) {w : Nat × Nat} (hw : w.1 + 11 ≤ 603072 ∧ w.2 + 196 ≤ 7088234) (next : ∀ σC1 σM1 o1, Rel (j + 1) σC1 σM1 → g_YP X (g_P2 (g_D X) (g_dA X) (g_A X) ax am ao σC1 σM1 o1) (w.1 + 11, w.2 + 196) 1534 [(4, .int i), (3, .ref ao), (2, .ref am), (1, .ref ax), (0, .ref b)] []) : g_YP X (g_P2 (g_D X) (g_dA X) (g_A X) ax am ao σC σM o) w 1367 [(4, .int i), (3, .ref ao), (2, .ref am), (1, .ref ax), (0, .ref b)] [] := by
  obtain ⟨r, σC1, σM1, e1, e2, hI1⟩ := hp j σC σM (xs (i + 1).toNatClampNeg) (xs (i + 2).toNatClampNeg) hj hI
  refine p_aload_n C dL_law_1367 3 rfl rfl ?_
  refine p_aload_n C dL_law_1368 4 rfl rfl ?_
  refine p_iload C dL_law_1369 0 rfl ?_
  refine p_iconst (v := 1) C dL_law_1371 rfl ?_
  refine p_iadd C dL_law_1372 ?_
  refine p_sld C hX hb hbA h1 dL_law_1373 ?_
  refine p_aload_n C dL_law_1374 4 rfl rfl ?_
  refine p_iload C dL_law_1375 0 rfl ?_
  refine p_iconst (v := 2) C dL_law_1377 rfl ?_
  refine p_iadd C dL_law_1378 ?_
  refine p_sld C hX hb hbA h2 dL_law_1379 ?_
  refine p_callV (As := [.int (xs (i + 1).toNatClampNeg), .int (xs (i + 2).toNatClampNeg)]) (w1 := (0, 0)) C g_splC rfl (by decide) (fun _ => ⟨_, rfl⟩) (lkL_X0_204_X1_l308_w0 C hR) (fun ad A1 => ct_C1_years e1) rfl rfl (Nat.le_of_ble_eq_true rfl) (by rw [hR]; exact ⟨show w.1 + 0 ≤ 603072 by omega, show w.2 + 0 ≤ 7088234 by omega⟩) dL_law_1380 ?_
  show g_YP X _ _ 1383 [(4, .int i), (3, .ref ao), (2, .ref am), (1, .ref ax), (0, .ref b)] [.int r]
  refine p_aload_n C dL_law_1383 2 rfl rfl ?_
  refine p_aload_n C dL_law_1384 4 rfl rfl ?_
  refine p_iload C dL_law_1385 0 rfl ?_
  refine p_iconst (v := 1) C dL_law_1387 rfl ?_
  refine p_iadd C dL_law_1388 ?_
  refine p_sld C hX hb hbA h1 dL_law_1389 ?_
  refine p_aload_n C dL_law_1390 4 rfl rfl ?_
  refine p_iload C dL_law_1391 0 rfl ?_
  refine p_iconst (v := 2) C dL_law_1393 rfl ?_
  refine p_iadd C dL_law_1394 ?_
  refine p_sld C hX hb hbA h2 dL_law_1395 ?_
  refine p_callV (As := [.int (xs (i + 1).toNatClampNeg), .int (xs (i + 2).toNatClampNeg)]) (w1 := (0, 0)) C g_splM rfl (by decide) (fun _ => ⟨_, rfl⟩) (lkL_X0_207_X6_l9_w0 C hR) (fun ad A1 => ct_M_years e2) rfl rfl (Nat.le_of_ble_eq_true rfl) (by rw [hR]; exact ⟨show w.1 + 0 + 0 ≤ 603072 by omega, show w.2 + 0 + 0 ≤ 7088234 by omega⟩) dL_law_1396 ?_
  show g_YP X _ _ 1399 [(4, .int i), (3, .ref ao), (2, .ref am), (1, .ref ax), (0, .ref b)] [.int r, .int r]
  refine p_icmp_eq (tgt := 1534) C dL_law_1399 rfl (fun _ => ?_) (fun hne => absurd rfl hne)
  exact p_widen ⟨show w.1 + 0 + 0 ≤ w.1 + 11 by omega, show w.2 + 0 + 0 ≤ w.2 + 196 by omega⟩ (next _ _ _ hI1)
theorem lc_keep {Rel : Nat → g_S → g_S → Prop} {X : g_F} {b L ax am ao : Nat} {xs : Nat → Int32} (C : g_M gCl X cL_law RX0 ret) (hR : g_R X = room_1) (hX : va_X b L xs (g_s X) (g_s X).heap) (hb : b < (g_s X).heap.size) (hbA : ¬ g_A X b) (hnL : g_nL X = 8) (hlt : (g_l X).stackTraces = false) (hp : pr_keep Rel) {σC σM : g_S} {o : Int64} {j : Nat} (hj : j < 65) (hI : Rel j σC σM) {i : Int32} (h1 : g_in (i + 1) L = true) (h2 : g_in (i + 2) L = true) (h3 : g_in (i + 3) L = true) (h4 : g_in (i + 4) L = true) {w : Nat × Nat} (hw : w.1 + 11 ≤ 603072 ∧ w.2 + 196 ≤ 7088234) (next : ∀ σC1 σM1 o1, Rel (j + 1) σC1 σM1 → g_YP X (g_P2 (g_D X) (g_dA X) (g_A X) ax am ao σC1 σM1 o1) (w.1 + 11, w.2 + 196) 1534 [(4, .int i), (3, .ref ao), (2, .ref am), (1, .ref ax), (0, .ref b)] []) : g_YP X (g_P2 (g_D X) (g_dA X) (g_A X) ax am ao σC σM o) w 1404 [(4, .int i), (3, .ref ao), (2, .ref am), (1, .ref ax), (0, .ref b)] [] := by
  obtain ⟨s1, hs1, r, σC1, σM1, e1, e2, hI1⟩ := hp j σC σM (xs (i + 1).toNatClampNeg) hj hI
  refine p_aload_n C dL_law_1404 3 rfl rfl ?_
  refine p_aload_n C dL_law_1405 4 rfl rfl ?_
  refine p_iload C dL_law_1406 0 rfl ?_
  refine p_iconst (v := 1) C dL_law_1408 rfl ?_
  refine p_iadd C dL_law_1409 ?_
  refine p_sld C hX hb hbA h1 dL_law_1410 ?_
  refine p_callVG (Z := fun v s2 => v = some (.int r) ∧ s2 = σC1) (As := [.int (xs (i + 1).toNatClampNeg)]) (w1 := (7, 49)) C g_splC rfl (by decide) (fun _ => ⟨_, rfl⟩) (lkL_X0_208_X1_l3_w7 C hR) (fun ad A1 => ct_C1_keep hs1 e1) (fun _ _ _ _ hh => ⟨⟨hh.1, hh.2.1⟩, hh.2.2⟩) rfl rfl (Nat.le_of_ble_eq_true rfl) (by rw [hR]; exact ⟨show w.1 + 7 ≤ 603072 by omega, show w.2 + 49 ≤ 7088234 by omega⟩) dL_law_1411 ?_
  rintro _ _ ⟨rfl, rfl⟩
  show g_YP X _ _ 1414 [(4, .int i), (3, .ref ao), (2, .ref am), (1, .ref ax), (0, .ref b)] [.int r]
  refine p_aload_n C dL_law_1414 2 rfl rfl ?_
  refine p_aload_n C dL_law_1415 4 rfl rfl ?_
  refine p_iload C dL_law_1416 0 rfl ?_
  refine p_iconst (v := 1) C dL_law_1418 rfl ?_
  refine p_iadd C dL_law_1419 ?_
  refine p_sld C hX hb hbA h1 dL_law_1420 ?_
  refine p_callV (As := [.int (xs (i + 1).toNatClampNeg)]) (w1 := (0, 0)) C g_splM rfl (by decide) (fun _ => ⟨_, rfl⟩) (lkL_X0_211_X6_l2_w0 C hR) (fun ad A1 => ct_M_keep e2) rfl rfl (Nat.le_of_ble_eq_true rfl) (by rw [hR]; exact ⟨show w.1 + 7 + 0 ≤ 603072 by omega, show w.2 + 49 + 0 ≤ 7088234 by omega⟩) dL_law_1421 ?_
  show g_YP X _ _ 1424 [(4, .int i), (3, .ref ao), (2, .ref am), (1, .ref ax), (0, .ref b)] [.int r, .int r]
  refine p_icmp_eq (tgt := 1534) C dL_law_1424 rfl (fun _ => ?_) (fun hne => absurd rfl hne)
  exact p_widen ⟨show w.1 + 7 + 0 ≤ w.1 + 11 by omega, show w.2 + 49 + 0 ≤ w.2 + 196 by omega⟩ (next _ _ _ hI1)
theorem lc_again {Rel : Nat → g_S → g_S → Prop} {X : g_F} {b L ax am ao : Nat} {xs : Nat → Int32} (C : g_M gCl X cL_law RX0 ret) (hR : g_R X = room_1) (hX : va_X b L xs (g_s X) (g_s X).heap) (hb : b < (g_s X).heap.size) (hbA : ¬ g_A X b) (hnL : g_nL X = 8) (hlt : (g_l X).stackTraces = false) (hp : pr_again Rel) {σC σM : g_S} {o : Int64} {j : Nat} (hj : j < 65) (hI : Rel j σC σM) {i : Int32} (h1 : g_in (i + 1) L = true) (h2 : g_in (i + 2) L = true) (h3 : g_in (i + 3) L = true) (h4 : g_in (i + 4) L = true) {w : Nat × Nat} (hw : w.1 + 11 ≤ 603072 ∧ w.2 + 196 ≤ 7088234) (next : ∀ σC1 σM1 o1, Rel (j + 1) σC1 σM1 → g_YP X (g_P2 (g_D X) (g_dA X) (g_A X) ax am ao σC1 σM1 o1) (w.1 + 11, w.2 + 196) 1534 [(4, .int i), (3, .ref ao), (2, .ref am), (1, .ref ax), (0, .ref b)] []) : g_YP X (g_P2 (g_D X) (g_dA X) (g_A X) ax am ao σC σM o) w 1429 [(4, .int i), (3, .ref ao), (2, .ref am), (1, .ref ax), (0, .ref b)] [] := by
  obtain ⟨r, σC1, σM1, e1, e2, hI1⟩ := hp j σC σM (xs (i + 1).toNatClampNeg) hj hI
  refine p_aload_n C dL_law_1429 3 rfl rfl ?_
  refine p_aload_n C dL_law_1430 4 rfl rfl ?_
  refine p_iload C dL_law_1431 0 rfl ?_
  refine p_iconst (v := 1) C dL_law_1433 rfl ?_
  refine p_iadd C dL_law_1434 ?_
  refine p_sld C hX hb hbA h1 dL_law_1435 ?_
  refine p_callV (As := [.int (xs (i + 1).toNatClampNeg)]) (w1 := (0, 0)) C g_splC rfl (by decide) (fun _ => ⟨_, rfl⟩) (lkL_X0_212_X1_l2_w0 C hR) (fun ad A1 => ct_C1_again e1) rfl rfl (Nat.le_of_ble_eq_true rfl) (by rw [hR]; exact ⟨show w.1 + 0 ≤ 603072 by omega, show w.2 + 0 ≤ 7088234 by omega⟩) dL_law_1436 ?_
  show g_YP X _ _ 1439 [(4, .int i), (3, .ref ao), (2, .ref am), (1, .ref ax), (0, .ref b)] [.int r]
  refine p_aload_n C dL_law_1439 2 rfl rfl ?_
  refine p_aload_n C dL_law_1440 4 rfl rfl ?_
  refine p_iload C dL_law_1441 0 rfl ?_
  refine p_iconst (v := 1) C dL_law_1443 rfl ?_
  refine p_iadd C dL_law_1444 ?_
  refine p_sld C hX hb hbA h1 dL_law_1445 ?_
  refine p_callV (As := [.int (xs (i + 1).toNatClampNeg)]) (w1 := (0, 0)) C g_splM rfl (by decide) (fun _ => ⟨_, rfl⟩) (lkL_X0_215_X6_l2_w0 C hR) (fun ad A1 => ct_M_again e2) rfl rfl (Nat.le_of_ble_eq_true rfl) (by rw [hR]; exact ⟨show w.1 + 0 + 0 ≤ 603072 by omega, show w.2 + 0 + 0 ≤ 7088234 by omega⟩) dL_law_1446 ?_
  show g_YP X _ _ 1449 [(4, .int i), (3, .ref ao), (2, .ref am), (1, .ref ax), (0, .ref b)] [.int r, .int r]
  refine p_icmp_eq (tgt := 1534) C dL_law_1449 rfl (fun _ => ?_) (fun hne => absurd rfl hne)
  exact p_widen ⟨show w.1 + 0 + 0 ≤ w.1 + 11 by omega, show w.2 + 0 + 0 ≤ w.2 + 196 by omega⟩ (next _ _ _ hI1)
theorem lc_count {Rel : Nat → g_S → g_S → Prop} {X : g_F} {b L ax am ao : Nat} {xs : Nat → Int32} (C : g_M gCl X cL_law RX0 ret) (hR : g_R X = room_1) (hX : va_X b L xs (g_s X) (g_s X).heap) (hb : b < (g_s X).heap.size) (hbA : ¬ g_A X b) (hnL : g_nL X = 8) (hlt : (g_l X).stackTraces = false) (hp : pr_count Rel) {σC σM : g_S} {o : Int64} {j : Nat} (hj : j < 65) (hI : Rel j σC σM) {i : Int32} (h1 : g_in (i + 1) L = true) (h2 : g_in (i + 2) L = true) (h3 : g_in (i + 3) L = true) (h4 : g_in (i + 4) L = true) {w : Nat × Nat} (hw : w.1 + 11 ≤ 603072 ∧ w.2 + 196 ≤ 7088234) (next : ∀ σC1 σM1 o1, Rel (j + 1) σC1 σM1 → g_YP X (g_P2 (g_D X) (g_dA X) (g_A X) ax am ao σC1 σM1 o1) (w.1 + 11, w.2 + 196) 1534 [(4, .int i), (3, .ref ao), (2, .ref am), (1, .ref ax), (0, .ref b)] []) : g_YP X (g_P2 (g_D X) (g_dA X) (g_A X) ax am ao σC σM o) w 1454 [(4, .int i), (3, .ref ao), (2, .ref am), (1, .ref ax), (0, .ref b)] [] := by
  obtain ⟨r, σC1, σM1, ⟨e1, rfl⟩, e2, hI1⟩ := hp j σC σM (xs (i + 1).toNatClampNeg) hj hI
  refine p_aload_n C dL_law_1454 3 rfl rfl ?_
  refine p_aload_n C dL_law_1455 4 rfl rfl ?_
  refine p_iload C dL_law_1456 0 rfl ?_
  refine p_iconst (v := 1) C dL_law_1458 rfl ?_
  refine p_iadd C dL_law_1459 ?_
  refine p_sld C hX hb hbA h1 dL_law_1460 ?_
  refine p_callV (As := [.int (xs (i + 1).toNatClampNeg)]) (w1 := (0, 0)) C g_splC rfl (by decide) (fun _ => ⟨_, rfl⟩) (lkL_X0_216_X1_l307_w0 C hR) (fun ad A1 => ct_C1_count e1) rfl rfl (Nat.le_of_ble_eq_true rfl) (by rw [hR]; exact ⟨show w.1 + 0 ≤ 603072 by omega, show w.2 + 0 ≤ 7088234 by omega⟩) dL_law_1461 ?_
  show g_YP X _ _ 1464 [(4, .int i), (3, .ref ao), (2, .ref am), (1, .ref ax), (0, .ref b)] [.int r]
  refine p_aload_n C dL_law_1464 2 rfl rfl ?_
  refine p_aload_n C dL_law_1465 4 rfl rfl ?_
  refine p_iload C dL_law_1466 0 rfl ?_
  refine p_iconst (v := 1) C dL_law_1468 rfl ?_
  refine p_iadd C dL_law_1469 ?_
  refine p_sld C hX hb hbA h1 dL_law_1470 ?_
  refine p_callV (As := [.int (xs (i + 1).toNatClampNeg)]) (w1 := (0, 0)) C g_splM rfl (by decide) (fun _ => ⟨_, rfl⟩) (lkL_X0_219_X6_l7_w0 C hR) (fun ad A1 => ct_M_count e2) rfl rfl (Nat.le_of_ble_eq_true rfl) (by rw [hR]; exact ⟨show w.1 + 0 + 0 ≤ 603072 by omega, show w.2 + 0 + 0 ≤ 7088234 by omega⟩) dL_law_1471 ?_
  show g_YP X _ _ 1474 [(4, .int i), (3, .ref ao), (2, .ref am), (1, .ref ax), (0, .ref b)] [.int r, .int r]
  refine p_icmp_eq (tgt := 1534) C dL_law_1474 rfl (fun _ => ?_) (fun hne => absurd rfl hne)
  exact p_widen ⟨show w.1 + 0 + 0 ≤ w.1 + 11 by omega, show w.2 + 0 + 0 ≤ w.2 + 196 by omega⟩ (next _ _ _ hI1)
theorem lc_row {Rel : Nat → g_S → g_S → Prop} {X : g_F} {b L ax am ao : Nat} {xs : Nat → Int32} (C : g_M gCl X cL_law RX0 ret) (hR : g_R X = room_1) (hX : va_X b L xs (g_s X) (g_s X).heap) (hb : b < (g_s X).heap.size) (hbA : ¬ g_A X b) (hnL : g_nL X = 8) (hlt : (g_l X).stackTraces = false) (hp : pr_row Rel) {σC σM : g_S} {o : Int64} {j : Nat} (hj : j < 65) (hI : Rel j σC σM) {i : Int32} (h1 : g_in (i + 1) L = true) (h2 : g_in (i + 2) L = true) (h3 : g_in (i + 3) L = true) (h4 : g_in (i + 4) L = true) {w : Nat × Nat} (hw : w.1 + 11 ≤ 603072 ∧ w.2 + 196 ≤ 7088234) (next : ∀ σC1 σM1 o1, Rel (j + 1) σC1 σM1 → g_YP X (g_P2 (g_D X) (g_dA X) (g_A X) ax am ao σC1 σM1 o1) (w.1 + 11, w.2 + 196) 1534 [(4, .int i), (3, .ref ao), (2, .ref am), (1, .ref ax), (0, .ref b)] []) : g_YP X (g_P2 (g_D X) (g_dA X) (g_A X) ax am ao σC σM o) w 1479 [(4, .int i), (3, .ref ao), (2, .ref am), (1, .ref ax), (0, .ref b)] [] := by
  obtain ⟨oo, r, σM1, k, e1, e2, e3, e4, hI1⟩ := hp j σC σM (xs (i + 1).toNatClampNeg) hj hI
  rcases e4 with ⟨rfl, rfl⟩ | ⟨rfl, rfl⟩
  · refine p_aload_n C dL_law_1479 3 rfl rfl ?_
    refine p_aload_n C dL_law_1480 4 rfl rfl ?_
    refine p_iload C dL_law_1481 0 rfl ?_
    refine p_iconst (v := 1) C dL_law_1483 rfl ?_
    refine p_iadd C dL_law_1484 ?_
    refine p_sld C hX hb hbA h1 dL_law_1485 ?_
    refine p_aload_n C dL_law_1486 1 rfl rfl ?_
    refine p_callSP (As := [.ref ax, .int (xs (i + 1).toNatClampNeg), .ref ao]) (w1 := (1, 6)) C (lkL_S_row C hR) (ct_X0_row_t hlt e1) rfl rfl (Nat.le_of_ble_eq_true rfl) (by rw [hR]; exact ⟨show w.1 + 1 ≤ 603072 by omega, show w.2 + 6 ≤ 7088234 by omega⟩) dL_law_1487 ?_
    show g_YP X _ _ 1490 [(4, .int i), (3, .ref ao), (2, .ref am), (1, .ref ax), (0, .ref b)] [.int 1]
    refine p_istore (vs1 := [(5, .int 1), (4, .int i), (3, .ref ao), (2, .ref am), (1, .ref ax), (0, .ref b)]) C rfl dL_law_1490 (by rw [hnL]; decide) rfl ?_
    refine p_aload_n C dL_law_1492 3 rfl rfl ?_
    refine p_aload_n C dL_law_1493 5 rfl rfl ?_
    refine p_iload C dL_law_1494 1 rfl ?_
    refine p_iconst (v := 1) C dL_law_1496 rfl ?_
    refine p_iadd C dL_law_1497 ?_
    refine p_sld C hX hb hbA h1 dL_law_1498 ?_
    refine p_callV (As := [.int (xs (i + 1).toNatClampNeg)]) (w1 := (0, 0)) C g_splM rfl (by decide) (fun _ => ⟨_, rfl⟩) (lkL_X0_223_X6_l2_w0 C hR) (fun ad A1 => ct_M_row e2) rfl rfl (Nat.le_of_ble_eq_true rfl) (by rw [hR]; exact ⟨show w.1 + 1 + 0 ≤ 603072 by omega, show w.2 + 6 + 0 ≤ 7088234 by omega⟩) dL_law_1499 ?_
    show g_YP X _ _ 1502 [(5, .int 1), (4, .int i), (3, .ref ao), (2, .ref am), (1, .ref ax), (0, .ref b)] [.long r]
    refine p_lstore (vs1 := [(6, .long r), (5, .int 1), (4, .int i), (3, .ref ao), (2, .ref am), (1, .ref ax), (0, .ref b)]) C rfl dL_law_1502 (by rw [hnL]; decide) rfl ?_
    refine p_aload_n C dL_law_1504 4 rfl rfl ?_
    refine p_callV (As := []) (w1 := (0, 0)) C g_splM rfl (by decide) (fun _ => ⟨_, rfl⟩) (lkL_X0_63_X6_l1_w0 C hR) (fun ad A1 => ct_M_thrown e3) rfl rfl (Nat.le_of_ble_eq_true rfl) (by rw [hR]; exact ⟨show w.1 + 1 + 0 + 0 ≤ 603072 by omega, show w.2 + 6 + 0 + 0 ≤ 7088234 by omega⟩) dL_law_1505 ?_
    show g_YP X _ _ 1508 [(6, .long r), (5, .int 1), (4, .int i), (3, .ref ao), (2, .ref am), (1, .ref ax), (0, .ref b)] [.int 1]
    refine p_iload C dL_law_1508 1 rfl ?_
    refine p_icmp_eq (tgt := 1515) C dL_law_1510 rfl (fun _ => ?_) (fun hne => absurd rfl hne)
    refine p_iload C dL_law_1515 1 rfl ?_
    refine p_if_ne (tgt := 1531) C dL_law_1517 rfl (fun _ => ?_) (fun hne => absurd hne (by decide))
    refine p_goto (tgt := 1534) C dL_law_1531 rfl ?_
    refine p_sub [2, 3, 4, 5, 6] rfl ?_
    exact p_widen ⟨show w.1 + 1 + 0 + 0 ≤ w.1 + 11 by omega, show w.2 + 6 + 0 + 0 ≤ w.2 + 196 by omega⟩ (next _ _ _ hI1)
  · refine p_aload_n C dL_law_1479 3 rfl rfl ?_
    refine p_aload_n C dL_law_1480 4 rfl rfl ?_
    refine p_iload C dL_law_1481 0 rfl ?_
    refine p_iconst (v := 1) C dL_law_1483 rfl ?_
    refine p_iadd C dL_law_1484 ?_
    refine p_sld C hX hb hbA h1 dL_law_1485 ?_
    refine p_aload_n C dL_law_1486 1 rfl rfl ?_
    refine p_callSP (As := [.ref ax, .int (xs (i + 1).toNatClampNeg), .ref ao]) (w1 := (1, 6)) C (lkL_S_row C hR) (ct_X0_row_r hlt e1) rfl rfl (Nat.le_of_ble_eq_true rfl) (by rw [hR]; exact ⟨show w.1 + 1 ≤ 603072 by omega, show w.2 + 6 ≤ 7088234 by omega⟩) dL_law_1487 ?_
    show g_YP X _ _ 1490 [(4, .int i), (3, .ref ao), (2, .ref am), (1, .ref ax), (0, .ref b)] [.int 0]
    refine p_istore (vs1 := [(5, .int 0), (4, .int i), (3, .ref ao), (2, .ref am), (1, .ref ax), (0, .ref b)]) C rfl dL_law_1490 (by rw [hnL]; decide) rfl ?_
    refine p_aload_n C dL_law_1492 3 rfl rfl ?_
    refine p_aload_n C dL_law_1493 5 rfl rfl ?_
    refine p_iload C dL_law_1494 1 rfl ?_
    refine p_iconst (v := 1) C dL_law_1496 rfl ?_
    refine p_iadd C dL_law_1497 ?_
    refine p_sld C hX hb hbA h1 dL_law_1498 ?_
    refine p_callV (As := [.int (xs (i + 1).toNatClampNeg)]) (w1 := (0, 0)) C g_splM rfl (by decide) (fun _ => ⟨_, rfl⟩) (lkL_X0_223_X6_l2_w0 C hR) (fun ad A1 => ct_M_row e2) rfl rfl (Nat.le_of_ble_eq_true rfl) (by rw [hR]; exact ⟨show w.1 + 1 + 0 ≤ 603072 by omega, show w.2 + 6 + 0 ≤ 7088234 by omega⟩) dL_law_1499 ?_
    show g_YP X _ _ 1502 [(5, .int 0), (4, .int i), (3, .ref ao), (2, .ref am), (1, .ref ax), (0, .ref b)] [.long r]
    refine p_lstore (vs1 := [(6, .long r), (5, .int 0), (4, .int i), (3, .ref ao), (2, .ref am), (1, .ref ax), (0, .ref b)]) C rfl dL_law_1502 (by rw [hnL]; decide) rfl ?_
    refine p_aload_n C dL_law_1504 4 rfl rfl ?_
    refine p_callV (As := []) (w1 := (0, 0)) C g_splM rfl (by decide) (fun _ => ⟨_, rfl⟩) (lkL_X0_63_X6_l1_w0 C hR) (fun ad A1 => ct_M_thrown e3) rfl rfl (Nat.le_of_ble_eq_true rfl) (by rw [hR]; exact ⟨show w.1 + 1 + 0 + 0 ≤ 603072 by omega, show w.2 + 6 + 0 + 0 ≤ 7088234 by omega⟩) dL_law_1505 ?_
    show g_YP X _ _ 1508 [(6, .long r), (5, .int 0), (4, .int i), (3, .ref ao), (2, .ref am), (1, .ref ax), (0, .ref b)] [.int 0]
    refine p_iload C dL_law_1508 1 rfl ?_
    refine p_icmp_eq (tgt := 1515) C dL_law_1510 rfl (fun _ => ?_) (fun hne => absurd rfl hne)
    refine p_iload C dL_law_1515 1 rfl ?_
    refine p_if_ne (tgt := 1531) C dL_law_1517 rfl (fun hne => absurd rfl hne) (fun _ => ?_)
    show g_YP X _ _ 1520 [(6, .long r), (5, .int 0), (4, .int i), (3, .ref ao), (2, .ref am), (1, .ref ax), (0, .ref b)] []
    refine p_aload_n C dL_law_1520 3 rfl rfl ?_
    refine p_iconst (v := 0) C dL_law_1521 rfl ?_
    refine p_lald C dL_law_1522 ?_
    refine p_lload C dL_law_1523 0 rfl ?_
    refine p_lcmp C dL_law_1525 ?_
    refine p_if_eq (tgt := 1531) C dL_law_1526 rfl (fun _ => ?_) (fun hne => absurd (g_cmp0 _) hne)
    refine p_goto (tgt := 1534) C dL_law_1531 rfl ?_
    refine p_sub [2, 3, 4, 5, 6] rfl ?_
    exact p_widen ⟨show w.1 + 1 + 0 + 0 ≤ w.1 + 11 by omega, show w.2 + 6 + 0 + 0 ≤ w.2 + 196 by omega⟩ (next _ _ _ hI1)
