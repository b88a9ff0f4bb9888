theorem hdV_X0_cell : yX0_cell.cls = RX0 ∧ yX0_cell.cls ≠ "java/lang/invoke/MethodHandle" ∧ yX0_cell.cls ≠ "java/lang/invoke/VarHandle" ∧ (parseMethodDescriptor yX0_cell.desc).map (fun d => d.parameters.length) = some 3 := by decide +kernel
theorem hdV_X13_cell : yX13_cell.cls = RX13 ∧ yX13_cell.cls ≠ "java/lang/invoke/MethodHandle" ∧ yX13_cell.cls ≠ "java/lang/invoke/VarHandle" ∧ (parseMethodDescriptor yX13_cell.desc).map (fun d => d.parameters.length) = some 3 := by decide +kernel
theorem hdV_X0_cellOf : yX0_cellOf.cls = RX0 ∧ yX0_cellOf.cls ≠ "java/lang/invoke/MethodHandle" ∧ yX0_cellOf.cls ≠ "java/lang/invoke/VarHandle" ∧ (parseMethodDescriptor yX0_cellOf.desc).map (fun d => d.parameters.length) = some 2 := by decide +kernel
theorem hdV_X13_cellOf : yX13_cellOf.cls = RX13 ∧ yX13_cellOf.cls ≠ "java/lang/invoke/MethodHandle" ∧ yX13_cellOf.cls ≠ "java/lang/invoke/VarHandle" ∧ (parseMethodDescriptor yX13_cellOf.desc).map (fun d => d.parameters.length) = some 2 := by decide +kernel
theorem hdV_X0_mouse : yX0_mouse.cls = RX0 ∧ yX0_mouse.cls ≠ "java/lang/invoke/MethodHandle" ∧ yX0_mouse.cls ≠ "java/lang/invoke/VarHandle" ∧ (parseMethodDescriptor yX0_mouse.desc).map (fun d => d.parameters.length) = some 2 := by decide +kernel
theorem hdV_X13_mouse : yX13_mouse.cls = RX13 ∧ yX13_mouse.cls ≠ "java/lang/invoke/MethodHandle" ∧ yX13_mouse.cls ≠ "java/lang/invoke/VarHandle" ∧ (parseMethodDescriptor yX13_mouse.desc).map (fun d => d.parameters.length) = some 2 := by decide +kernel
theorem hdV_X0_owl : yX0_owl.cls = RX0 ∧ yX0_owl.cls ≠ "java/lang/invoke/MethodHandle" ∧ yX0_owl.cls ≠ "java/lang/invoke/VarHandle" ∧ (parseMethodDescriptor yX0_owl.desc).map (fun d => d.parameters.length) = some 2 := by decide +kernel
theorem hdV_X13_owl : yX13_owl.cls = RX13 ∧ yX13_owl.cls ≠ "java/lang/invoke/MethodHandle" ∧ yX13_owl.cls ≠ "java/lang/invoke/VarHandle" ∧ (parseMethodDescriptor yX13_owl.desc).map (fun d => d.parameters.length) = some 2 := by decide +kernel
theorem hdV_X0_told : yX0_told.cls = RX0 ∧ yX0_told.cls ≠ "java/lang/invoke/MethodHandle" ∧ yX0_told.cls ≠ "java/lang/invoke/VarHandle" ∧ (parseMethodDescriptor yX0_told.desc).map (fun d => d.parameters.length) = some 1 := by decide +kernel
theorem hdV_X13_told : yX13_told.cls = RX13 ∧ yX13_told.cls ≠ "java/lang/invoke/MethodHandle" ∧ yX13_told.cls ≠ "java/lang/invoke/VarHandle" ∧ (parseMethodDescriptor yX13_told.desc).map (fun d => d.parameters.length) = some 1 := by decide +kernel
theorem hdV_X0_strike : yX0_strike.cls = RX0 ∧ yX0_strike.cls ≠ "java/lang/invoke/MethodHandle" ∧ yX0_strike.cls ≠ "java/lang/invoke/VarHandle" ∧ (parseMethodDescriptor yX0_strike.desc).map (fun d => d.parameters.length) = some 2 := by decide +kernel
theorem hdV_X13_strike : yX13_strike.cls = RX13 ∧ yX13_strike.cls ≠ "java/lang/invoke/MethodHandle" ∧ yX13_strike.cls ≠ "java/lang/invoke/VarHandle" ∧ (parseMethodDescriptor yX13_strike.desc).map (fun d => d.parameters.length) = some 2 := by decide +kernel
theorem hdV_X0_of : yX0_of.cls = RX0 ∧ yX0_of.cls ≠ "java/lang/invoke/MethodHandle" ∧ yX0_of.cls ≠ "java/lang/invoke/VarHandle" ∧ (parseMethodDescriptor yX0_of.desc).map (fun d => d.parameters.length) = some 2 := by decide +kernel
theorem hdV_X13_of : yX13_of.cls = RX13 ∧ yX13_of.cls ≠ "java/lang/invoke/MethodHandle" ∧ yX13_of.cls ≠ "java/lang/invoke/VarHandle" ∧ (parseMethodDescriptor yX13_of.desc).map (fun d => d.parameters.length) = some 2 := by decide +kernel
theorem hdV_X0_change : yX0_change.cls = RX0 ∧ yX0_change.cls ≠ "java/lang/invoke/MethodHandle" ∧ yX0_change.cls ≠ "java/lang/invoke/VarHandle" ∧ (parseMethodDescriptor yX0_change.desc).map (fun d => d.parameters.length) = some 3 := by decide +kernel
theorem hdV_X13_change : yX13_change.cls = RX13 ∧ yX13_change.cls ≠ "java/lang/invoke/MethodHandle" ∧ yX13_change.cls ≠ "java/lang/invoke/VarHandle" ∧ (parseMethodDescriptor yX13_change.desc).map (fun d => d.parameters.length) = some 3 := by decide +kernel
theorem hdV_X0_strikes : yX0_strikes.cls = RX0 ∧ yX0_strikes.cls ≠ "java/lang/invoke/MethodHandle" ∧ yX0_strikes.cls ≠ "java/lang/invoke/VarHandle" ∧ (parseMethodDescriptor yX0_strikes.desc).map (fun d => d.parameters.length) = some 1 := by decide +kernel
theorem hdV_X13_strikes : yX13_strikes.cls = RX13 ∧ yX13_strikes.cls ≠ "java/lang/invoke/MethodHandle" ∧ yX13_strikes.cls ≠ "java/lang/invoke/VarHandle" ∧ (parseMethodDescriptor yX13_strikes.desc).map (fun d => d.parameters.length) = some 1 := by decide +kernel
theorem hdV_X0_go : yX0_go.cls = RX0 ∧ yX0_go.cls ≠ "java/lang/invoke/MethodHandle" ∧ yX0_go.cls ≠ "java/lang/invoke/VarHandle" ∧ (parseMethodDescriptor yX0_go.desc).map (fun d => d.parameters.length) = some 1 := by decide +kernel
theorem hdV_X13_go : yX13_go.cls = RX13 ∧ yX13_go.cls ≠ "java/lang/invoke/MethodHandle" ∧ yX13_go.cls ≠ "java/lang/invoke/VarHandle" ∧ (parseMethodDescriptor yX13_go.desc).map (fun d => d.parameters.length) = some 1 := by decide +kernel
theorem hdV_X0_now : yX0_now.cls = RX0 ∧ yX0_now.cls ≠ "java/lang/invoke/MethodHandle" ∧ yX0_now.cls ≠ "java/lang/invoke/VarHandle" ∧ (parseMethodDescriptor yX0_now.desc).map (fun d => d.parameters.length) = some 1 := by decide +kernel
theorem hdV_X13_now : yX13_now.cls = RX13 ∧ yX13_now.cls ≠ "java/lang/invoke/MethodHandle" ∧ yX13_now.cls ≠ "java/lang/invoke/VarHandle" ∧ (parseMethodDescriptor yX13_now.desc).map (fun d => d.parameters.length) = some 1 := by decide +kernel
theorem hdV_X0_ear : yX0_ear.cls = RX0 ∧ yX0_ear.cls ≠ "java/lang/invoke/MethodHandle" ∧ yX0_ear.cls ≠ "java/lang/invoke/VarHandle" ∧ (parseMethodDescriptor yX0_ear.desc).map (fun d => d.parameters.length) = some 1 := by decide +kernel
theorem hdV_X13_ear : yX13_ear.cls = RX13 ∧ yX13_ear.cls ≠ "java/lang/invoke/MethodHandle" ∧ yX13_ear.cls ≠ "java/lang/invoke/VarHandle" ∧ (parseMethodDescriptor yX13_ear.desc).map (fun d => d.parameters.length) = some 1 := by decide +kernel
theorem hdV_X0_where : yX0_where.cls = RX0 ∧ yX0_where.cls ≠ "java/lang/invoke/MethodHandle" ∧ yX0_where.cls ≠ "java/lang/invoke/VarHandle" ∧ (parseMethodDescriptor yX0_where.desc).map (fun d => d.parameters.length) = some 1 := by decide +kernel
theorem hdV_X13_where : yX13_where.cls = RX13 ∧ yX13_where.cls ≠ "java/lang/invoke/MethodHandle" ∧ yX13_where.cls ≠ "java/lang/invoke/VarHandle" ∧ (parseMethodDescriptor yX13_where.desc).map (fun d => d.parameters.length) = some 1 := by decide +kernel
theorem hdV_X0_heard : yX0_heard.cls = RX0 ∧ yX0_heard.cls ≠ "java/lang/invoke/MethodHandle" ∧ yX0_heard.cls ≠ "java/lang/invoke/VarHandle" ∧ (parseMethodDescriptor yX0_heard.desc).map (fun d => d.parameters.length) = some 1 := by decide +kernel
theorem hdV_X13_heard : yX13_heard.cls = RX13 ∧ yX13_heard.cls ≠ "java/lang/invoke/MethodHandle" ∧ yX13_heard.cls ≠ "java/lang/invoke/VarHandle" ∧ (parseMethodDescriptor yX13_heard.desc).map (fun d => d.parameters.length) = some 1 := by decide +kernel
theorem hdV_X0_when : yX0_when.cls = RX0 ∧ yX0_when.cls ≠ "java/lang/invoke/MethodHandle" ∧ yX0_when.cls ≠ "java/lang/invoke/VarHandle" ∧ (parseMethodDescriptor yX0_when.desc).map (fun d => d.parameters.length) = some 1 := by decide +kernel
theorem hdV_X13_when : yX13_when.cls = RX13 ∧ yX13_when.cls ≠ "java/lang/invoke/MethodHandle" ∧ yX13_when.cls ≠ "java/lang/invoke/VarHandle" ∧ (parseMethodDescriptor yX13_when.desc).map (fun d => d.parameters.length) = some 1 := by decide +kernel
theorem hdV_X0_rustle : yX0_rustle.cls = RX0 ∧ yX0_rustle.cls ≠ "java/lang/invoke/MethodHandle" ∧ yX0_rustle.cls ≠ "java/lang/invoke/VarHandle" ∧ (parseMethodDescriptor yX0_rustle.desc).map (fun d => d.parameters.length) = some 0 := by decide +kernel
theorem hdV_X13_rustle : yX13_rustle.cls = RX13 ∧ yX13_rustle.cls ≠ "java/lang/invoke/MethodHandle" ∧ yX13_rustle.cls ≠ "java/lang/invoke/VarHandle" ∧ (parseMethodDescriptor yX13_rustle.desc).map (fun d => d.parameters.length) = some 0 := by decide +kernel
theorem hdV_X0_run : yX0_run.cls = RX0 ∧ yX0_run.cls ≠ "java/lang/invoke/MethodHandle" ∧ yX0_run.cls ≠ "java/lang/invoke/VarHandle" ∧ (parseMethodDescriptor yX0_run.desc).map (fun d => d.parameters.length) = some 1 := by decide +kernel
theorem hdV_X13_run : yX13_run.cls = RX13 ∧ yX13_run.cls ≠ "java/lang/invoke/MethodHandle" ∧ yX13_run.cls ≠ "java/lang/invoke/VarHandle" ∧ (parseMethodDescriptor yX13_run.desc).map (fun d => d.parameters.length) = some 1 := by decide +kernel
theorem hdV_X0_soonest : yX0_soonest.cls = RX0 ∧ yX0_soonest.cls ≠ "java/lang/invoke/MethodHandle" ∧ yX0_soonest.cls ≠ "java/lang/invoke/VarHandle" ∧ (parseMethodDescriptor yX0_soonest.desc).map (fun d => d.parameters.length) = some 1 := by decide +kernel
theorem hdV_X13_soonest : yX13_soonest.cls = RX13 ∧ yX13_soonest.cls ≠ "java/lang/invoke/MethodHandle" ∧ yX13_soonest.cls ≠ "java/lang/invoke/VarHandle" ∧ (parseMethodDescriptor yX13_soonest.desc).map (fun d => d.parameters.length) = some 1 := by decide +kernel
theorem hdV_X0_chances : yX0_chances.cls = RX0 ∧ yX0_chances.cls ≠ "java/lang/invoke/MethodHandle" ∧ yX0_chances.cls ≠ "java/lang/invoke/VarHandle" ∧ (parseMethodDescriptor yX0_chances.desc).map (fun d => d.parameters.length) = some 2 := by decide +kernel
theorem hdV_X13_chances : yX13_chances.cls = RX13 ∧ yX13_chances.cls ≠ "java/lang/invoke/MethodHandle" ∧ yX13_chances.cls ≠ "java/lang/invoke/VarHandle" ∧ (parseMethodDescriptor yX13_chances.desc).map (fun d => d.parameters.length) = some 2 := by decide +kernel
theorem hdV_X0_aim : yX0_aim.cls = RX0 ∧ yX0_aim.cls ≠ "java/lang/invoke/MethodHandle" ∧ yX0_aim.cls ≠ "java/lang/invoke/VarHandle" ∧ (parseMethodDescriptor yX0_aim.desc).map (fun d => d.parameters.length) = some 1 := by decide +kernel
theorem hdV_X13_aim : yX13_aim.cls = RX13 ∧ yX13_aim.cls ≠ "java/lang/invoke/MethodHandle" ∧ yX13_aim.cls ≠ "java/lang/invoke/VarHandle" ∧ (parseMethodDescriptor yX13_aim.desc).map (fun d => d.parameters.length) = some 1 := by decide +kernel
theorem hdV_X0_aims : yX0_aims.cls = RX0 ∧ yX0_aims.cls ≠ "java/lang/invoke/MethodHandle" ∧ yX0_aims.cls ≠ "java/lang/invoke/VarHandle" ∧ (parseMethodDescriptor yX0_aims.desc).map (fun d => d.parameters.length) = some 1 := by decide +kernel
theorem hdV_X13_aims : yX13_aims.cls = RX13 ∧ yX13_aims.cls ≠ "java/lang/invoke/MethodHandle" ∧ yX13_aims.cls ≠ "java/lang/invoke/VarHandle" ∧ (parseMethodDescriptor yX13_aims.desc).map (fun d => d.parameters.length) = some 1 := by decide +kernel
theorem hdV_X0_kinds : yX0_kinds.cls = RX0 ∧ yX0_kinds.cls ≠ "java/lang/invoke/MethodHandle" ∧ yX0_kinds.cls ≠ "java/lang/invoke/VarHandle" ∧ (parseMethodDescriptor yX0_kinds.desc).map (fun d => d.parameters.length) = some 1 := by decide +kernel
theorem hdV_X13_kinds : yX13_kinds.cls = RX13 ∧ yX13_kinds.cls ≠ "java/lang/invoke/MethodHandle" ∧ yX13_kinds.cls ≠ "java/lang/invoke/VarHandle" ∧ (parseMethodDescriptor yX13_kinds.desc).map (fun d => d.parameters.length) = some 1 := by decide +kernel
theorem hdV_X0_waitFor : yX0_waitFor.cls = RX0 ∧ yX0_waitFor.cls ≠ "java/lang/invoke/MethodHandle" ∧ yX0_waitFor.cls ≠ "java/lang/invoke/VarHandle" ∧ (parseMethodDescriptor yX0_waitFor.desc).map (fun d => d.parameters.length) = some 1 := by decide +kernel
theorem hdV_X13_waitFor : yX13_waitFor.cls = RX13 ∧ yX13_waitFor.cls ≠ "java/lang/invoke/MethodHandle" ∧ yX13_waitFor.cls ≠ "java/lang/invoke/VarHandle" ∧ (parseMethodDescriptor yX13_waitFor.desc).map (fun d => d.parameters.length) = some 1 := by decide +kernel
theorem hdV_X0_best : yX0_best.cls = RX0 ∧ yX0_best.cls ≠ "java/lang/invoke/MethodHandle" ∧ yX0_best.cls ≠ "java/lang/invoke/VarHandle" ∧ (parseMethodDescriptor yX0_best.desc).map (fun d => d.parameters.length) = some 1 := by decide +kernel
theorem hdV_X13_best : yX13_best.cls = RX13 ∧ yX13_best.cls ≠ "java/lang/invoke/MethodHandle" ∧ yX13_best.cls ≠ "java/lang/invoke/VarHandle" ∧ (parseMethodDescriptor yX13_best.desc).map (fun d => d.parameters.length) = some 1 := by decide +kernel
theorem hdV_X0_post : yX0_post.cls = RX0 ∧ yX0_post.cls ≠ "java/lang/invoke/MethodHandle" ∧ yX0_post.cls ≠ "java/lang/invoke/VarHandle" ∧ (parseMethodDescriptor yX0_post.desc).map (fun d => d.parameters.length) = some 1 := by decide +kernel
theorem hdV_X13_post : yX13_post.cls = RX13 ∧ yX13_post.cls ≠ "java/lang/invoke/MethodHandle" ∧ yX13_post.cls ≠ "java/lang/invoke/VarHandle" ∧ (parseMethodDescriptor yX13_post.desc).map (fun d => d.parameters.length) = some 1 := by decide +kernel
theorem hdV_X0_face : yX0_face.cls = RX0 ∧ yX0_face.cls ≠ "java/lang/invoke/MethodHandle" ∧ yX0_face.cls ≠ "java/lang/invoke/VarHandle" ∧ (parseMethodDescriptor yX0_face.desc).map (fun d => d.parameters.length) = some 1 := by decide +kernel
theorem hdV_X13_face : yX13_face.cls = RX13 ∧ yX13_face.cls ≠ "java/lang/invoke/MethodHandle" ∧ yX13_face.cls ≠ "java/lang/invoke/VarHandle" ∧ (parseMethodDescriptor yX13_face.desc).map (fun d => d.parameters.length) = some 1 := by decide +kernel
theorem hdV_X0_rhythm : yX0_rhythm.cls = RX0 ∧ yX0_rhythm.cls ≠ "java/lang/invoke/MethodHandle" ∧ yX0_rhythm.cls ≠ "java/lang/invoke/VarHandle" ∧ (parseMethodDescriptor yX0_rhythm.desc).map (fun d => d.parameters.length) = some 2 := by decide +kernel
theorem hdV_X13_rhythm : yX13_rhythm.cls = RX13 ∧ yX13_rhythm.cls ≠ "java/lang/invoke/MethodHandle" ∧ yX13_rhythm.cls ≠ "java/lang/invoke/VarHandle" ∧ (parseMethodDescriptor yX13_rhythm.desc).map (fun d => d.parameters.length) = some 2 := by decide +kernel
theorem hdV_X0_least : yX0_least.cls = RX0 ∧ yX0_least.cls ≠ "java/lang/invoke/MethodHandle" ∧ yX0_least.cls ≠ "java/lang/invoke/VarHandle" ∧ (parseMethodDescriptor yX0_least.desc).map (fun d => d.parameters.length) = some 2 := by decide +kernel
theorem hdV_X13_least : yX13_least.cls = RX13 ∧ yX13_least.cls ≠ "java/lang/invoke/MethodHandle" ∧ yX13_least.cls ≠ "java/lang/invoke/VarHandle" ∧ (parseMethodDescriptor yX13_least.desc).map (fun d => d.parameters.length) = some 2 := by decide +kernel
theorem hdV_X0_fits : yX0_fits.cls = RX0 ∧ yX0_fits.cls ≠ "java/lang/invoke/MethodHandle" ∧ yX0_fits.cls ≠ "java/lang/invoke/VarHandle" ∧ (parseMethodDescriptor yX0_fits.desc).map (fun d => d.parameters.length) = some 2 := by decide +kernel
theorem hdV_X13_fits : yX13_fits.cls = RX13 ∧ yX13_fits.cls ≠ "java/lang/invoke/MethodHandle" ∧ yX13_fits.cls ≠ "java/lang/invoke/VarHandle" ∧ (parseMethodDescriptor yX13_fits.desc).map (fun d => d.parameters.length) = some 2 := by decide +kernel
theorem hdV_X0_headings : yX0_headings.cls = RX0 ∧ yX0_headings.cls ≠ "java/lang/invoke/MethodHandle" ∧ yX0_headings.cls ≠ "java/lang/invoke/VarHandle" ∧ (parseMethodDescriptor yX0_headings.desc).map (fun d => d.parameters.length) = some 2 := by decide +kernel
theorem hdV_X13_headings : yX13_headings.cls = RX13 ∧ yX13_headings.cls ≠ "java/lang/invoke/MethodHandle" ∧ yX13_headings.cls ≠ "java/lang/invoke/VarHandle" ∧ (parseMethodDescriptor yX13_headings.desc).map (fun d => d.parameters.length) = some 2 := by decide +kernel
theorem hdV_X0_leaves : yX0_leaves.cls = RX0 ∧ yX0_leaves.cls ≠ "java/lang/invoke/MethodHandle" ∧ yX0_leaves.cls ≠ "java/lang/invoke/VarHandle" ∧ (parseMethodDescriptor yX0_leaves.desc).map (fun d => d.parameters.length) = some 1 := by decide +kernel
theorem hdV_X13_leaves : yX13_leaves.cls = RX13 ∧ yX13_leaves.cls ≠ "java/lang/invoke/MethodHandle" ∧ yX13_leaves.cls ≠ "java/lang/invoke/VarHandle" ∧ (parseMethodDescriptor yX13_leaves.desc).map (fun d => d.parameters.length) = some 1 := by decide +kernel
theorem hdV_X0_odds : yX0_odds.cls = RX0 ∧ yX0_odds.cls ≠ "java/lang/invoke/MethodHandle" ∧ yX0_odds.cls ≠ "java/lang/invoke/VarHandle" ∧ (parseMethodDescriptor yX0_odds.desc).map (fun d => d.parameters.length) = some 2 := by decide +kernel
theorem hdV_X13_odds : yX13_odds.cls = RX13 ∧ yX13_odds.cls ≠ "java/lang/invoke/MethodHandle" ∧ yX13_odds.cls ≠ "java/lang/invoke/VarHandle" ∧ (parseMethodDescriptor yX13_odds.desc).map (fun d => d.parameters.length) = some 2 := by decide +kernel
theorem hdV_X0_seed : yX0_seed.cls = RX0 ∧ yX0_seed.cls ≠ "java/lang/invoke/MethodHandle" ∧ yX0_seed.cls ≠ "java/lang/invoke/VarHandle" ∧ (parseMethodDescriptor yX0_seed.desc).map (fun d => d.parameters.length) = some 1 := by decide +kernel
theorem hdV_X13_seed : yX13_seed.cls = RX13 ∧ yX13_seed.cls ≠ "java/lang/invoke/MethodHandle" ∧ yX13_seed.cls ≠ "java/lang/invoke/VarHandle" ∧ (parseMethodDescriptor yX13_seed.desc).map (fun d => d.parameters.length) = some 1 := by decide +kernel
theorem hdV_X0_feed : yX0_feed.cls = RX0 ∧ yX0_feed.cls ≠ "java/lang/invoke/MethodHandle" ∧ yX0_feed.cls ≠ "java/lang/invoke/VarHandle" ∧ (parseMethodDescriptor yX0_feed.desc).map (fun d => d.parameters.length) = some 2 := by decide +kernel
theorem hdV_X13_feed : yX13_feed.cls = RX13 ∧ yX13_feed.cls ≠ "java/lang/invoke/MethodHandle" ∧ yX13_feed.cls ≠ "java/lang/invoke/VarHandle" ∧ (parseMethodDescriptor yX13_feed.desc).map (fun d => d.parameters.length) = some 2 := by decide +kernel
theorem hdV_X0_wipe : yX0_wipe.cls = RX0 ∧ yX0_wipe.cls ≠ "java/lang/invoke/MethodHandle" ∧ yX0_wipe.cls ≠ "java/lang/invoke/VarHandle" ∧ (parseMethodDescriptor yX0_wipe.desc).map (fun d => d.parameters.length) = some 0 := by decide +kernel
theorem hdV_X13_wipe : yX13_wipe.cls = RX13 ∧ yX13_wipe.cls ≠ "java/lang/invoke/MethodHandle" ∧ yX13_wipe.cls ≠ "java/lang/invoke/VarHandle" ∧ (parseMethodDescriptor yX13_wipe.desc).map (fun d => d.parameters.length) = some 0 := by decide +kernel
theorem hdV_X0_text : yX0_text.cls = RX0 ∧ yX0_text.cls ≠ "java/lang/invoke/MethodHandle" ∧ yX0_text.cls ≠ "java/lang/invoke/VarHandle" ∧ (parseMethodDescriptor yX0_text.desc).map (fun d => d.parameters.length) = some 0 := by decide +kernel
theorem hdV_X13_text : yX13_text.cls = RX13 ∧ yX13_text.cls ≠ "java/lang/invoke/MethodHandle" ∧ yX13_text.cls ≠ "java/lang/invoke/VarHandle" ∧ (parseMethodDescriptor yX13_text.desc).map (fun d => d.parameters.length) = some 0 := by decide +kernel
theorem hdV_X0_hold : yX0_hold.cls = RX0 ∧ yX0_hold.cls ≠ "java/lang/invoke/MethodHandle" ∧ yX0_hold.cls ≠ "java/lang/invoke/VarHandle" ∧ (parseMethodDescriptor yX0_hold.desc).map (fun d => d.parameters.length) = some 2 := by decide +kernel
theorem hdV_X13_hold : yX13_hold.cls = RX13 ∧ yX13_hold.cls ≠ "java/lang/invoke/MethodHandle" ∧ yX13_hold.cls ≠ "java/lang/invoke/VarHandle" ∧ (parseMethodDescriptor yX13_hold.desc).map (fun d => d.parameters.length) = some 2 := by decide +kernel
theorem hdV_X0_as : yX0_as.cls = RX0 ∧ yX0_as.cls ≠ "java/lang/invoke/MethodHandle" ∧ yX0_as.cls ≠ "java/lang/invoke/VarHandle" ∧ (parseMethodDescriptor yX0_as.desc).map (fun d => d.parameters.length) = some 2 := by decide +kernel
theorem hdV_X13_as : yX13_as.cls = RX13 ∧ yX13_as.cls ≠ "java/lang/invoke/MethodHandle" ∧ yX13_as.cls ≠ "java/lang/invoke/VarHandle" ∧ (parseMethodDescriptor yX13_as.desc).map (fun d => d.parameters.length) = some 2 := by decide +kernel
theorem hdV_X0_write : yX0_write.cls = RX0 ∧ yX0_write.cls ≠ "java/lang/invoke/MethodHandle" ∧ yX0_write.cls ≠ "java/lang/invoke/VarHandle" ∧ (parseMethodDescriptor yX0_write.desc).map (fun d => d.parameters.length) = some 3 := by decide +kernel
theorem hdV_X13_write : yX13_write.cls = RX13 ∧ yX13_write.cls ≠ "java/lang/invoke/MethodHandle" ∧ yX13_write.cls ≠ "java/lang/invoke/VarHandle" ∧ (parseMethodDescriptor yX13_write.desc).map (fun d => d.parameters.length) = some 3 := by decide +kernel
theorem hdV_X0_copy : yX0_copy.cls = RX0 ∧ yX0_copy.cls ≠ "java/lang/invoke/MethodHandle" ∧ yX0_copy.cls ≠ "java/lang/invoke/VarHandle" ∧ (parseMethodDescriptor yX0_copy.desc).map (fun d => d.parameters.length) = some 5 := by decide +kernel
theorem hdV_X13_copy : yX13_copy.cls = RX13 ∧ yX13_copy.cls ≠ "java/lang/invoke/MethodHandle" ∧ yX13_copy.cls ≠ "java/lang/invoke/VarHandle" ∧ (parseMethodDescriptor yX13_copy.desc).map (fun d => d.parameters.length) = some 5 := by decide +kernel
theorem hdV_X0_load : yX0_load.cls = RX0 ∧ yX0_load.cls ≠ "java/lang/invoke/MethodHandle" ∧ yX0_load.cls ≠ "java/lang/invoke/VarHandle" ∧ (parseMethodDescriptor yX0_load.desc).map (fun d => d.parameters.length) = some 1 := by decide +kernel
theorem hdV_X13_load : yX13_load.cls = RX13 ∧ yX13_load.cls ≠ "java/lang/invoke/MethodHandle" ∧ yX13_load.cls ≠ "java/lang/invoke/VarHandle" ∧ (parseMethodDescriptor yX13_load.desc).map (fun d => d.parameters.length) = some 1 := by decide +kernel
theorem hdV_X0_judge : yX0_judge.cls = RX0 ∧ yX0_judge.cls ≠ "java/lang/invoke/MethodHandle" ∧ yX0_judge.cls ≠ "java/lang/invoke/VarHandle" ∧ (parseMethodDescriptor yX0_judge.desc).map (fun d => d.parameters.length) = some 1 := by decide +kernel
theorem hdV_X13_judge : yX13_judge.cls = RX13 ∧ yX13_judge.cls ≠ "java/lang/invoke/MethodHandle" ∧ yX13_judge.cls ≠ "java/lang/invoke/VarHandle" ∧ (parseMethodDescriptor yX13_judge.desc).map (fun d => d.parameters.length) = some 1 := by decide +kernel
theorem hdV_X0_image : yX0_image.cls = RX0 ∧ yX0_image.cls ≠ "java/lang/invoke/MethodHandle" ∧ yX0_image.cls ≠ "java/lang/invoke/VarHandle" ∧ (parseMethodDescriptor yX0_image.desc).map (fun d => d.parameters.length) = some 0 := by decide +kernel
theorem hdV_X13_image : yX13_image.cls = RX13 ∧ yX13_image.cls ≠ "java/lang/invoke/MethodHandle" ∧ yX13_image.cls ≠ "java/lang/invoke/VarHandle" ∧ (parseMethodDescriptor yX13_image.desc).map (fun d => d.parameters.length) = some 0 := by decide +kernel
theorem hdV_X0_undo : yX0_undo.cls = RX0 ∧ yX0_undo.cls ≠ "java/lang/invoke/MethodHandle" ∧ yX0_undo.cls ≠ "java/lang/invoke/VarHandle" ∧ (parseMethodDescriptor yX0_undo.desc).map (fun d => d.parameters.length) = some 0 := by decide +kernel
theorem hdV_X13_undo : yX13_undo.cls = RX13 ∧ yX13_undo.cls ≠ "java/lang/invoke/MethodHandle" ∧ yX13_undo.cls ≠ "java/lang/invoke/VarHandle" ∧ (parseMethodDescriptor yX13_undo.desc).map (fun d => d.parameters.length) = some 0 := by decide +kernel
theorem hdV_X0_tear : yX0_tear.cls = RX0 ∧ yX0_tear.cls ≠ "java/lang/invoke/MethodHandle" ∧ yX0_tear.cls ≠ "java/lang/invoke/VarHandle" ∧ (parseMethodDescriptor yX0_tear.desc).map (fun d => d.parameters.length) = some 0 := by decide +kernel
theorem hdV_X13_tear : yX13_tear.cls = RX13 ∧ yX13_tear.cls ≠ "java/lang/invoke/MethodHandle" ∧ yX13_tear.cls ≠ "java/lang/invoke/VarHandle" ∧ (parseMethodDescriptor yX13_tear.desc).map (fun d => d.parameters.length) = some 0 := by decide +kernel
theorem hdV_X0_count : yX0_count.cls = RX0 ∧ yX0_count.cls ≠ "java/lang/invoke/MethodHandle" ∧ yX0_count.cls ≠ "java/lang/invoke/VarHandle" ∧ (parseMethodDescriptor yX0_count.desc).map (fun d => d.parameters.length) = some 1 := by decide +kernel
theorem hdV_X13_count : yX13_count.cls = RX13 ∧ yX13_count.cls ≠ "java/lang/invoke/MethodHandle" ∧ yX13_count.cls ≠ "java/lang/invoke/VarHandle" ∧ (parseMethodDescriptor yX13_count.desc).map (fun d => d.parameters.length) = some 1 := by decide +kernel
theorem hdV_X0_status : yX0_status.cls = RX0 ∧ yX0_status.cls ≠ "java/lang/invoke/MethodHandle" ∧ yX0_status.cls ≠ "java/lang/invoke/VarHandle" ∧ (parseMethodDescriptor yX0_status.desc).map (fun d => d.parameters.length) = some 1 := by decide +kernel
theorem hdV_X13_status : yX13_status.cls = RX13 ∧ yX13_status.cls ≠ "java/lang/invoke/MethodHandle" ∧ yX13_status.cls ≠ "java/lang/invoke/VarHandle" ∧ (parseMethodDescriptor yX13_status.desc).map (fun d => d.parameters.length) = some 1 := by decide +kernel
set_option maxRecDepth 100000 in
theorem lc_cell {p : Program} {l : Launch} {e : Env} {s : State} {m : MethodId} {below : List Frame} {meth : Method} {c : Code} {b L i cells slots : Nat} {xs : Nat → Int32} {G : Gc} {M : Gm} {H : Heap} {locs : List Loc} {ls : Array Slot} {Q : State → Prop} (hF : LwF p s m c b L xs) (hS : LwS G M s) (hE : LwE G M s H locs) (hi : i + 6 ≤ L) (hL : L ≤ 384) (hcs : cells ≤ 601024 ∧ slots ≤ 7293034) (hl : lv_has ls 4 [(3, .int (nI i)), (2, .ref (M.ad 0 0)), (1, .ref (G.ad 5 0)), (0, .ref b)]) (kn : ∀ (H1 : Heap) (locs1 : List Loc), LwE G M s H1 locs1 → W p l e room_1 s m #[Value.ref b] below meth c H1 locs1 cells slots Q (F0 m 1548 ls [])) : W p l e room_1 s m #[Value.ref b] below meth c H locs cells slots Q (F0 m 240 ls []) := by
  obtain ⟨hx, hb, hml, hown, hts, hXs, hbl⟩ := hF
  obtain ⟨hX, hX2, hA1, hA2, hJ, hG, hZ0⟩ := hS
  have hZ := ws_of hG hZ0
  obtain ⟨d, kp, as, un, to, sc, fd, tp, sh, sp, kp', as', bf', sc', it, mv, hC, hC2, hR⟩ := hE
  refine lv_aload_n hx hb dL_law_240 rfl (lv_at hl 2 rfl) ?_
  refine lv_aload_n hx hb dL_law_241 rfl (lv_at hl 3 rfl) ?_
  refine lv_iload_n hx hb dL_law_242 rfl (lv_at hl 0 rfl) ?_
  refine lv_iconst (v := 1) hx hb dL_law_243 rfl ?_
  refine lv_iadd hx hb dL_law_244 ?_
  refine va_sld hx hb hXs hbl (hA1.out hbl) hC.2 (vin_ik 1 hi hL (by decide)) dL_law_245 ?_
  refine lv_aload_n hx hb dL_law_246 rfl (lv_at hl 3 rfl) ?_
  refine lv_iload_n hx hb dL_law_247 rfl (lv_at hl 0 rfl) ?_
  refine lv_iconst (v := 2) hx hb dL_law_248 rfl ?_
  refine lv_iadd hx hb dL_law_249 ?_
  refine va_sld hx hb hXs hbl (hA1.out hbl) hC.2 (vin_ik 2 hi hL (by decide)) dL_law_250 ?_
  refine lv_aload_n hx hb dL_law_251 rfl (lv_at hl 3 rfl) ?_
  refine lv_iload_n hx hb dL_law_252 rfl (lv_at hl 0 rfl) ?_
  refine lv_iconst (v := 3) hx hb dL_law_253 rfl ?_
  refine lv_iadd hx hb dL_law_254 ?_
  refine va_sld hx hb hXs hbl (hA1.out hbl) hC.2 (vin_ik 3 hi hL (by decide)) dL_law_255 ?_
  refine fc_V2 (As := [.int (xs (nI i + 1).toNatClampNeg), .int (xs (nI i + 2).toNatClampNeg), .int (xs (nI i + 3).toNatClampNeg)]) (rest := []) hx hb hml hown hts hX hC (m_X0_cell hR.1 _ _ _) (lw_V q462 q463 q464 q108 q465) hdV_X0_cell ⟨rfl, rfl⟩ ⟨Nat.le_of_ble_eq_true rfl, Nat.le_of_ble_eq_true rfl⟩ (fx_recv (g := 5) (i := 0) (ci := 1) (q := (RX0, TX0, 13)) hX hC (cin rfl) rfl rfl) hl.1 rfl (Nat.le_of_ble_eq_true rfl) hcs dL_law_256 hC2 hA1 hA2 hJ (fun u H locs hC hC2 => ?_)
  refine W.eq (g2 := F0 m 259 ls [_]) rfl ?_
  refine lv_aload_n hx hb dL_law_259 rfl (lv_at hl 1 rfl) ?_
  refine lv_aload_n hx hb dL_law_260 rfl (lv_at hl 3 rfl) ?_
  refine lv_iload_n hx hb dL_law_261 rfl (lv_at hl 0 rfl) ?_
  refine lv_iconst (v := 1) hx hb dL_law_262 rfl ?_
  refine lv_iadd hx hb dL_law_263 ?_
  refine va_sld hx hb hXs hbl (hA1.out hbl) hC.2 (vin_ik 1 hi hL (by decide)) dL_law_264 ?_
  refine lv_aload_n hx hb dL_law_265 rfl (lv_at hl 3 rfl) ?_
  refine lv_iload_n hx hb dL_law_266 rfl (lv_at hl 0 rfl) ?_
  refine lv_iconst (v := 2) hx hb dL_law_267 rfl ?_
  refine lv_iadd hx hb dL_law_268 ?_
  refine va_sld hx hb hXs hbl (hA1.out hbl) hC.2 (vin_ik 2 hi hL (by decide)) dL_law_269 ?_
  refine lv_aload_n hx hb dL_law_270 rfl (lv_at hl 3 rfl) ?_
  refine lv_iload_n hx hb dL_law_271 rfl (lv_at hl 0 rfl) ?_
  refine lv_iconst (v := 3) hx hb dL_law_272 rfl ?_
  refine lv_iadd hx hb dL_law_273 ?_
  refine va_sld hx hb hXs hbl (hA1.out hbl) hC.2 (vin_ik 3 hi hL (by decide)) dL_law_274 ?_
  refine fc_V2 (As := [.int (xs (nI i + 1).toNatClampNeg), .int (xs (nI i + 2).toNatClampNeg), .int (xs (nI i + 3).toNatClampNeg)]) (rest := [_]) hx hb hml hown hts hX2 hC2 (m_X13_cell _ _ _) (lw_V q1383 q1384 q1385 q124 q1386) hdV_X13_cell ⟨rfl, rfl⟩ ⟨Nat.le_of_ble_eq_true rfl, Nat.le_of_ble_eq_true rfl⟩ (fx_recv (g := 0) (i := 0) (ci := 0) (q := (RX13, TX13, 24)) hX2 hC2 (min_ (by decide)) rfl rfl) hl.1 rfl (Nat.le_of_ble_eq_true rfl) hcs dL_law_275 hC hA2 hA1 hJ.symm (fun u H locs hC2 hC => ?_)
  refine W.eq (g2 := F0 m 278 ls [_, _]) rfl ?_
  refine lv_icmp_eq (tgt := 1548) hx hb dL_law_278 (by decide) (fun _ => ?_) (fun z => absurd rfl z)
  exact kn _ _ ⟨_, _, _, _, _, _, _, _, _, _, _, _, _, _, _, _, hC, hC2, ⟨wf_cell hR.1, hR.2⟩⟩
set_option maxRecDepth 100000 in
theorem lc_cellOf {p : Program} {l : Launch} {e : Env} {s : State} {m : MethodId} {below : List Frame} {meth : Method} {c : Code} {b L i cells slots : Nat} {xs : Nat → Int32} {G : Gc} {M : Gm} {H : Heap} {locs : List Loc} {ls : Array Slot} {Q : State → Prop} (hF : LwF p s m c b L xs) (hS : LwS G M s) (hE : LwE G M s H locs) (hi : i + 6 ≤ L) (hL : L ≤ 384) (hcs : cells ≤ 601024 ∧ slots ≤ 7293034) (hl : lv_has ls 4 [(3, .int (nI i)), (2, .ref (M.ad 0 0)), (1, .ref (G.ad 5 0)), (0, .ref b)]) (kn : ∀ (H1 : Heap) (locs1 : List Loc), LwE G M s H1 locs1 → W p l e room_1 s m #[Value.ref b] below meth c H1 locs1 cells slots Q (F0 m 1548 ls [])) : W p l e room_1 s m #[Value.ref b] below meth c H locs cells slots Q (F0 m 283 ls []) := by
  obtain ⟨hx, hb, hml, hown, hts, hXs, hbl⟩ := hF
  obtain ⟨hX, hX2, hA1, hA2, hJ, hG, hZ0⟩ := hS
  have hZ := ws_of hG hZ0
  obtain ⟨d, kp, as, un, to, sc, fd, tp, sh, sp, kp', as', bf', sc', it, mv, hC, hC2, hR⟩ := hE
  refine lv_aload_n hx hb dL_law_283 rfl (lv_at hl 2 rfl) ?_
  refine lv_aload_n hx hb dL_law_284 rfl (lv_at hl 3 rfl) ?_
  refine lv_iload_n hx hb dL_law_285 rfl (lv_at hl 0 rfl) ?_
  refine lv_iconst (v := 1) hx hb dL_law_286 rfl ?_
  refine lv_iadd hx hb dL_law_287 ?_
  refine va_sld hx hb hXs hbl (hA1.out hbl) hC.2 (vin_ik 1 hi hL (by decide)) dL_law_288 ?_
  refine lv_aload_n hx hb dL_law_289 rfl (lv_at hl 3 rfl) ?_
  refine lv_iload_n hx hb dL_law_290 rfl (lv_at hl 0 rfl) ?_
  refine lv_iconst (v := 2) hx hb dL_law_291 rfl ?_
  refine lv_iadd hx hb dL_law_292 ?_
  refine va_sld hx hb hXs hbl (hA1.out hbl) hC.2 (vin_ik 2 hi hL (by decide)) dL_law_293 ?_
  refine fc_V2 (As := [.int (xs (nI i + 1).toNatClampNeg), .int (xs (nI i + 2).toNatClampNeg)]) (rest := []) hx hb hml hown hts hX hC (m_X0_cellOf hR.1 _ _) (lw_V q477 q478 q479 q108 q480) hdV_X0_cellOf ⟨rfl, rfl⟩ ⟨Nat.le_of_ble_eq_true rfl, Nat.le_of_ble_eq_true rfl⟩ (fx_recv (g := 5) (i := 0) (ci := 1) (q := (RX0, TX0, 13)) hX hC (cin rfl) rfl rfl) hl.1 rfl (Nat.le_of_ble_eq_true rfl) hcs dL_law_294 hC2 hA1 hA2 hJ (fun u H locs hC hC2 => ?_)
  refine W.eq (g2 := F0 m 297 ls [_]) rfl ?_
  refine lv_aload_n hx hb dL_law_297 rfl (lv_at hl 1 rfl) ?_
  refine lv_aload_n hx hb dL_law_298 rfl (lv_at hl 3 rfl) ?_
  refine lv_iload_n hx hb dL_law_299 rfl (lv_at hl 0 rfl) ?_
  refine lv_iconst (v := 1) hx hb dL_law_300 rfl ?_
  refine lv_iadd hx hb dL_law_301 ?_
  refine va_sld hx hb hXs hbl (hA1.out hbl) hC.2 (vin_ik 1 hi hL (by decide)) dL_law_302 ?_
  refine lv_aload_n hx hb dL_law_303 rfl (lv_at hl 3 rfl) ?_
  refine lv_iload_n hx hb dL_law_304 rfl (lv_at hl 0 rfl) ?_
  refine lv_iconst (v := 2) hx hb dL_law_305 rfl ?_
  refine lv_iadd hx hb dL_law_306 ?_
  refine va_sld hx hb hXs hbl (hA1.out hbl) hC.2 (vin_ik 2 hi hL (by decide)) dL_law_307 ?_
  refine fc_V2 (As := [.int (xs (nI i + 1).toNatClampNeg), .int (xs (nI i + 2).toNatClampNeg)]) (rest := [_]) hx hb hml hown hts hX2 hC2 (m_X13_cellOf hR.1 _ _) (lw_V q1408 q1409 q1410 q124 q1411) hdV_X13_cellOf ⟨rfl, rfl⟩ ⟨Nat.le_of_ble_eq_true rfl, Nat.le_of_ble_eq_true rfl⟩ (fx_recv (g := 0) (i := 0) (ci := 0) (q := (RX13, TX13, 24)) hX2 hC2 (min_ (by decide)) rfl rfl) hl.1 rfl (Nat.le_of_ble_eq_true rfl) hcs dL_law_308 hC hA2 hA1 hJ.symm (fun u H locs hC2 hC => ?_)
  refine W.eq (g2 := F0 m 311 ls [_, _]) rfl ?_
  refine lv_icmp_eq (tgt := 1548) hx hb dL_law_311 (by decide) (fun _ => ?_) (fun z => absurd rfl z)
  exact kn _ _ ⟨_, _, _, _, _, _, _, _, _, _, _, _, _, _, _, _, hC, hC2, hR⟩
set_option maxRecDepth 100000 in
theorem lc_mouse {p : Program} {l : Launch} {e : Env} {s : State} {m : MethodId} {below : List Frame} {meth : Method} {c : Code} {b L i cells slots : Nat} {xs : Nat → Int32} {G : Gc} {M : Gm} {H : Heap} {locs : List Loc} {ls : Array Slot} {Q : State → Prop} (hF : LwF p s m c b L xs) (hS : LwS G M s) (hE : LwE G M s H locs) (hi : i + 6 ≤ L) (hL : L ≤ 384) (hcs : cells ≤ 601024 ∧ slots ≤ 7293034) (hl : lv_has ls 4 [(3, .int (nI i)), (2, .ref (M.ad 0 0)), (1, .ref (G.ad 5 0)), (0, .ref b)]) (kn : ∀ (H1 : Heap) (locs1 : List Loc), LwE G M s H1 locs1 → W p l e room_1 s m #[Value.ref b] below meth c H1 locs1 cells slots Q (F0 m 1548 ls [])) : W p l e room_1 s m #[Value.ref b] below meth c H locs cells slots Q (F0 m 316 ls []) := by
  obtain ⟨hx, hb, hml, hown, hts, hXs, hbl⟩ := hF
  obtain ⟨hX, hX2, hA1, hA2, hJ, hG, hZ0⟩ := hS
  have hZ := ws_of hG hZ0
  obtain ⟨d, kp, as, un, to, sc, fd, tp, sh, sp, kp', as', bf', sc', it, mv, hC, hC2, hR⟩ := hE
  refine lv_aload_n hx hb dL_law_316 rfl (lv_at hl 2 rfl) ?_
  refine lv_aload_n hx hb dL_law_317 rfl (lv_at hl 3 rfl) ?_
  refine lv_iload_n hx hb dL_law_318 rfl (lv_at hl 0 rfl) ?_
  refine lv_iconst (v := 1) hx hb dL_law_319 rfl ?_
  refine lv_iadd hx hb dL_law_320 ?_
  refine va_sld hx hb hXs hbl (hA1.out hbl) hC.2 (vin_ik 1 hi hL (by decide)) dL_law_321 ?_
  refine lv_aload_n hx hb dL_law_322 rfl (lv_at hl 3 rfl) ?_
  refine lv_iload_n hx hb dL_law_323 rfl (lv_at hl 0 rfl) ?_
  refine lv_iconst (v := 2) hx hb dL_law_324 rfl ?_
  refine lv_iadd hx hb dL_law_325 ?_
  refine va_sld hx hb hXs hbl (hA1.out hbl) hC.2 (vin_ik 2 hi hL (by decide)) dL_law_326 ?_
  refine fc_V2 (As := [.int (xs (nI i + 1).toNatClampNeg), .int (xs (nI i + 2).toNatClampNeg)]) (rest := []) hx hb hml hown hts hX hC (m_X0_mouse hR.1 _ _) (lw_V q502 q503 q504 q108 q505) hdV_X0_mouse ⟨rfl, rfl⟩ ⟨Nat.le_of_ble_eq_true rfl, Nat.le_of_ble_eq_true rfl⟩ (fx_recv (g := 5) (i := 0) (ci := 1) (q := (RX0, TX0, 13)) hX hC (cin rfl) rfl rfl) hl.1 rfl (Nat.le_of_ble_eq_true rfl) hcs dL_law_327 hC2 hA1 hA2 hJ (fun u H locs hC hC2 => ?_)
  refine W.eq (g2 := F0 m 330 ls [_]) rfl ?_
  refine lv_aload_n hx hb dL_law_330 rfl (lv_at hl 1 rfl) ?_
  refine lv_aload_n hx hb dL_law_331 rfl (lv_at hl 3 rfl) ?_
  refine lv_iload_n hx hb dL_law_332 rfl (lv_at hl 0 rfl) ?_
  refine lv_iconst (v := 1) hx hb dL_law_333 rfl ?_
  refine lv_iadd hx hb dL_law_334 ?_
  refine va_sld hx hb hXs hbl (hA1.out hbl) hC.2 (vin_ik 1 hi hL (by decide)) dL_law_335 ?_
  refine lv_aload_n hx hb dL_law_336 rfl (lv_at hl 3 rfl) ?_
  refine lv_iload_n hx hb dL_law_337 rfl (lv_at hl 0 rfl) ?_
  refine lv_iconst (v := 2) hx hb dL_law_338 rfl ?_
  refine lv_iadd hx hb dL_law_339 ?_
  refine va_sld hx hb hXs hbl (hA1.out hbl) hC.2 (vin_ik 2 hi hL (by decide)) dL_law_340 ?_
  refine fc_V2 (As := [.int (xs (nI i + 1).toNatClampNeg), .int (xs (nI i + 2).toNatClampNeg)]) (rest := [_]) hx hb hml hown hts hX2 hC2 (m_X13_mouse _ _) (lw_V q1429 q1430 q1431 q124 q1432) hdV_X13_mouse ⟨rfl, rfl⟩ ⟨Nat.le_of_ble_eq_true rfl, Nat.le_of_ble_eq_true rfl⟩ (fx_recv (g := 0) (i := 0) (ci := 0) (q := (RX13, TX13, 24)) hX2 hC2 (min_ (by decide)) rfl rfl) hl.1 rfl (Nat.le_of_ble_eq_true rfl) hcs dL_law_341 hC hA2 hA1 hJ.symm (fun u H locs hC2 hC => ?_)
  refine W.eq (g2 := F0 m 344 ls [_, _]) rfl ?_
  refine lv_icmp_eq (tgt := 1548) hx hb dL_law_344 (by decide) (fun _ => ?_) (fun z => absurd rfl z)
  exact kn _ _ ⟨_, _, _, _, _, _, _, _, _, _, _, _, _, _, _, _, hC, hC2, ⟨wf_mouse hR.1, hR.2⟩⟩
set_option maxRecDepth 100000 in
theorem lc_owl {p : Program} {l : Launch} {e : Env} {s : State} {m : MethodId} {below : List Frame} {meth : Method} {c : Code} {b L i cells slots : Nat} {xs : Nat → Int32} {G : Gc} {M : Gm} {H : Heap} {locs : List Loc} {ls : Array Slot} {Q : State → Prop} (hF : LwF p s m c b L xs) (hS : LwS G M s) (hE : LwE G M s H locs) (hi : i + 6 ≤ L) (hL : L ≤ 384) (hcs : cells ≤ 601024 ∧ slots ≤ 7293034) (hl : lv_has ls 4 [(3, .int (nI i)), (2, .ref (M.ad 0 0)), (1, .ref (G.ad 5 0)), (0, .ref b)]) (kn : ∀ (H1 : Heap) (locs1 : List Loc), LwE G M s H1 locs1 → W p l e room_1 s m #[Value.ref b] below meth c H1 locs1 cells slots Q (F0 m 1548 ls [])) : W p l e room_1 s m #[Value.ref b] below meth c H locs cells slots Q (F0 m 349 ls []) := by
  obtain ⟨hx, hb, hml, hown, hts, hXs, hbl⟩ := hF
  obtain ⟨hX, hX2, hA1, hA2, hJ, hG, hZ0⟩ := hS
  have hZ := ws_of hG hZ0
  obtain ⟨d, kp, as, un, to, sc, fd, tp, sh, sp, kp', as', bf', sc', it, mv, hC, hC2, hR⟩ := hE
  refine lv_aload_n hx hb dL_law_349 rfl (lv_at hl 2 rfl) ?_
  refine lv_aload_n hx hb dL_law_350 rfl (lv_at hl 3 rfl) ?_
  refine lv_iload_n hx hb dL_law_351 rfl (lv_at hl 0 rfl) ?_
  refine lv_iconst (v := 1) hx hb dL_law_352 rfl ?_
  refine lv_iadd hx hb dL_law_353 ?_
  refine va_sld hx hb hXs hbl (hA1.out hbl) hC.2 (vin_ik 1 hi hL (by decide)) dL_law_354 ?_
  refine lv_aload_n hx hb dL_law_355 rfl (lv_at hl 3 rfl) ?_
  refine lv_iload_n hx hb dL_law_356 rfl (lv_at hl 0 rfl) ?_
  refine lv_iconst (v := 2) hx hb dL_law_357 rfl ?_
  refine lv_iadd hx hb dL_law_358 ?_
  refine va_sld hx hb hXs hbl (hA1.out hbl) hC.2 (vin_ik 2 hi hL (by decide)) dL_law_359 ?_
  refine fc_V2 (As := [.int (xs (nI i + 1).toNatClampNeg), .int (xs (nI i + 2).toNatClampNeg)]) (rest := []) hx hb hml hown hts hX hC (m_X0_owl hR.1 _ _) (lw_V q513 q514 q515 q108 q516) hdV_X0_owl ⟨rfl, rfl⟩ ⟨Nat.le_of_ble_eq_true rfl, Nat.le_of_ble_eq_true rfl⟩ (fx_recv (g := 5) (i := 0) (ci := 1) (q := (RX0, TX0, 13)) hX hC (cin rfl) rfl rfl) hl.1 rfl (Nat.le_of_ble_eq_true rfl) hcs dL_law_360 hC2 hA1 hA2 hJ (fun u H locs hC hC2 => ?_)
  refine W.eq (g2 := F0 m 363 ls [_]) rfl ?_
  refine lv_aload_n hx hb dL_law_363 rfl (lv_at hl 1 rfl) ?_
  refine lv_aload_n hx hb dL_law_364 rfl (lv_at hl 3 rfl) ?_
  refine lv_iload_n hx hb dL_law_365 rfl (lv_at hl 0 rfl) ?_
  refine lv_iconst (v := 1) hx hb dL_law_366 rfl ?_
  refine lv_iadd hx hb dL_law_367 ?_
  refine va_sld hx hb hXs hbl (hA1.out hbl) hC.2 (vin_ik 1 hi hL (by decide)) dL_law_368 ?_
  refine lv_aload_n hx hb dL_law_369 rfl (lv_at hl 3 rfl) ?_
  refine lv_iload_n hx hb dL_law_370 rfl (lv_at hl 0 rfl) ?_
  refine lv_iconst (v := 2) hx hb dL_law_371 rfl ?_
  refine lv_iadd hx hb dL_law_372 ?_
  refine va_sld hx hb hXs hbl (hA1.out hbl) hC.2 (vin_ik 2 hi hL (by decide)) dL_law_373 ?_
  refine fc_V2 (As := [.int (xs (nI i + 1).toNatClampNeg), .int (xs (nI i + 2).toNatClampNeg)]) (rest := [_]) hx hb hml hown hts hX2 hC2 (m_X13_owl _ _) (lw_V q1440 q1441 q1442 q124 q1443) hdV_X13_owl ⟨rfl, rfl⟩ ⟨Nat.le_of_ble_eq_true rfl, Nat.le_of_ble_eq_true rfl⟩ (fx_recv (g := 0) (i := 0) (ci := 0) (q := (RX13, TX13, 24)) hX2 hC2 (min_ (by decide)) rfl rfl) hl.1 rfl (Nat.le_of_ble_eq_true rfl) hcs dL_law_374 hC hA2 hA1 hJ.symm (fun u H locs hC2 hC => ?_)
  refine W.eq (g2 := F0 m 377 ls [_, _]) rfl ?_
  refine lv_icmp_eq (tgt := 1548) hx hb dL_law_377 (by decide) (fun _ => ?_) (fun z => absurd rfl z)
  exact kn _ _ ⟨_, _, _, _, _, _, _, _, _, _, _, _, _, _, _, _, hC, hC2, ⟨wf_owl hR.1, hR.2⟩⟩
set_option maxRecDepth 100000 in
theorem lc_told {p : Program} {l : Launch} {e : Env} {s : State} {m : MethodId} {below : List Frame} {meth : Method} {c : Code} {b L i cells slots : Nat} {xs : Nat → Int32} {G : Gc} {M : Gm} {H : Heap} {locs : List Loc} {ls : Array Slot} {Q : State → Prop} (hF : LwF p s m c b L xs) (hS : LwS G M s) (hE : LwE G M s H locs) (hi : i + 6 ≤ L) (hL : L ≤ 384) (hcs : cells ≤ 601024 ∧ slots ≤ 7293034) (hl : lv_has ls 4 [(3, .int (nI i)), (2, .ref (M.ad 0 0)), (1, .ref (G.ad 5 0)), (0, .ref b)]) (kn : ∀ (H1 : Heap) (locs1 : List Loc), LwE G M s H1 locs1 → W p l e room_1 s m #[Value.ref b] below meth c H1 locs1 cells slots Q (F0 m 1548 ls [])) : W p l e room_1 s m #[Value.ref b] below meth c H locs cells slots Q (F0 m 382 ls []) := by
  obtain ⟨hx, hb, hml, hown, hts, hXs, hbl⟩ := hF
  obtain ⟨hX, hX2, hA1, hA2, hJ, hG, hZ0⟩ := hS
  have hZ := ws_of hG hZ0
  obtain ⟨d, kp, as, un, to, sc, fd, tp, sh, sp, kp', as', bf', sc', it, mv, hC, hC2, hR⟩ := hE
  refine lv_aload_n hx hb dL_law_382 rfl (lv_at hl 2 rfl) ?_
  refine lv_aload_n hx hb dL_law_383 rfl (lv_at hl 3 rfl) ?_
  refine lv_iload_n hx hb dL_law_384 rfl (lv_at hl 0 rfl) ?_
  refine lv_iconst (v := 1) hx hb dL_law_385 rfl ?_
  refine lv_iadd hx hb dL_law_386 ?_
  refine va_sld hx hb hXs hbl (hA1.out hbl) hC.2 (vin_ik 1 hi hL (by decide)) dL_law_387 ?_
  refine fc_V2 (As := [.int (xs (nI i + 1).toNatClampNeg)]) (rest := []) hx hb hml hown hts hX hC (m_X0_told hR.1 _) (lw_V q517 q518 q519 q108 q520) hdV_X0_told ⟨rfl, rfl⟩ ⟨Nat.le_of_ble_eq_true rfl, Nat.le_of_ble_eq_true rfl⟩ (fx_recv (g := 5) (i := 0) (ci := 1) (q := (RX0, TX0, 13)) hX hC (cin rfl) rfl rfl) hl.1 rfl (Nat.le_of_ble_eq_true rfl) hcs dL_law_388 hC2 hA1 hA2 hJ (fun u H locs hC hC2 => ?_)
  refine W.eq (g2 := F0 m 391 ls [_]) rfl ?_
  refine lv_aload_n hx hb dL_law_391 rfl (lv_at hl 1 rfl) ?_
  refine lv_aload_n hx hb dL_law_392 rfl (lv_at hl 3 rfl) ?_
  refine lv_iload_n hx hb dL_law_393 rfl (lv_at hl 0 rfl) ?_
  refine lv_iconst (v := 1) hx hb dL_law_394 rfl ?_
  refine lv_iadd hx hb dL_law_395 ?_
  refine va_sld hx hb hXs hbl (hA1.out hbl) hC.2 (vin_ik 1 hi hL (by decide)) dL_law_396 ?_
  refine fc_V2 (As := [.int (xs (nI i + 1).toNatClampNeg)]) (rest := [_]) hx hb hml hown hts hX2 hC2 (m_X13_told hR.1 _) (lw_V q1444 q1445 q1446 q124 q1447) hdV_X13_told ⟨rfl, rfl⟩ ⟨Nat.le_of_ble_eq_true rfl, Nat.le_of_ble_eq_true rfl⟩ (fx_recv (g := 0) (i := 0) (ci := 0) (q := (RX13, TX13, 24)) hX2 hC2 (min_ (by decide)) rfl rfl) hl.1 rfl (Nat.le_of_ble_eq_true rfl) hcs dL_law_397 hC hA2 hA1 hJ.symm (fun u H locs hC2 hC => ?_)
  refine W.eq (g2 := F0 m 400 ls [_, _]) rfl ?_
  refine lv_icmp_eq (tgt := 1548) hx hb dL_law_400 (by decide) (fun _ => ?_) (fun z => absurd rfl z)
  exact kn _ _ ⟨_, _, _, _, _, _, _, _, _, _, _, _, _, _, _, _, hC, hC2, hR⟩
set_option maxRecDepth 100000 in
theorem lc_strike {p : Program} {l : Launch} {e : Env} {s : State} {m : MethodId} {below : List Frame} {meth : Method} {c : Code} {b L i cells slots : Nat} {xs : Nat → Int32} {G : Gc} {M : Gm} {H : Heap} {locs : List Loc} {ls : Array Slot} {Q : State → Prop} (hF : LwF p s m c b L xs) (hS : LwS G M s) (hE : LwE G M s H locs) (hi : i + 6 ≤ L) (hL : L ≤ 384) (hcs : cells ≤ 601024 ∧ slots ≤ 7293034) (hl : lv_has ls 4 [(3, .int (nI i)), (2, .ref (M.ad 0 0)), (1, .ref (G.ad 5 0)), (0, .ref b)]) (kn : ∀ (H1 : Heap) (locs1 : List Loc), LwE G M s H1 locs1 → W p l e room_1 s m #[Value.ref b] below meth c H1 locs1 cells slots Q (F0 m 1548 ls [])) : W p l e room_1 s m #[Value.ref b] below meth c H locs cells slots Q (F0 m 405 ls []) := by
  obtain ⟨hx, hb, hml, hown, hts, hXs, hbl⟩ := hF
  obtain ⟨hX, hX2, hA1, hA2, hJ, hG, hZ0⟩ := hS
  have hZ := ws_of hG hZ0
  obtain ⟨d, kp, as, un, to, sc, fd, tp, sh, sp, kp', as', bf', sc', it, mv, hC, hC2, hR⟩ := hE
  refine lv_aload_n hx hb dL_law_405 rfl (lv_at hl 2 rfl) ?_
  refine lv_aload_n hx hb dL_law_406 rfl (lv_at hl 3 rfl) ?_
  refine lv_iload_n hx hb dL_law_407 rfl (lv_at hl 0 rfl) ?_
  refine lv_iconst (v := 1) hx hb dL_law_408 rfl ?_
  refine lv_iadd hx hb dL_law_409 ?_
  refine va_sld hx hb hXs hbl (hA1.out hbl) hC.2 (vin_ik 1 hi hL (by decide)) dL_law_410 ?_
  refine lv_aload_n hx hb dL_law_411 rfl (lv_at hl 3 rfl) ?_
  refine lv_iload_n hx hb dL_law_412 rfl (lv_at hl 0 rfl) ?_
  refine lv_iconst (v := 2) hx hb dL_law_413 rfl ?_
  refine lv_iadd hx hb dL_law_414 ?_
  refine va_sld hx hb hXs hbl (hA1.out hbl) hC.2 (vin_ik 2 hi hL (by decide)) dL_law_415 ?_
  refine fc_V2 (As := [.int (xs (nI i + 1).toNatClampNeg), .int (xs (nI i + 2).toNatClampNeg)]) (rest := []) hx hb hml hown hts hX hC (m_X0_strike hR.1 _ _) (lw_V q523 q524 q525 q108 q526) hdV_X0_strike ⟨rfl, rfl⟩ ⟨Nat.le_of_ble_eq_true rfl, Nat.le_of_ble_eq_true rfl⟩ (fx_recv (g := 5) (i := 0) (ci := 1) (q := (RX0, TX0, 13)) hX hC (cin rfl) rfl rfl) hl.1 rfl (Nat.le_of_ble_eq_true rfl) hcs dL_law_416 hC2 hA1 hA2 hJ (fun u H locs hC hC2 => ?_)
  refine W.eq (g2 := F0 m 419 ls [_]) rfl ?_
  refine lv_aload_n hx hb dL_law_419 rfl (lv_at hl 1 rfl) ?_
  refine lv_aload_n hx hb dL_law_420 rfl (lv_at hl 3 rfl) ?_
  refine lv_iload_n hx hb dL_law_421 rfl (lv_at hl 0 rfl) ?_
  refine lv_iconst (v := 1) hx hb dL_law_422 rfl ?_
  refine lv_iadd hx hb dL_law_423 ?_
  refine va_sld hx hb hXs hbl (hA1.out hbl) hC.2 (vin_ik 1 hi hL (by decide)) dL_law_424 ?_
  refine lv_aload_n hx hb dL_law_425 rfl (lv_at hl 3 rfl) ?_
  refine lv_iload_n hx hb dL_law_426 rfl (lv_at hl 0 rfl) ?_
  refine lv_iconst (v := 2) hx hb dL_law_427 rfl ?_
  refine lv_iadd hx hb dL_law_428 ?_
  refine va_sld hx hb hXs hbl (hA1.out hbl) hC.2 (vin_ik 2 hi hL (by decide)) dL_law_429 ?_
  refine fc_V2 (As := [.int (xs (nI i + 1).toNatClampNeg), .int (xs (nI i + 2).toNatClampNeg)]) (rest := [_]) hx hb hml hown hts hX2 hC2 (m_X13_strike hR.1 _ _) (lw_V q1448 q1449 q1450 q124 q1451) hdV_X13_strike ⟨rfl, rfl⟩ ⟨Nat.le_of_ble_eq_true rfl, Nat.le_of_ble_eq_true rfl⟩ (fx_recv (g := 0) (i := 0) (ci := 0) (q := (RX13, TX13, 24)) hX2 hC2 (min_ (by decide)) rfl rfl) hl.1 rfl (Nat.le_of_ble_eq_true rfl) hcs dL_law_430 hC hA2 hA1 hJ.symm (fun u H locs hC2 hC => ?_)
  refine W.eq (g2 := F0 m 433 ls [_, _]) rfl ?_
  refine lv_icmp_eq (tgt := 1548) hx hb dL_law_433 (by decide) (fun _ => ?_) (fun z => absurd rfl z)
  exact kn _ _ ⟨_, _, _, _, _, _, _, _, _, _, _, _, _, _, _, _, hC, hC2, ⟨wf_strike hR.1, hR.2⟩⟩
set_option maxRecDepth 100000 in
theorem lc_of {p : Program} {l : Launch} {e : Env} {s : State} {m : MethodId} {below : List Frame} {meth : Method} {c : Code} {b L i cells slots : Nat} {xs : Nat → Int32} {G : Gc} {M : Gm} {H : Heap} {locs : List Loc} {ls : Array Slot} {Q : State → Prop} (hF : LwF p s m c b L xs) (hS : LwS G M s) (hE : LwE G M s H locs) (hi : i + 6 ≤ L) (hL : L ≤ 384) (hcs : cells ≤ 601024 ∧ slots ≤ 7293034) (hl : lv_has ls 4 [(3, .int (nI i)), (2, .ref (M.ad 0 0)), (1, .ref (G.ad 5 0)), (0, .ref b)]) (kn : ∀ (H1 : Heap) (locs1 : List Loc), LwE G M s H1 locs1 → W p l e room_1 s m #[Value.ref b] below meth c H1 locs1 cells slots Q (F0 m 1548 ls [])) : W p l e room_1 s m #[Value.ref b] below meth c H locs cells slots Q (F0 m 438 ls []) := by
  obtain ⟨hx, hb, hml, hown, hts, hXs, hbl⟩ := hF
  obtain ⟨hX, hX2, hA1, hA2, hJ, hG, hZ0⟩ := hS
  have hZ := ws_of hG hZ0
  obtain ⟨d, kp, as, un, to, sc, fd, tp, sh, sp, kp', as', bf', sc', it, mv, hC, hC2, hR⟩ := hE
  refine lv_aload_n hx hb dL_law_438 rfl (lv_at hl 2 rfl) ?_
  refine lv_aload_n hx hb dL_law_439 rfl (lv_at hl 3 rfl) ?_
  refine lv_iload_n hx hb dL_law_440 rfl (lv_at hl 0 rfl) ?_
  refine lv_iconst (v := 1) hx hb dL_law_441 rfl ?_
  refine lv_iadd hx hb dL_law_442 ?_
  refine va_sld hx hb hXs hbl (hA1.out hbl) hC.2 (vin_ik 1 hi hL (by decide)) dL_law_443 ?_
  refine lv_aload_n hx hb dL_law_444 rfl (lv_at hl 3 rfl) ?_
  refine lv_iload_n hx hb dL_law_445 rfl (lv_at hl 0 rfl) ?_
  refine lv_iconst (v := 2) hx hb dL_law_446 rfl ?_
  refine lv_iadd hx hb dL_law_447 ?_
  refine va_sld hx hb hXs hbl (hA1.out hbl) hC.2 (vin_ik 2 hi hL (by decide)) dL_law_448 ?_
  refine fc_V2 (As := [.int (xs (nI i + 1).toNatClampNeg), .int (xs (nI i + 2).toNatClampNeg)]) (rest := []) hx hb hml hown hts hX hC (m_X0_of hR.1 _ _) (lw_V q534 q535 q536 q108 q537) hdV_X0_of ⟨rfl, rfl⟩ ⟨Nat.le_of_ble_eq_true rfl, Nat.le_of_ble_eq_true rfl⟩ (fx_recv (g := 5) (i := 0) (ci := 1) (q := (RX0, TX0, 13)) hX hC (cin rfl) rfl rfl) hl.1 rfl (Nat.le_of_ble_eq_true rfl) hcs dL_law_449 hC2 hA1 hA2 hJ (fun u H locs hC hC2 => ?_)
  refine W.eq (g2 := F0 m 452 ls [_]) rfl ?_
  refine lv_aload_n hx hb dL_law_452 rfl (lv_at hl 1 rfl) ?_
  refine lv_aload_n hx hb dL_law_453 rfl (lv_at hl 3 rfl) ?_
  refine lv_iload_n hx hb dL_law_454 rfl (lv_at hl 0 rfl) ?_
  refine lv_iconst (v := 1) hx hb dL_law_455 rfl ?_
  refine lv_iadd hx hb dL_law_456 ?_
  refine va_sld hx hb hXs hbl (hA1.out hbl) hC.2 (vin_ik 1 hi hL (by decide)) dL_law_457 ?_
  refine lv_aload_n hx hb dL_law_458 rfl (lv_at hl 3 rfl) ?_
  refine lv_iload_n hx hb dL_law_459 rfl (lv_at hl 0 rfl) ?_
  refine lv_iconst (v := 2) hx hb dL_law_460 rfl ?_
  refine lv_iadd hx hb dL_law_461 ?_
  refine va_sld hx hb hXs hbl (hA1.out hbl) hC.2 (vin_ik 2 hi hL (by decide)) dL_law_462 ?_
  refine fc_V2 (As := [.int (xs (nI i + 1).toNatClampNeg), .int (xs (nI i + 2).toNatClampNeg)]) (rest := [_]) hx hb hml hown hts hX2 hC2 (m_X13_of hR.1 _ _) (lw_V q1463 q1464 q1465 q124 q1466) hdV_X13_of ⟨rfl, rfl⟩ ⟨Nat.le_of_ble_eq_true rfl, Nat.le_of_ble_eq_true rfl⟩ (fx_recv (g := 0) (i := 0) (ci := 0) (q := (RX13, TX13, 24)) hX2 hC2 (min_ (by decide)) rfl rfl) hl.1 rfl (Nat.le_of_ble_eq_true rfl) hcs dL_law_463 hC hA2 hA1 hJ.symm (fun u H locs hC2 hC => ?_)
  refine W.eq (g2 := F0 m 466 ls [_, _]) rfl ?_
  refine lv_icmp_eq (tgt := 1548) hx hb dL_law_466 (by decide) (fun _ => ?_) (fun z => absurd rfl z)
  exact kn _ _ ⟨_, _, _, _, _, _, _, _, _, _, _, _, _, _, _, _, hC, hC2, hR⟩
set_option maxRecDepth 100000 in
theorem lc_change {p : Program} {l : Launch} {e : Env} {s : State} {m : MethodId} {below : List Frame} {meth : Method} {c : Code} {b L i cells slots : Nat} {xs : Nat → Int32} {G : Gc} {M : Gm} {H : Heap} {locs : List Loc} {ls : Array Slot} {Q : State → Prop} (hF : LwF p s m c b L xs) (hS : LwS G M s) (hE : LwE G M s H locs) (hi : i + 6 ≤ L) (hL : L ≤ 384) (hcs : cells ≤ 601024 ∧ slots ≤ 7293034) (hl : lv_has ls 4 [(3, .int (nI i)), (2, .ref (M.ad 0 0)), (1, .ref (G.ad 5 0)), (0, .ref b)]) (kn : ∀ (H1 : Heap) (locs1 : List Loc), LwE G M s H1 locs1 → W p l e room_1 s m #[Value.ref b] below meth c H1 locs1 cells slots Q (F0 m 1548 ls [])) : W p l e room_1 s m #[Value.ref b] below meth c H locs cells slots Q (F0 m 471 ls []) := by
  obtain ⟨hx, hb, hml, hown, hts, hXs, hbl⟩ := hF
  obtain ⟨hX, hX2, hA1, hA2, hJ, hG, hZ0⟩ := hS
  have hZ := ws_of hG hZ0
  obtain ⟨d, kp, as, un, to, sc, fd, tp, sh, sp, kp', as', bf', sc', it, mv, hC, hC2, hR⟩ := hE
  refine lv_aload_n hx hb dL_law_471 rfl (lv_at hl 2 rfl) ?_
  refine lv_aload_n hx hb dL_law_472 rfl (lv_at hl 3 rfl) ?_
  refine lv_iload_n hx hb dL_law_473 rfl (lv_at hl 0 rfl) ?_
  refine lv_iconst (v := 1) hx hb dL_law_474 rfl ?_
  refine lv_iadd hx hb dL_law_475 ?_
  refine va_sld hx hb hXs hbl (hA1.out hbl) hC.2 (vin_ik 1 hi hL (by decide)) dL_law_476 ?_
  refine lv_aload_n hx hb dL_law_477 rfl (lv_at hl 3 rfl) ?_
  refine lv_iload_n hx hb dL_law_478 rfl (lv_at hl 0 rfl) ?_
  refine lv_iconst (v := 2) hx hb dL_law_479 rfl ?_
  refine lv_iadd hx hb dL_law_480 ?_
  refine va_sld hx hb hXs hbl (hA1.out hbl) hC.2 (vin_ik 2 hi hL (by decide)) dL_law_481 ?_
  refine lv_aload_n hx hb dL_law_482 rfl (lv_at hl 3 rfl) ?_
  refine lv_iload_n hx hb dL_law_483 rfl (lv_at hl 0 rfl) ?_
  refine lv_iconst (v := 3) hx hb dL_law_484 rfl ?_
  refine lv_iadd hx hb dL_law_485 ?_
  refine va_sld hx hb hXs hbl (hA1.out hbl) hC.2 (vin_ik 3 hi hL (by decide)) dL_law_486 ?_
  refine fc_V2 (As := [.int (xs (nI i + 1).toNatClampNeg), .int (xs (nI i + 2).toNatClampNeg), .int (xs (nI i + 3).toNatClampNeg)]) (rest := []) hx hb hml hown hts hX hC (m_X0_change hR.1 _ _ _) (lw_V q771 q772 q773 q108 q774) hdV_X0_change ⟨rfl, rfl⟩ ⟨Nat.le_of_ble_eq_true rfl, Nat.le_of_ble_eq_true rfl⟩ (fx_recv (g := 5) (i := 0) (ci := 1) (q := (RX0, TX0, 13)) hX hC (cin rfl) rfl rfl) hl.1 rfl (Nat.le_of_ble_eq_true rfl) hcs dL_law_487 hC2 hA1 hA2 hJ (fun u H locs hC hC2 => ?_)
  refine W.eq (g2 := F0 m 490 ls [_]) rfl ?_
  refine lv_aload_n hx hb dL_law_490 rfl (lv_at hl 1 rfl) ?_
  refine lv_aload_n hx hb dL_law_491 rfl (lv_at hl 3 rfl) ?_
  refine lv_iload_n hx hb dL_law_492 rfl (lv_at hl 0 rfl) ?_
  refine lv_iconst (v := 1) hx hb dL_law_493 rfl ?_
  refine lv_iadd hx hb dL_law_494 ?_
  refine va_sld hx hb hXs hbl (hA1.out hbl) hC.2 (vin_ik 1 hi hL (by decide)) dL_law_495 ?_
  refine lv_aload_n hx hb dL_law_496 rfl (lv_at hl 3 rfl) ?_
  refine lv_iload_n hx hb dL_law_497 rfl (lv_at hl 0 rfl) ?_
  refine lv_iconst (v := 2) hx hb dL_law_498 rfl ?_
  refine lv_iadd hx hb dL_law_499 ?_
  refine va_sld hx hb hXs hbl (hA1.out hbl) hC.2 (vin_ik 2 hi hL (by decide)) dL_law_500 ?_
  refine lv_aload_n hx hb dL_law_501 rfl (lv_at hl 3 rfl) ?_
  refine lv_iload_n hx hb dL_law_502 rfl (lv_at hl 0 rfl) ?_
  refine lv_iconst (v := 3) hx hb dL_law_503 rfl ?_
  refine lv_iadd hx hb dL_law_504 ?_
  refine va_sld hx hb hXs hbl (hA1.out hbl) hC.2 (vin_ik 3 hi hL (by decide)) dL_law_505 ?_
  refine fc_V2 (As := [.int (xs (nI i + 1).toNatClampNeg), .int (xs (nI i + 2).toNatClampNeg), .int (xs (nI i + 3).toNatClampNeg)]) (rest := [_]) hx hb hml hown hts hX2 hC2 (m_X13_change hR.1 _ _ _) (lw_V q1509 q1510 q1511 q124 q1512) hdV_X13_change ⟨rfl, rfl⟩ ⟨Nat.le_of_ble_eq_true rfl, Nat.le_of_ble_eq_true rfl⟩ (fx_recv (g := 0) (i := 0) (ci := 0) (q := (RX13, TX13, 24)) hX2 hC2 (min_ (by decide)) rfl rfl) hl.1 rfl (Nat.le_of_ble_eq_true rfl) hcs dL_law_506 hC hA2 hA1 hJ.symm (fun u H locs hC2 hC => ?_)
  refine W.eq (g2 := F0 m 509 ls [_, _]) rfl ?_
  refine lv_icmp_eq (tgt := 1548) hx hb dL_law_509 (by decide) (fun _ => ?_) (fun z => absurd rfl z)
  exact kn _ _ ⟨_, _, _, _, _, _, _, _, _, _, _, _, _, _, _, _, hC, hC2, ⟨wf_change hR.1, hR.2⟩⟩
set_option maxRecDepth 100000 in
theorem lc_strikes {p : Program} {l : Launch} {e : Env} {s : State} {m : MethodId} {below : List Frame} {meth : Method} {c : Code} {b L i cells slots : Nat} {xs : Nat → Int32} {G : Gc} {M : Gm} {H : Heap} {locs : List Loc} {ls : Array Slot} {Q : State → Prop} (hF : LwF p s m c b L xs) (hS : LwS G M s) (hE : LwE G M s H locs) (hi : i + 6 ≤ L) (hL : L ≤ 384) (hcs : cells ≤ 601024 ∧ slots ≤ 7293034) (hl : lv_has ls 4 [(3, .int (nI i)), (2, .ref (M.ad 0 0)), (1, .ref (G.ad 5 0)), (0, .ref b)]) (kn : ∀ (H1 : Heap) (locs1 : List Loc), LwE G M s H1 locs1 → W p l e room_1 s m #[Value.ref b] below meth c H1 locs1 cells slots Q (F0 m 1548 ls [])) : W p l e room_1 s m #[Value.ref b] below meth c H locs cells slots Q (F0 m 514 ls []) := by
  obtain ⟨hx, hb, hml, hown, hts, hXs, hbl⟩ := hF
  obtain ⟨hX, hX2, hA1, hA2, hJ, hG, hZ0⟩ := hS
  have hZ := ws_of hG hZ0
  obtain ⟨d, kp, as, un, to, sc, fd, tp, sh, sp, kp', as', bf', sc', it, mv, hC, hC2, hR⟩ := hE
  refine lv_aload_n hx hb dL_law_514 rfl (lv_at hl 2 rfl) ?_
  refine lv_aload_n hx hb dL_law_515 rfl (lv_at hl 3 rfl) ?_
  refine lv_iload_n hx hb dL_law_516 rfl (lv_at hl 0 rfl) ?_
  refine lv_iconst (v := 1) hx hb dL_law_517 rfl ?_
  refine lv_iadd hx hb dL_law_518 ?_
  refine va_sld hx hb hXs hbl (hA1.out hbl) hC.2 (vin_ik 1 hi hL (by decide)) dL_law_519 ?_
  refine fc_V2 (As := [.int (xs (nI i + 1).toNatClampNeg)]) (rest := []) hx hb hml hown hts hX hC (m_X0_strikes hR.1 _) (lw_V q778 q779 q780 q108 q781) hdV_X0_strikes ⟨rfl, rfl⟩ ⟨Nat.le_of_ble_eq_true rfl, Nat.le_of_ble_eq_true rfl⟩ (fx_recv (g := 5) (i := 0) (ci := 1) (q := (RX0, TX0, 13)) hX hC (cin rfl) rfl rfl) hl.1 rfl (Nat.le_of_ble_eq_true rfl) hcs dL_law_520 hC2 hA1 hA2 hJ (fun u H locs hC hC2 => ?_)
  refine W.eq (g2 := F0 m 523 ls [_]) rfl ?_
  refine lv_aload_n hx hb dL_law_523 rfl (lv_at hl 1 rfl) ?_
  refine lv_aload_n hx hb dL_law_524 rfl (lv_at hl 3 rfl) ?_
  refine lv_iload_n hx hb dL_law_525 rfl (lv_at hl 0 rfl) ?_
  refine lv_iconst (v := 1) hx hb dL_law_526 rfl ?_
  refine lv_iadd hx hb dL_law_527 ?_
  refine va_sld hx hb hXs hbl (hA1.out hbl) hC.2 (vin_ik 1 hi hL (by decide)) dL_law_528 ?_
  refine fc_V2 (As := [.int (xs (nI i + 1).toNatClampNeg)]) (rest := [_]) hx hb hml hown hts hX2 hC2 (m_X13_strikes hR.1 _) (lw_V q1516 q1517 q1518 q124 q1519) hdV_X13_strikes ⟨rfl, rfl⟩ ⟨Nat.le_of_ble_eq_true rfl, Nat.le_of_ble_eq_true rfl⟩ (fx_recv (g := 0) (i := 0) (ci := 0) (q := (RX13, TX13, 24)) hX2 hC2 (min_ (by decide)) rfl rfl) hl.1 rfl (Nat.le_of_ble_eq_true rfl) hcs dL_law_529 hC hA2 hA1 hJ.symm (fun u H locs hC2 hC => ?_)
  refine W.eq (g2 := F0 m 532 ls [_, _]) rfl ?_
  refine lv_icmp_eq (tgt := 1548) hx hb dL_law_532 (by decide) (fun _ => ?_) (fun z => absurd rfl z)
  exact kn _ _ ⟨_, _, _, _, _, _, _, _, _, _, _, _, _, _, _, _, hC, hC2, ⟨wf_strikes hR.1, hR.2⟩⟩
set_option maxRecDepth 100000 in
theorem lc_go {p : Program} {l : Launch} {e : Env} {s : State} {m : MethodId} {below : List Frame} {meth : Method} {c : Code} {b L i cells slots : Nat} {xs : Nat → Int32} {G : Gc} {M : Gm} {H : Heap} {locs : List Loc} {ls : Array Slot} {Q : State → Prop} (hF : LwF p s m c b L xs) (hS : LwS G M s) (hE : LwE G M s H locs) (hi : i + 6 ≤ L) (hL : L ≤ 384) (hcs : cells ≤ 601024 ∧ slots ≤ 7293034) (hl : lv_has ls 4 [(3, .int (nI i)), (2, .ref (M.ad 0 0)), (1, .ref (G.ad 5 0)), (0, .ref b)]) (kn : ∀ (H1 : Heap) (locs1 : List Loc), LwE G M s H1 locs1 → W p l e room_1 s m #[Value.ref b] below meth c H1 locs1 cells slots Q (F0 m 1548 ls [])) : W p l e room_1 s m #[Value.ref b] below meth c H locs cells slots Q (F0 m 537 ls []) := by
  obtain ⟨hx, hb, hml, hown, hts, hXs, hbl⟩ := hF
  obtain ⟨hX, hX2, hA1, hA2, hJ, hG, hZ0⟩ := hS
  have hZ := ws_of hG hZ0
  obtain ⟨d, kp, as, un, to, sc, fd, tp, sh, sp, kp', as', bf', sc', it, mv, hC, hC2, hR⟩ := hE
  refine lv_aload_n hx hb dL_law_537 rfl (lv_at hl 2 rfl) ?_
  refine lv_aload_n hx hb dL_law_538 rfl (lv_at hl 3 rfl) ?_
  refine lv_iload_n hx hb dL_law_539 rfl (lv_at hl 0 rfl) ?_
  refine lv_iconst (v := 1) hx hb dL_law_540 rfl ?_
  refine lv_iadd hx hb dL_law_541 ?_
  refine va_sld hx hb hXs hbl (hA1.out hbl) hC.2 (vin_ik 1 hi hL (by decide)) dL_law_542 ?_
  refine fc_V2 (As := [.int (xs (nI i + 1).toNatClampNeg)]) (rest := []) hx hb hml hown hts hX hC (m_X0_go hR.1 _) (lw_V q794 q795 q796 q108 q797) hdV_X0_go ⟨rfl, rfl⟩ ⟨Nat.le_of_ble_eq_true rfl, Nat.le_of_ble_eq_true rfl⟩ (fx_recv (g := 5) (i := 0) (ci := 1) (q := (RX0, TX0, 13)) hX hC (cin rfl) rfl rfl) hl.1 rfl (Nat.le_of_ble_eq_true rfl) hcs dL_law_543 hC2 hA1 hA2 hJ (fun u H locs hC hC2 => ?_)
  refine W.eq (g2 := F0 m 546 ls [_]) rfl ?_
  refine lv_aload_n hx hb dL_law_546 rfl (lv_at hl 1 rfl) ?_
  refine lv_aload_n hx hb dL_law_547 rfl (lv_at hl 3 rfl) ?_
  refine lv_iload_n hx hb dL_law_548 rfl (lv_at hl 0 rfl) ?_
  refine lv_iconst (v := 1) hx hb dL_law_549 rfl ?_
  refine lv_iadd hx hb dL_law_550 ?_
  refine va_sld hx hb hXs hbl (hA1.out hbl) hC.2 (vin_ik 1 hi hL (by decide)) dL_law_551 ?_
  refine fc_V2 (As := [.int (xs (nI i + 1).toNatClampNeg)]) (rest := [_]) hx hb hml hown hts hX2 hC2 (m_X13_go hR.1 _) (lw_V q1527 q1528 q1529 q124 q1530) hdV_X13_go ⟨rfl, rfl⟩ ⟨Nat.le_of_ble_eq_true rfl, Nat.le_of_ble_eq_true rfl⟩ (fx_recv (g := 0) (i := 0) (ci := 0) (q := (RX13, TX13, 24)) hX2 hC2 (min_ (by decide)) rfl rfl) hl.1 rfl (Nat.le_of_ble_eq_true rfl) hcs dL_law_552 hC hA2 hA1 hJ.symm (fun u H locs hC2 hC => ?_)
  refine W.eq (g2 := F0 m 555 ls [_, _]) rfl ?_
  refine lv_icmp_eq (tgt := 1548) hx hb dL_law_555 (by decide) (fun _ => ?_) (fun z => absurd rfl z)
  exact kn _ _ ⟨_, _, _, _, _, _, _, _, _, _, _, _, _, _, _, _, hC, hC2, ⟨wf_go hR.1, hR.2⟩⟩
set_option maxRecDepth 100000 in
theorem lc_now {p : Program} {l : Launch} {e : Env} {s : State} {m : MethodId} {below : List Frame} {meth : Method} {c : Code} {b L i cells slots : Nat} {xs : Nat → Int32} {G : Gc} {M : Gm} {H : Heap} {locs : List Loc} {ls : Array Slot} {Q : State → Prop} (hF : LwF p s m c b L xs) (hS : LwS G M s) (hE : LwE G M s H locs) (hi : i + 6 ≤ L) (hL : L ≤ 384) (hcs : cells ≤ 601024 ∧ slots ≤ 7293034) (hl : lv_has ls 4 [(3, .int (nI i)), (2, .ref (M.ad 0 0)), (1, .ref (G.ad 5 0)), (0, .ref b)]) (kn : ∀ (H1 : Heap) (locs1 : List Loc), LwE G M s H1 locs1 → W p l e room_1 s m #[Value.ref b] below meth c H1 locs1 cells slots Q (F0 m 1548 ls [])) : W p l e room_1 s m #[Value.ref b] below meth c H locs cells slots Q (F0 m 560 ls []) := by
  obtain ⟨hx, hb, hml, hown, hts, hXs, hbl⟩ := hF
  obtain ⟨hX, hX2, hA1, hA2, hJ, hG, hZ0⟩ := hS
  have hZ := ws_of hG hZ0
  obtain ⟨d, kp, as, un, to, sc, fd, tp, sh, sp, kp', as', bf', sc', it, mv, hC, hC2, hR⟩ := hE
  refine lv_aload_n hx hb dL_law_560 rfl (lv_at hl 2 rfl) ?_
  refine lv_aload_n hx hb dL_law_561 rfl (lv_at hl 3 rfl) ?_
  refine lv_iload_n hx hb dL_law_562 rfl (lv_at hl 0 rfl) ?_
  refine lv_iconst (v := 1) hx hb dL_law_563 rfl ?_
  refine lv_iadd hx hb dL_law_564 ?_
  refine va_sld hx hb hXs hbl (hA1.out hbl) hC.2 (vin_ik 1 hi hL (by decide)) dL_law_565 ?_
  refine fc_V2 (As := [.int (xs (nI i + 1).toNatClampNeg)]) (rest := []) hx hb hml hown hts hX hC (m_X0_now hR.1 _) (lw_V q802 q803 q804 q108 q805) hdV_X0_now ⟨rfl, rfl⟩ ⟨Nat.le_of_ble_eq_true rfl, Nat.le_of_ble_eq_true rfl⟩ (fx_recv (g := 5) (i := 0) (ci := 1) (q := (RX0, TX0, 13)) hX hC (cin rfl) rfl rfl) hl.1 rfl (Nat.le_of_ble_eq_true rfl) hcs dL_law_566 hC2 hA1 hA2 hJ (fun u H locs hC hC2 => ?_)
  refine W.eq (g2 := F0 m 569 ls [_]) rfl ?_
  refine lv_aload_n hx hb dL_law_569 rfl (lv_at hl 1 rfl) ?_
  refine lv_aload_n hx hb dL_law_570 rfl (lv_at hl 3 rfl) ?_
  refine lv_iload_n hx hb dL_law_571 rfl (lv_at hl 0 rfl) ?_
  refine lv_iconst (v := 1) hx hb dL_law_572 rfl ?_
  refine lv_iadd hx hb dL_law_573 ?_
  refine va_sld hx hb hXs hbl (hA1.out hbl) hC.2 (vin_ik 1 hi hL (by decide)) dL_law_574 ?_
  refine fc_V2 (As := [.int (xs (nI i + 1).toNatClampNeg)]) (rest := [_]) hx hb hml hown hts hX2 hC2 (m_X13_now hR.1 _) (lw_V q1531 q1532 q1533 q124 q1534) hdV_X13_now ⟨rfl, rfl⟩ ⟨Nat.le_of_ble_eq_true rfl, Nat.le_of_ble_eq_true rfl⟩ (fx_recv (g := 0) (i := 0) (ci := 0) (q := (RX13, TX13, 24)) hX2 hC2 (min_ (by decide)) rfl rfl) hl.1 rfl (Nat.le_of_ble_eq_true rfl) hcs dL_law_575 hC hA2 hA1 hJ.symm (fun u H locs hC2 hC => ?_)
  refine W.eq (g2 := F0 m 578 ls [_, _]) rfl ?_
  refine lv_icmp_eq (tgt := 1548) hx hb dL_law_578 (by decide) (fun _ => ?_) (fun z => absurd rfl z)
  exact kn _ _ ⟨_, _, _, _, _, _, _, _, _, _, _, _, _, _, _, _, hC, hC2, hR⟩
set_option maxRecDepth 100000 in
theorem lc_ear {p : Program} {l : Launch} {e : Env} {s : State} {m : MethodId} {below : List Frame} {meth : Method} {c : Code} {b L i cells slots : Nat} {xs : Nat → Int32} {G : Gc} {M : Gm} {H : Heap} {locs : List Loc} {ls : Array Slot} {Q : State → Prop} (hF : LwF p s m c b L xs) (hS : LwS G M s) (hE : LwE G M s H locs) (hi : i + 6 ≤ L) (hL : L ≤ 384) (hcs : cells ≤ 601024 ∧ slots ≤ 7293034) (hl : lv_has ls 4 [(3, .int (nI i)), (2, .ref (M.ad 0 0)), (1, .ref (G.ad 5 0)), (0, .ref b)]) (kn : ∀ (H1 : Heap) (locs1 : List Loc), LwE G M s H1 locs1 → W p l e room_1 s m #[Value.ref b] below meth c H1 locs1 cells slots Q (F0 m 1548 ls [])) : W p l e room_1 s m #[Value.ref b] below meth c H locs cells slots Q (F0 m 583 ls []) := by
  obtain ⟨hx, hb, hml, hown, hts, hXs, hbl⟩ := hF
  obtain ⟨hX, hX2, hA1, hA2, hJ, hG, hZ0⟩ := hS
  have hZ := ws_of hG hZ0
  obtain ⟨d, kp, as, un, to, sc, fd, tp, sh, sp, kp', as', bf', sc', it, mv, hC, hC2, hR⟩ := hE
  refine lv_aload_n hx hb dL_law_583 rfl (lv_at hl 2 rfl) ?_
  refine lv_aload_n hx hb dL_law_584 rfl (lv_at hl 3 rfl) ?_
  refine lv_iload_n hx hb dL_law_585 rfl (lv_at hl 0 rfl) ?_
  refine lv_iconst (v := 1) hx hb dL_law_586 rfl ?_
  refine lv_iadd hx hb dL_law_587 ?_
  refine va_sld hx hb hXs hbl (hA1.out hbl) hC.2 (vin_ik 1 hi hL (by decide)) dL_law_588 ?_
  refine fc_V2 (As := [.int (xs (nI i + 1).toNatClampNeg)]) (rest := []) hx hb hml hown hts hX hC (m_X0_ear hR.1 _) (lw_V q838 q839 q840 q108 q841) hdV_X0_ear ⟨rfl, rfl⟩ ⟨Nat.le_of_ble_eq_true rfl, Nat.le_of_ble_eq_true rfl⟩ (fx_recv (g := 5) (i := 0) (ci := 1) (q := (RX0, TX0, 13)) hX hC (cin rfl) rfl rfl) hl.1 rfl (Nat.le_of_ble_eq_true rfl) hcs dL_law_589 hC2 hA1 hA2 hJ (fun u H locs hC hC2 => ?_)
  refine W.eq (g2 := F0 m 592 ls [_]) rfl ?_
  refine lv_aload_n hx hb dL_law_592 rfl (lv_at hl 1 rfl) ?_
  refine lv_aload_n hx hb dL_law_593 rfl (lv_at hl 3 rfl) ?_
  refine lv_iload_n hx hb dL_law_594 rfl (lv_at hl 0 rfl) ?_
  refine lv_iconst (v := 1) hx hb dL_law_595 rfl ?_
  refine lv_iadd hx hb dL_law_596 ?_
  refine va_sld hx hb hXs hbl (hA1.out hbl) hC.2 (vin_ik 1 hi hL (by decide)) dL_law_597 ?_
  refine fc_V2 (As := [.int (xs (nI i + 1).toNatClampNeg)]) (rest := [_]) hx hb hml hown hts hX2 hC2 (m_X13_ear hR.1 _) (lw_V q1566 q1567 q1568 q124 q1569) hdV_X13_ear ⟨rfl, rfl⟩ ⟨Nat.le_of_ble_eq_true rfl, Nat.le_of_ble_eq_true rfl⟩ (fx_recv (g := 0) (i := 0) (ci := 0) (q := (RX13, TX13, 24)) hX2 hC2 (min_ (by decide)) rfl rfl) hl.1 rfl (Nat.le_of_ble_eq_true rfl) hcs dL_law_598 hC hA2 hA1 hJ.symm (fun u H locs hC2 hC => ?_)
  refine W.eq (g2 := F0 m 601 ls [_, _]) rfl ?_
  refine lv_icmp_eq (tgt := 1548) hx hb dL_law_601 (by decide) (fun _ => ?_) (fun z => absurd rfl z)
  exact kn _ _ ⟨_, _, _, _, _, _, _, _, _, _, _, _, _, _, _, _, hC, hC2, hR⟩
set_option maxRecDepth 100000 in
theorem lc_where {p : Program} {l : Launch} {e : Env} {s : State} {m : MethodId} {below : List Frame} {meth : Method} {c : Code} {b L i cells slots : Nat} {xs : Nat → Int32} {G : Gc} {M : Gm} {H : Heap} {locs : List Loc} {ls : Array Slot} {Q : State → Prop} (hF : LwF p s m c b L xs) (hS : LwS G M s) (hE : LwE G M s H locs) (hi : i + 6 ≤ L) (hL : L ≤ 384) (hcs : cells ≤ 601024 ∧ slots ≤ 7293034) (hl : lv_has ls 4 [(3, .int (nI i)), (2, .ref (M.ad 0 0)), (1, .ref (G.ad 5 0)), (0, .ref b)]) (kn : ∀ (H1 : Heap) (locs1 : List Loc), LwE G M s H1 locs1 → W p l e room_1 s m #[Value.ref b] below meth c H1 locs1 cells slots Q (F0 m 1548 ls [])) : W p l e room_1 s m #[Value.ref b] below meth c H locs cells slots Q (F0 m 606 ls []) := by
  obtain ⟨hx, hb, hml, hown, hts, hXs, hbl⟩ := hF
  obtain ⟨hX, hX2, hA1, hA2, hJ, hG, hZ0⟩ := hS
  have hZ := ws_of hG hZ0
  obtain ⟨d, kp, as, un, to, sc, fd, tp, sh, sp, kp', as', bf', sc', it, mv, hC, hC2, hR⟩ := hE
  refine lv_aload_n hx hb dL_law_606 rfl (lv_at hl 2 rfl) ?_
  refine lv_aload_n hx hb dL_law_607 rfl (lv_at hl 3 rfl) ?_
  refine lv_iload_n hx hb dL_law_608 rfl (lv_at hl 0 rfl) ?_
  refine lv_iconst (v := 1) hx hb dL_law_609 rfl ?_
  refine lv_iadd hx hb dL_law_610 ?_
  refine va_sld hx hb hXs hbl (hA1.out hbl) hC.2 (vin_ik 1 hi hL (by decide)) dL_law_611 ?_
  refine fc_V2 (As := [.int (xs (nI i + 1).toNatClampNeg)]) (rest := []) hx hb hml hown hts hX hC (m_X0_where hR.1 _) (lw_V q844 q845 q846 q108 q847) hdV_X0_where ⟨rfl, rfl⟩ ⟨Nat.le_of_ble_eq_true rfl, Nat.le_of_ble_eq_true rfl⟩ (fx_recv (g := 5) (i := 0) (ci := 1) (q := (RX0, TX0, 13)) hX hC (cin rfl) rfl rfl) hl.1 rfl (Nat.le_of_ble_eq_true rfl) hcs dL_law_612 hC2 hA1 hA2 hJ (fun u H locs hC hC2 => ?_)
  refine W.eq (g2 := F0 m 615 ls [_]) rfl ?_
  refine lv_aload_n hx hb dL_law_615 rfl (lv_at hl 1 rfl) ?_
  refine lv_aload_n hx hb dL_law_616 rfl (lv_at hl 3 rfl) ?_
  refine lv_iload_n hx hb dL_law_617 rfl (lv_at hl 0 rfl) ?_
  refine lv_iconst (v := 1) hx hb dL_law_618 rfl ?_
  refine lv_iadd hx hb dL_law_619 ?_
  refine va_sld hx hb hXs hbl (hA1.out hbl) hC.2 (vin_ik 1 hi hL (by decide)) dL_law_620 ?_
  refine fc_V2 (As := [.int (xs (nI i + 1).toNatClampNeg)]) (rest := [_]) hx hb hml hown hts hX2 hC2 (m_X13_where hR.1 _) (lw_V q1571 q1572 q1573 q124 q1574) hdV_X13_where ⟨rfl, rfl⟩ ⟨Nat.le_of_ble_eq_true rfl, Nat.le_of_ble_eq_true rfl⟩ (fx_recv (g := 0) (i := 0) (ci := 0) (q := (RX13, TX13, 24)) hX2 hC2 (min_ (by decide)) rfl rfl) hl.1 rfl (Nat.le_of_ble_eq_true rfl) hcs dL_law_621 hC hA2 hA1 hJ.symm (fun u H locs hC2 hC => ?_)
  refine W.eq (g2 := F0 m 624 ls [_, _]) rfl ?_
  refine lv_icmp_eq (tgt := 1548) hx hb dL_law_624 (by decide) (fun _ => ?_) (fun z => absurd rfl z)
  exact kn _ _ ⟨_, _, _, _, _, _, _, _, _, _, _, _, _, _, _, _, hC, hC2, hR⟩
set_option maxRecDepth 100000 in
theorem lc_heard {p : Program} {l : Launch} {e : Env} {s : State} {m : MethodId} {below : List Frame} {meth : Method} {c : Code} {b L i cells slots : Nat} {xs : Nat → Int32} {G : Gc} {M : Gm} {H : Heap} {locs : List Loc} {ls : Array Slot} {Q : State → Prop} (hF : LwF p s m c b L xs) (hS : LwS G M s) (hE : LwE G M s H locs) (hi : i + 6 ≤ L) (hL : L ≤ 384) (hcs : cells ≤ 601024 ∧ slots ≤ 7293034) (hl : lv_has ls 4 [(3, .int (nI i)), (2, .ref (M.ad 0 0)), (1, .ref (G.ad 5 0)), (0, .ref b)]) (kn : ∀ (H1 : Heap) (locs1 : List Loc), LwE G M s H1 locs1 → W p l e room_1 s m #[Value.ref b] below meth c H1 locs1 cells slots Q (F0 m 1548 ls [])) : W p l e room_1 s m #[Value.ref b] below meth c H locs cells slots Q (F0 m 629 ls []) := by
  obtain ⟨hx, hb, hml, hown, hts, hXs, hbl⟩ := hF
  obtain ⟨hX, hX2, hA1, hA2, hJ, hG, hZ0⟩ := hS
  have hZ := ws_of hG hZ0
  obtain ⟨d, kp, as, un, to, sc, fd, tp, sh, sp, kp', as', bf', sc', it, mv, hC, hC2, hR⟩ := hE
  refine lv_aload_n hx hb dL_law_629 rfl (lv_at hl 2 rfl) ?_
  refine lv_aload_n hx hb dL_law_630 rfl (lv_at hl 3 rfl) ?_
  refine lv_iload_n hx hb dL_law_631 rfl (lv_at hl 0 rfl) ?_
  refine lv_iconst (v := 1) hx hb dL_law_632 rfl ?_
  refine lv_iadd hx hb dL_law_633 ?_
  refine va_sld hx hb hXs hbl (hA1.out hbl) hC.2 (vin_ik 1 hi hL (by decide)) dL_law_634 ?_
  refine fc_V2 (As := [.int (xs (nI i + 1).toNatClampNeg)]) (rest := []) hx hb hml hown hts hX hC (m_X0_heard hR.1 _) (lw_V q852 q853 q854 q108 q855) hdV_X0_heard ⟨rfl, rfl⟩ ⟨Nat.le_of_ble_eq_true rfl, Nat.le_of_ble_eq_true rfl⟩ (fx_recv (g := 5) (i := 0) (ci := 1) (q := (RX0, TX0, 13)) hX hC (cin rfl) rfl rfl) hl.1 rfl (Nat.le_of_ble_eq_true rfl) hcs dL_law_635 hC2 hA1 hA2 hJ (fun u H locs hC hC2 => ?_)
  refine W.eq (g2 := F0 m 638 ls [_]) rfl ?_
  refine lv_aload_n hx hb dL_law_638 rfl (lv_at hl 1 rfl) ?_
  refine lv_aload_n hx hb dL_law_639 rfl (lv_at hl 3 rfl) ?_
  refine lv_iload_n hx hb dL_law_640 rfl (lv_at hl 0 rfl) ?_
  refine lv_iconst (v := 1) hx hb dL_law_641 rfl ?_
  refine lv_iadd hx hb dL_law_642 ?_
  refine va_sld hx hb hXs hbl (hA1.out hbl) hC.2 (vin_ik 1 hi hL (by decide)) dL_law_643 ?_
  refine fc_V2 (As := [.int (xs (nI i + 1).toNatClampNeg)]) (rest := [_]) hx hb hml hown hts hX2 hC2 (m_X13_heard hR.1 _) (lw_V q1582 q1583 q1584 q124 q1585) hdV_X13_heard ⟨rfl, rfl⟩ ⟨Nat.le_of_ble_eq_true rfl, Nat.le_of_ble_eq_true rfl⟩ (fx_recv (g := 0) (i := 0) (ci := 0) (q := (RX13, TX13, 24)) hX2 hC2 (min_ (by decide)) rfl rfl) hl.1 rfl (Nat.le_of_ble_eq_true rfl) hcs dL_law_644 hC hA2 hA1 hJ.symm (fun u H locs hC2 hC => ?_)
  refine W.eq (g2 := F0 m 647 ls [_, _]) rfl ?_
  refine lv_icmp_eq (tgt := 1548) hx hb dL_law_647 (by decide) (fun _ => ?_) (fun z => absurd rfl z)
  exact kn _ _ ⟨_, _, _, _, _, _, _, _, _, _, _, _, _, _, _, _, hC, hC2, hR⟩
set_option maxRecDepth 100000 in
theorem lc_when {p : Program} {l : Launch} {e : Env} {s : State} {m : MethodId} {below : List Frame} {meth : Method} {c : Code} {b L i cells slots : Nat} {xs : Nat → Int32} {G : Gc} {M : Gm} {H : Heap} {locs : List Loc} {ls : Array Slot} {Q : State → Prop} (hF : LwF p s m c b L xs) (hS : LwS G M s) (hE : LwE G M s H locs) (hi : i + 6 ≤ L) (hL : L ≤ 384) (hcs : cells ≤ 601024 ∧ slots ≤ 7293034) (hl : lv_has ls 4 [(3, .int (nI i)), (2, .ref (M.ad 0 0)), (1, .ref (G.ad 5 0)), (0, .ref b)]) (kn : ∀ (H1 : Heap) (locs1 : List Loc), LwE G M s H1 locs1 → W p l e room_1 s m #[Value.ref b] below meth c H1 locs1 cells slots Q (F0 m 1548 ls [])) : W p l e room_1 s m #[Value.ref b] below meth c H locs cells slots Q (F0 m 652 ls []) := by
  obtain ⟨hx, hb, hml, hown, hts, hXs, hbl⟩ := hF
  obtain ⟨hX, hX2, hA1, hA2, hJ, hG, hZ0⟩ := hS
  have hZ := ws_of hG hZ0
  obtain ⟨d, kp, as, un, to, sc, fd, tp, sh, sp, kp', as', bf', sc', it, mv, hC, hC2, hR⟩ := hE
  refine lv_aload_n hx hb dL_law_652 rfl (lv_at hl 2 rfl) ?_
  refine lv_aload_n hx hb dL_law_653 rfl (lv_at hl 3 rfl) ?_
  refine lv_iload_n hx hb dL_law_654 rfl (lv_at hl 0 rfl) ?_
  refine lv_iconst (v := 1) hx hb dL_law_655 rfl ?_
  refine lv_iadd hx hb dL_law_656 ?_
  refine va_sld hx hb hXs hbl (hA1.out hbl) hC.2 (vin_ik 1 hi hL (by decide)) dL_law_657 ?_
  refine fc_V2 (As := [.int (xs (nI i + 1).toNatClampNeg)]) (rest := []) hx hb hml hown hts hX hC (m_X0_when hR.1 _) (lw_V q860 q861 q862 q108 q863) hdV_X0_when ⟨rfl, rfl⟩ ⟨Nat.le_of_ble_eq_true rfl, Nat.le_of_ble_eq_true rfl⟩ (fx_recv (g := 5) (i := 0) (ci := 1) (q := (RX0, TX0, 13)) hX hC (cin rfl) rfl rfl) hl.1 rfl (Nat.le_of_ble_eq_true rfl) hcs dL_law_658 hC2 hA1 hA2 hJ (fun u H locs hC hC2 => ?_)
  refine W.eq (g2 := F0 m 661 ls [_]) rfl ?_
  refine lv_aload_n hx hb dL_law_661 rfl (lv_at hl 1 rfl) ?_
  refine lv_aload_n hx hb dL_law_662 rfl (lv_at hl 3 rfl) ?_
  refine lv_iload_n hx hb dL_law_663 rfl (lv_at hl 0 rfl) ?_
  refine lv_iconst (v := 1) hx hb dL_law_664 rfl ?_
  refine lv_iadd hx hb dL_law_665 ?_
  refine va_sld hx hb hXs hbl (hA1.out hbl) hC.2 (vin_ik 1 hi hL (by decide)) dL_law_666 ?_
  refine fc_V2 (As := [.int (xs (nI i + 1).toNatClampNeg)]) (rest := [_]) hx hb hml hown hts hX2 hC2 (m_X13_when hR.1 _) (lw_V q1590 q1591 q1592 q124 q1593) hdV_X13_when ⟨rfl, rfl⟩ ⟨Nat.le_of_ble_eq_true rfl, Nat.le_of_ble_eq_true rfl⟩ (fx_recv (g := 0) (i := 0) (ci := 0) (q := (RX13, TX13, 24)) hX2 hC2 (min_ (by decide)) rfl rfl) hl.1 rfl (Nat.le_of_ble_eq_true rfl) hcs dL_law_667 hC hA2 hA1 hJ.symm (fun u H locs hC2 hC => ?_)
  refine W.eq (g2 := F0 m 670 ls [_, _]) rfl ?_
  refine lv_icmp_eq (tgt := 1548) hx hb dL_law_670 (by decide) (fun _ => ?_) (fun z => absurd rfl z)
  exact kn _ _ ⟨_, _, _, _, _, _, _, _, _, _, _, _, _, _, _, _, hC, hC2, hR⟩
set_option maxRecDepth 100000 in
theorem lc_rustle {p : Program} {l : Launch} {e : Env} {s : State} {m : MethodId} {below : List Frame} {meth : Method} {c : Code} {b L i cells slots : Nat} {xs : Nat → Int32} {G : Gc} {M : Gm} {H : Heap} {locs : List Loc} {ls : Array Slot} {Q : State → Prop} (hF : LwF p s m c b L xs) (hS : LwS G M s) (hE : LwE G M s H locs) (hi : i + 6 ≤ L) (hL : L ≤ 384) (hcs : cells ≤ 601024 ∧ slots ≤ 7293034) (hl : lv_has ls 4 [(3, .int (nI i)), (2, .ref (M.ad 0 0)), (1, .ref (G.ad 5 0)), (0, .ref b)]) (kn : ∀ (H1 : Heap) (locs1 : List Loc), LwE G M s H1 locs1 → W p l e room_1 s m #[Value.ref b] below meth c H1 locs1 cells slots Q (F0 m 1548 ls [])) : W p l e room_1 s m #[Value.ref b] below meth c H locs cells slots Q (F0 m 675 ls []) := by
  obtain ⟨hx, hb, hml, hown, hts, hXs, hbl⟩ := hF
  obtain ⟨hX, hX2, hA1, hA2, hJ, hG, hZ0⟩ := hS
  have hZ := ws_of hG hZ0
  obtain ⟨d, kp, as, un, to, sc, fd, tp, sh, sp, kp', as', bf', sc', it, mv, hC, hC2, hR⟩ := hE
  refine lv_aload_n hx hb dL_law_675 rfl (lv_at hl 2 rfl) ?_
  refine fc_V2 (As := []) (rest := []) hx hb hml hown hts hX hC (m_X0_rustle hR.1) (lw_V q872 q873 q874 q108 q875) hdV_X0_rustle ⟨rfl, rfl⟩ ⟨Nat.le_of_ble_eq_true rfl, Nat.le_of_ble_eq_true rfl⟩ (fx_recv (g := 5) (i := 0) (ci := 1) (q := (RX0, TX0, 13)) hX hC (cin rfl) rfl rfl) hl.1 rfl (Nat.le_of_ble_eq_true rfl) hcs dL_law_676 hC2 hA1 hA2 hJ (fun u H locs hC hC2 => ?_)
  refine W.eq (g2 := F0 m 679 ls [_]) rfl ?_
  refine lv_aload_n hx hb dL_law_679 rfl (lv_at hl 1 rfl) ?_
  refine fc_V2 (As := []) (rest := [_]) hx hb hml hown hts hX2 hC2 (m_X13_rustle hR.1) (lw_V q1598 q1599 q1600 q124 q1601) hdV_X13_rustle ⟨rfl, rfl⟩ ⟨Nat.le_of_ble_eq_true rfl, Nat.le_of_ble_eq_true rfl⟩ (fx_recv (g := 0) (i := 0) (ci := 0) (q := (RX13, TX13, 24)) hX2 hC2 (min_ (by decide)) rfl rfl) hl.1 rfl (Nat.le_of_ble_eq_true rfl) hcs dL_law_680 hC hA2 hA1 hJ.symm (fun u H locs hC2 hC => ?_)
  refine W.eq (g2 := F0 m 683 ls [_, _]) rfl ?_
  refine lv_icmp_eq (tgt := 1548) hx hb dL_law_683 (by decide) (fun _ => ?_) (fun z => absurd rfl z)
  exact kn _ _ ⟨_, _, _, _, _, _, _, _, _, _, _, _, _, _, _, _, hC, hC2, hR⟩
set_option maxRecDepth 100000 in
theorem lc_run {p : Program} {l : Launch} {e : Env} {s : State} {m : MethodId} {below : List Frame} {meth : Method} {c : Code} {b L i cells slots : Nat} {xs : Nat → Int32} {G : Gc} {M : Gm} {H : Heap} {locs : List Loc} {ls : Array Slot} {Q : State → Prop} (hF : LwF p s m c b L xs) (hS : LwS G M s) (hE : LwE G M s H locs) (hi : i + 6 ≤ L) (hL : L ≤ 384) (hcs : cells ≤ 601024 ∧ slots ≤ 7293034) (hl : lv_has ls 4 [(3, .int (nI i)), (2, .ref (M.ad 0 0)), (1, .ref (G.ad 5 0)), (0, .ref b)]) (kn : ∀ (H1 : Heap) (locs1 : List Loc), LwE G M s H1 locs1 → W p l e room_1 s m #[Value.ref b] below meth c H1 locs1 cells slots Q (F0 m 1548 ls [])) : W p l e room_1 s m #[Value.ref b] below meth c H locs cells slots Q (F0 m 688 ls []) := by
  obtain ⟨hx, hb, hml, hown, hts, hXs, hbl⟩ := hF
  obtain ⟨hX, hX2, hA1, hA2, hJ, hG, hZ0⟩ := hS
  have hZ := ws_of hG hZ0
  obtain ⟨d, kp, as, un, to, sc, fd, tp, sh, sp, kp', as', bf', sc', it, mv, hC, hC2, hR⟩ := hE
  refine lv_aload_n hx hb dL_law_688 rfl (lv_at hl 2 rfl) ?_
  refine lv_aload_n hx hb dL_law_689 rfl (lv_at hl 3 rfl) ?_
  refine lv_iload_n hx hb dL_law_690 rfl (lv_at hl 0 rfl) ?_
  refine lv_iconst (v := 1) hx hb dL_law_691 rfl ?_
  refine lv_iadd hx hb dL_law_692 ?_
  refine va_sld hx hb hXs hbl (hA1.out hbl) hC.2 (vin_ik 1 hi hL (by decide)) dL_law_693 ?_
  refine fc_V2 (As := [.int (xs (nI i + 1).toNatClampNeg)]) (rest := []) hx hb hml hown hts hX hC (m_X0_run hR.1 _) (lw_V q876 q877 q878 q108 q879) hdV_X0_run ⟨rfl, rfl⟩ ⟨Nat.le_of_ble_eq_true rfl, Nat.le_of_ble_eq_true rfl⟩ (fx_recv (g := 5) (i := 0) (ci := 1) (q := (RX0, TX0, 13)) hX hC (cin rfl) rfl rfl) hl.1 rfl (Nat.le_of_ble_eq_true rfl) hcs dL_law_694 hC2 hA1 hA2 hJ (fun u H locs hC hC2 => ?_)
  refine W.eq (g2 := F0 m 697 ls [_]) rfl ?_
  refine lv_aload_n hx hb dL_law_697 rfl (lv_at hl 1 rfl) ?_
  refine lv_aload_n hx hb dL_law_698 rfl (lv_at hl 3 rfl) ?_
  refine lv_iload_n hx hb dL_law_699 rfl (lv_at hl 0 rfl) ?_
  refine lv_iconst (v := 1) hx hb dL_law_700 rfl ?_
  refine lv_iadd hx hb dL_law_701 ?_
  refine va_sld hx hb hXs hbl (hA1.out hbl) hC.2 (vin_ik 1 hi hL (by decide)) dL_law_702 ?_
  refine fc_V2 (As := [.int (xs (nI i + 1).toNatClampNeg)]) (rest := [_]) hx hb hml hown hts hX2 hC2 (m_X13_run hR.1 _) (lw_V q1602 q1603 q1604 q124 q1605) hdV_X13_run ⟨rfl, rfl⟩ ⟨Nat.le_of_ble_eq_true rfl, Nat.le_of_ble_eq_true rfl⟩ (fx_recv (g := 0) (i := 0) (ci := 0) (q := (RX13, TX13, 24)) hX2 hC2 (min_ (by decide)) rfl rfl) hl.1 rfl (Nat.le_of_ble_eq_true rfl) hcs dL_law_703 hC hA2 hA1 hJ.symm (fun u H locs hC2 hC => ?_)
  refine W.eq (g2 := F0 m 706 ls [_, _]) rfl ?_
  refine W.lcmp hx hb dL_law_706 ?_
  refine lv_if_eq (tgt := 1548) hx hb dL_law_707 (by decide) (fun _ => ?_) (fun z => absurd (cmp_self _) z)
  exact kn _ _ ⟨_, _, _, _, _, _, _, _, _, _, _, _, _, _, _, _, hC, hC2, hR⟩
set_option maxRecDepth 100000 in
theorem lc_soonest {p : Program} {l : Launch} {e : Env} {s : State} {m : MethodId} {below : List Frame} {meth : Method} {c : Code} {b L i cells slots : Nat} {xs : Nat → Int32} {G : Gc} {M : Gm} {H : Heap} {locs : List Loc} {ls : Array Slot} {Q : State → Prop} (hF : LwF p s m c b L xs) (hS : LwS G M s) (hE : LwE G M s H locs) (hi : i + 6 ≤ L) (hL : L ≤ 384) (hcs : cells ≤ 601024 ∧ slots ≤ 7293034) (hl : lv_has ls 4 [(3, .int (nI i)), (2, .ref (M.ad 0 0)), (1, .ref (G.ad 5 0)), (0, .ref b)]) (kn : ∀ (H1 : Heap) (locs1 : List Loc), LwE G M s H1 locs1 → W p l e room_1 s m #[Value.ref b] below meth c H1 locs1 cells slots Q (F0 m 1548 ls [])) : W p l e room_1 s m #[Value.ref b] below meth c H locs cells slots Q (F0 m 712 ls []) := by
  obtain ⟨hx, hb, hml, hown, hts, hXs, hbl⟩ := hF
  obtain ⟨hX, hX2, hA1, hA2, hJ, hG, hZ0⟩ := hS
  have hZ := ws_of hG hZ0
  obtain ⟨d, kp, as, un, to, sc, fd, tp, sh, sp, kp', as', bf', sc', it, mv, hC, hC2, hR⟩ := hE
  refine lv_aload_n hx hb dL_law_712 rfl (lv_at hl 2 rfl) ?_
  refine lv_aload_n hx hb dL_law_713 rfl (lv_at hl 3 rfl) ?_
  refine lv_iload_n hx hb dL_law_714 rfl (lv_at hl 0 rfl) ?_
  refine lv_iconst (v := 1) hx hb dL_law_715 rfl ?_
  refine lv_iadd hx hb dL_law_716 ?_
  refine va_sld hx hb hXs hbl (hA1.out hbl) hC.2 (vin_ik 1 hi hL (by decide)) dL_law_717 ?_
  refine fc_V2 (As := [.int (xs (nI i + 1).toNatClampNeg)]) (rest := []) hx hb hml hown hts hX hC (m_X0_soonest hR.1 _) (lw_V q884 q885 q886 q108 q887) hdV_X0_soonest ⟨rfl, rfl⟩ ⟨Nat.le_of_ble_eq_true rfl, Nat.le_of_ble_eq_true rfl⟩ (fx_recv (g := 5) (i := 0) (ci := 1) (q := (RX0, TX0, 13)) hX hC (cin rfl) rfl rfl) hl.1 rfl (Nat.le_of_ble_eq_true rfl) hcs dL_law_718 hC2 hA1 hA2 hJ (fun u H locs hC hC2 => ?_)
  refine W.eq (g2 := F0 m 721 ls [_]) rfl ?_
  refine lv_aload_n hx hb dL_law_721 rfl (lv_at hl 1 rfl) ?_
  refine lv_aload_n hx hb dL_law_722 rfl (lv_at hl 3 rfl) ?_
  refine lv_iload_n hx hb dL_law_723 rfl (lv_at hl 0 rfl) ?_
  refine lv_iconst (v := 1) hx hb dL_law_724 rfl ?_
  refine lv_iadd hx hb dL_law_725 ?_
  refine va_sld hx hb hXs hbl (hA1.out hbl) hC.2 (vin_ik 1 hi hL (by decide)) dL_law_726 ?_
  refine fc_V2 (As := [.int (xs (nI i + 1).toNatClampNeg)]) (rest := [_]) hx hb hml hown hts hX2 hC2 (m_X13_soonest hR.1 _) (lw_V q1606 q1607 q1608 q124 q1609) hdV_X13_soonest ⟨rfl, rfl⟩ ⟨Nat.le_of_ble_eq_true rfl, Nat.le_of_ble_eq_true rfl⟩ (fx_recv (g := 0) (i := 0) (ci := 0) (q := (RX13, TX13, 24)) hX2 hC2 (min_ (by decide)) rfl rfl) hl.1 rfl (Nat.le_of_ble_eq_true rfl) hcs dL_law_727 hC hA2 hA1 hJ.symm (fun u H locs hC2 hC => ?_)
  refine W.eq (g2 := F0 m 730 ls [_, _]) rfl ?_
  refine lv_icmp_eq (tgt := 1548) hx hb dL_law_730 (by decide) (fun _ => ?_) (fun z => absurd rfl z)
  exact kn _ _ ⟨_, _, _, _, _, _, _, _, _, _, _, _, _, _, _, _, hC, hC2, hR⟩
set_option maxRecDepth 100000 in
theorem lc_chances {p : Program} {l : Launch} {e : Env} {s : State} {m : MethodId} {below : List Frame} {meth : Method} {c : Code} {b L i cells slots : Nat} {xs : Nat → Int32} {G : Gc} {M : Gm} {H : Heap} {locs : List Loc} {ls : Array Slot} {Q : State → Prop} (hF : LwF p s m c b L xs) (hS : LwS G M s) (hE : LwE G M s H locs) (hi : i + 6 ≤ L) (hL : L ≤ 384) (hcs : cells ≤ 601024 ∧ slots ≤ 7293034) (hl : lv_has ls 4 [(3, .int (nI i)), (2, .ref (M.ad 0 0)), (1, .ref (G.ad 5 0)), (0, .ref b)]) (kn : ∀ (H1 : Heap) (locs1 : List Loc), LwE G M s H1 locs1 → W p l e room_1 s m #[Value.ref b] below meth c H1 locs1 cells slots Q (F0 m 1548 ls [])) : W p l e room_1 s m #[Value.ref b] below meth c H locs cells slots Q (F0 m 735 ls []) := by
  obtain ⟨hx, hb, hml, hown, hts, hXs, hbl⟩ := hF
  obtain ⟨hX, hX2, hA1, hA2, hJ, hG, hZ0⟩ := hS
  have hZ := ws_of hG hZ0
  obtain ⟨d, kp, as, un, to, sc, fd, tp, sh, sp, kp', as', bf', sc', it, mv, hC, hC2, hR⟩ := hE
  refine lv_aload_n hx hb dL_law_735 rfl (lv_at hl 2 rfl) ?_
  refine lv_aload_n hx hb dL_law_736 rfl (lv_at hl 3 rfl) ?_
  refine lv_iload_n hx hb dL_law_737 rfl (lv_at hl 0 rfl) ?_
  refine lv_iconst (v := 1) hx hb dL_law_738 rfl ?_
  refine lv_iadd hx hb dL_law_739 ?_
  refine va_sld hx hb hXs hbl (hA1.out hbl) hC.2 (vin_ik 1 hi hL (by decide)) dL_law_740 ?_
  refine lv_aload_n hx hb dL_law_741 rfl (lv_at hl 3 rfl) ?_
  refine lv_iload_n hx hb dL_law_742 rfl (lv_at hl 0 rfl) ?_
  refine lv_iconst (v := 2) hx hb dL_law_743 rfl ?_
  refine lv_iadd hx hb dL_law_744 ?_
  refine va_sld hx hb hXs hbl (hA1.out hbl) hC.2 (vin_ik 2 hi hL (by decide)) dL_law_745 ?_
  refine fc_V2 (As := [.int (xs (nI i + 1).toNatClampNeg), .int (xs (nI i + 2).toNatClampNeg)]) (rest := []) hx hb hml hown hts hX hC (m_X0_chances hR.1 _ _) (lw_V q892 q893 q894 q108 q895) hdV_X0_chances ⟨rfl, rfl⟩ ⟨Nat.le_of_ble_eq_true rfl, Nat.le_of_ble_eq_true rfl⟩ (fx_recv (g := 5) (i := 0) (ci := 1) (q := (RX0, TX0, 13)) hX hC (cin rfl) rfl rfl) hl.1 rfl (Nat.le_of_ble_eq_true rfl) hcs dL_law_746 hC2 hA1 hA2 hJ (fun u H locs hC hC2 => ?_)
  refine W.eq (g2 := F0 m 749 ls [_]) rfl ?_
  refine lv_aload_n hx hb dL_law_749 rfl (lv_at hl 1 rfl) ?_
  refine lv_aload_n hx hb dL_law_750 rfl (lv_at hl 3 rfl) ?_
  refine lv_iload_n hx hb dL_law_751 rfl (lv_at hl 0 rfl) ?_
  refine lv_iconst (v := 1) hx hb dL_law_752 rfl ?_
  refine lv_iadd hx hb dL_law_753 ?_
  refine va_sld hx hb hXs hbl (hA1.out hbl) hC.2 (vin_ik 1 hi hL (by decide)) dL_law_754 ?_
  refine lv_aload_n hx hb dL_law_755 rfl (lv_at hl 3 rfl) ?_
  refine lv_iload_n hx hb dL_law_756 rfl (lv_at hl 0 rfl) ?_
  refine lv_iconst (v := 2) hx hb dL_law_757 rfl ?_
  refine lv_iadd hx hb dL_law_758 ?_
  refine va_sld hx hb hXs hbl (hA1.out hbl) hC.2 (vin_ik 2 hi hL (by decide)) dL_law_759 ?_
  refine fc_V2 (As := [.int (xs (nI i + 1).toNatClampNeg), .int (xs (nI i + 2).toNatClampNeg)]) (rest := [_]) hx hb hml hown hts hX2 hC2 (m_X13_chances hR.1 _ _) (lw_V q1610 q1611 q1612 q124 q1613) hdV_X13_chances ⟨rfl, rfl⟩ ⟨Nat.le_of_ble_eq_true rfl, Nat.le_of_ble_eq_true rfl⟩ (fx_recv (g := 0) (i := 0) (ci := 0) (q := (RX13, TX13, 24)) hX2 hC2 (min_ (by decide)) rfl rfl) hl.1 rfl (Nat.le_of_ble_eq_true rfl) hcs dL_law_760 hC hA2 hA1 hJ.symm (fun u H locs hC2 hC => ?_)
  refine W.eq (g2 := F0 m 763 ls [_, _]) rfl ?_
  refine lv_icmp_eq (tgt := 1548) hx hb dL_law_763 (by decide) (fun _ => ?_) (fun z => absurd rfl z)
  exact kn _ _ ⟨_, _, _, _, _, _, _, _, _, _, _, _, _, _, _, _, hC, hC2, hR⟩
set_option maxRecDepth 100000 in
theorem lc_aim {p : Program} {l : Launch} {e : Env} {s : State} {m : MethodId} {below : List Frame} {meth : Method} {c : Code} {b L i cells slots : Nat} {xs : Nat → Int32} {G : Gc} {M : Gm} {H : Heap} {locs : List Loc} {ls : Array Slot} {Q : State → Prop} (hF : LwF p s m c b L xs) (hS : LwS G M s) (hE : LwE G M s H locs) (hi : i + 6 ≤ L) (hL : L ≤ 384) (hcs : cells ≤ 601024 ∧ slots ≤ 7293034) (hl : lv_has ls 4 [(3, .int (nI i)), (2, .ref (M.ad 0 0)), (1, .ref (G.ad 5 0)), (0, .ref b)]) (kn : ∀ (H1 : Heap) (locs1 : List Loc), LwE G M s H1 locs1 → W p l e room_1 s m #[Value.ref b] below meth c H1 locs1 cells slots Q (F0 m 1548 ls [])) : W p l e room_1 s m #[Value.ref b] below meth c H locs cells slots Q (F0 m 768 ls []) := by
  obtain ⟨hx, hb, hml, hown, hts, hXs, hbl⟩ := hF
  obtain ⟨hX, hX2, hA1, hA2, hJ, hG, hZ0⟩ := hS
  have hZ := ws_of hG hZ0
  obtain ⟨d, kp, as, un, to, sc, fd, tp, sh, sp, kp', as', bf', sc', it, mv, hC, hC2, hR⟩ := hE
  refine lv_aload_n hx hb dL_law_768 rfl (lv_at hl 2 rfl) ?_
  refine lv_aload_n hx hb dL_law_769 rfl (lv_at hl 3 rfl) ?_
  refine lv_iload_n hx hb dL_law_770 rfl (lv_at hl 0 rfl) ?_
  refine lv_iconst (v := 1) hx hb dL_law_771 rfl ?_
  refine lv_iadd hx hb dL_law_772 ?_
  refine va_sld hx hb hXs hbl (hA1.out hbl) hC.2 (vin_ik 1 hi hL (by decide)) dL_law_773 ?_
  refine fc_V2 (As := [.int (xs (nI i + 1).toNatClampNeg)]) (rest := []) hx hb hml hown hts hX hC (m_X0_aim hR.1 _) (lw_V q900 q901 q902 q108 q903) hdV_X0_aim ⟨rfl, rfl⟩ ⟨Nat.le_of_ble_eq_true rfl, Nat.le_of_ble_eq_true rfl⟩ (fx_recv (g := 5) (i := 0) (ci := 1) (q := (RX0, TX0, 13)) hX hC (cin rfl) rfl rfl) hl.1 rfl (Nat.le_of_ble_eq_true rfl) hcs dL_law_774 hC2 hA1 hA2 hJ (fun u H locs hC hC2 => ?_)
  refine W.eq (g2 := F0 m 777 ls [_]) rfl ?_
  refine lv_aload_n hx hb dL_law_777 rfl (lv_at hl 1 rfl) ?_
  refine lv_aload_n hx hb dL_law_778 rfl (lv_at hl 3 rfl) ?_
  refine lv_iload_n hx hb dL_law_779 rfl (lv_at hl 0 rfl) ?_
  refine lv_iconst (v := 1) hx hb dL_law_780 rfl ?_
  refine lv_iadd hx hb dL_law_781 ?_
  refine va_sld hx hb hXs hbl (hA1.out hbl) hC.2 (vin_ik 1 hi hL (by decide)) dL_law_782 ?_
  refine fc_V2 (As := [.int (xs (nI i + 1).toNatClampNeg)]) (rest := [_]) hx hb hml hown hts hX2 hC2 (m_X13_aim hR.1 _) (lw_V q1618 q1619 q1620 q124 q1621) hdV_X13_aim ⟨rfl, rfl⟩ ⟨Nat.le_of_ble_eq_true rfl, Nat.le_of_ble_eq_true rfl⟩ (fx_recv (g := 0) (i := 0) (ci := 0) (q := (RX13, TX13, 24)) hX2 hC2 (min_ (by decide)) rfl rfl) hl.1 rfl (Nat.le_of_ble_eq_true rfl) hcs dL_law_783 hC hA2 hA1 hJ.symm (fun u H locs hC2 hC => ?_)
  refine W.eq (g2 := F0 m 786 ls [_, _]) rfl ?_
  refine lv_icmp_eq (tgt := 1548) hx hb dL_law_786 (by decide) (fun _ => ?_) (fun z => absurd rfl z)
  exact kn _ _ ⟨_, _, _, _, _, _, _, _, _, _, _, _, _, _, _, _, hC, hC2, hR⟩
set_option maxRecDepth 100000 in
theorem lc_aims {p : Program} {l : Launch} {e : Env} {s : State} {m : MethodId} {below : List Frame} {meth : Method} {c : Code} {b L i cells slots : Nat} {xs : Nat → Int32} {G : Gc} {M : Gm} {H : Heap} {locs : List Loc} {ls : Array Slot} {Q : State → Prop} (hF : LwF p s m c b L xs) (hS : LwS G M s) (hE : LwE G M s H locs) (hi : i + 6 ≤ L) (hL : L ≤ 384) (hcs : cells ≤ 601024 ∧ slots ≤ 7293034) (hl : lv_has ls 4 [(3, .int (nI i)), (2, .ref (M.ad 0 0)), (1, .ref (G.ad 5 0)), (0, .ref b)]) (kn : ∀ (H1 : Heap) (locs1 : List Loc), LwE G M s H1 locs1 → W p l e room_1 s m #[Value.ref b] below meth c H1 locs1 cells slots Q (F0 m 1548 ls [])) : W p l e room_1 s m #[Value.ref b] below meth c H locs cells slots Q (F0 m 791 ls []) := by
  obtain ⟨hx, hb, hml, hown, hts, hXs, hbl⟩ := hF
  obtain ⟨hX, hX2, hA1, hA2, hJ, hG, hZ0⟩ := hS
  have hZ := ws_of hG hZ0
  obtain ⟨d, kp, as, un, to, sc, fd, tp, sh, sp, kp', as', bf', sc', it, mv, hC, hC2, hR⟩ := hE
  refine lv_aload_n hx hb dL_law_791 rfl (lv_at hl 2 rfl) ?_
  refine lv_aload_n hx hb dL_law_792 rfl (lv_at hl 3 rfl) ?_
  refine lv_iload_n hx hb dL_law_793 rfl (lv_at hl 0 rfl) ?_
  refine lv_iconst (v := 1) hx hb dL_law_794 rfl ?_
  refine lv_iadd hx hb dL_law_795 ?_
  refine va_sld hx hb hXs hbl (hA1.out hbl) hC.2 (vin_ik 1 hi hL (by decide)) dL_law_796 ?_
  refine fc_V2 (As := [.int (xs (nI i + 1).toNatClampNeg)]) (rest := []) hx hb hml hown hts hX hC (m_X0_aims hR.1 _) (lw_V q919 q920 q921 q108 q922) hdV_X0_aims ⟨rfl, rfl⟩ ⟨Nat.le_of_ble_eq_true rfl, Nat.le_of_ble_eq_true rfl⟩ (fx_recv (g := 5) (i := 0) (ci := 1) (q := (RX0, TX0, 13)) hX hC (cin rfl) rfl rfl) hl.1 rfl (Nat.le_of_ble_eq_true rfl) hcs dL_law_797 hC2 hA1 hA2 hJ (fun u H locs hC hC2 => ?_)
  refine W.eq (g2 := F0 m 800 ls [_]) rfl ?_
  refine lv_aload_n hx hb dL_law_800 rfl (lv_at hl 1 rfl) ?_
  refine lv_aload_n hx hb dL_law_801 rfl (lv_at hl 3 rfl) ?_
  refine lv_iload_n hx hb dL_law_802 rfl (lv_at hl 0 rfl) ?_
  refine lv_iconst (v := 1) hx hb dL_law_803 rfl ?_
  refine lv_iadd hx hb dL_law_804 ?_
  refine va_sld hx hb hXs hbl (hA1.out hbl) hC.2 (vin_ik 1 hi hL (by decide)) dL_law_805 ?_
  refine fc_V2 (As := [.int (xs (nI i + 1).toNatClampNeg)]) (rest := [_]) hx hb hml hown hts hX2 hC2 (m_X13_aims hR.1 _) (lw_V q1626 q1627 q1628 q124 q1629) hdV_X13_aims ⟨rfl, rfl⟩ ⟨Nat.le_of_ble_eq_true rfl, Nat.le_of_ble_eq_true rfl⟩ (fx_recv (g := 0) (i := 0) (ci := 0) (q := (RX13, TX13, 24)) hX2 hC2 (min_ (by decide)) rfl rfl) hl.1 rfl (Nat.le_of_ble_eq_true rfl) hcs dL_law_806 hC hA2 hA1 hJ.symm (fun u H locs hC2 hC => ?_)
  refine W.eq (g2 := F0 m 809 ls [_, _]) rfl ?_
  refine W.lcmp hx hb dL_law_809 ?_
  refine lv_if_eq (tgt := 1548) hx hb dL_law_810 (by decide) (fun _ => ?_) (fun z => absurd (cmp_self _) z)
  exact kn _ _ ⟨_, _, _, _, _, _, _, _, _, _, _, _, _, _, _, _, hC, hC2, hR⟩
set_option maxRecDepth 100000 in
theorem lc_kinds {p : Program} {l : Launch} {e : Env} {s : State} {m : MethodId} {below : List Frame} {meth : Method} {c : Code} {b L i cells slots : Nat} {xs : Nat → Int32} {G : Gc} {M : Gm} {H : Heap} {locs : List Loc} {ls : Array Slot} {Q : State → Prop} (hF : LwF p s m c b L xs) (hS : LwS G M s) (hE : LwE G M s H locs) (hi : i + 6 ≤ L) (hL : L ≤ 384) (hcs : cells ≤ 601024 ∧ slots ≤ 7293034) (hl : lv_has ls 4 [(3, .int (nI i)), (2, .ref (M.ad 0 0)), (1, .ref (G.ad 5 0)), (0, .ref b)]) (kn : ∀ (H1 : Heap) (locs1 : List Loc), LwE G M s H1 locs1 → W p l e room_1 s m #[Value.ref b] below meth c H1 locs1 cells slots Q (F0 m 1548 ls [])) : W p l e room_1 s m #[Value.ref b] below meth c H locs cells slots Q (F0 m 815 ls []) := by
  obtain ⟨hx, hb, hml, hown, hts, hXs, hbl⟩ := hF
  obtain ⟨hX, hX2, hA1, hA2, hJ, hG, hZ0⟩ := hS
  have hZ := ws_of hG hZ0
  obtain ⟨d, kp, as, un, to, sc, fd, tp, sh, sp, kp', as', bf', sc', it, mv, hC, hC2, hR⟩ := hE
  refine lv_aload_n hx hb dL_law_815 rfl (lv_at hl 2 rfl) ?_
  refine lv_aload_n hx hb dL_law_816 rfl (lv_at hl 3 rfl) ?_
  refine lv_iload_n hx hb dL_law_817 rfl (lv_at hl 0 rfl) ?_
  refine lv_iconst (v := 1) hx hb dL_law_818 rfl ?_
  refine lv_iadd hx hb dL_law_819 ?_
  refine va_sld hx hb hXs hbl (hA1.out hbl) hC.2 (vin_ik 1 hi hL (by decide)) dL_law_820 ?_
  refine fc_V2 (As := [.int (xs (nI i + 1).toNatClampNeg)]) (rest := []) hx hb hml hown hts hX hC (m_X0_kinds hR.1 _) (lw_V q923 q924 q925 q108 q926) hdV_X0_kinds ⟨rfl, rfl⟩ ⟨Nat.le_of_ble_eq_true rfl, Nat.le_of_ble_eq_true rfl⟩ (fx_recv (g := 5) (i := 0) (ci := 1) (q := (RX0, TX0, 13)) hX hC (cin rfl) rfl rfl) hl.1 rfl (Nat.le_of_ble_eq_true rfl) hcs dL_law_821 hC2 hA1 hA2 hJ (fun u H locs hC hC2 => ?_)
  refine W.eq (g2 := F0 m 824 ls [_]) rfl ?_
  refine lv_aload_n hx hb dL_law_824 rfl (lv_at hl 1 rfl) ?_
  refine lv_aload_n hx hb dL_law_825 rfl (lv_at hl 3 rfl) ?_
  refine lv_iload_n hx hb dL_law_826 rfl (lv_at hl 0 rfl) ?_
  refine lv_iconst (v := 1) hx hb dL_law_827 rfl ?_
  refine lv_iadd hx hb dL_law_828 ?_
  refine va_sld hx hb hXs hbl (hA1.out hbl) hC.2 (vin_ik 1 hi hL (by decide)) dL_law_829 ?_
  refine fc_V2 (As := [.int (xs (nI i + 1).toNatClampNeg)]) (rest := [_]) hx hb hml hown hts hX2 hC2 (m_X13_kinds hR.1 _) (lw_V q1630 q1631 q1632 q124 q1633) hdV_X13_kinds ⟨rfl, rfl⟩ ⟨Nat.le_of_ble_eq_true rfl, Nat.le_of_ble_eq_true rfl⟩ (fx_recv (g := 0) (i := 0) (ci := 0) (q := (RX13, TX13, 24)) hX2 hC2 (min_ (by decide)) rfl rfl) hl.1 rfl (Nat.le_of_ble_eq_true rfl) hcs dL_law_830 hC hA2 hA1 hJ.symm (fun u H locs hC2 hC => ?_)
  refine W.eq (g2 := F0 m 833 ls [_, _]) rfl ?_
  refine lv_icmp_eq (tgt := 1548) hx hb dL_law_833 (by decide) (fun _ => ?_) (fun z => absurd rfl z)
  exact kn _ _ ⟨_, _, _, _, _, _, _, _, _, _, _, _, _, _, _, _, hC, hC2, hR⟩
set_option maxRecDepth 100000 in
theorem lc_waitFor {p : Program} {l : Launch} {e : Env} {s : State} {m : MethodId} {below : List Frame} {meth : Method} {c : Code} {b L i cells slots : Nat} {xs : Nat → Int32} {G : Gc} {M : Gm} {H : Heap} {locs : List Loc} {ls : Array Slot} {Q : State → Prop} (hF : LwF p s m c b L xs) (hS : LwS G M s) (hE : LwE G M s H locs) (hi : i + 6 ≤ L) (hL : L ≤ 384) (hcs : cells ≤ 601024 ∧ slots ≤ 7293034) (hl : lv_has ls 4 [(3, .int (nI i)), (2, .ref (M.ad 0 0)), (1, .ref (G.ad 5 0)), (0, .ref b)]) (kn : ∀ (H1 : Heap) (locs1 : List Loc), LwE G M s H1 locs1 → W p l e room_1 s m #[Value.ref b] below meth c H1 locs1 cells slots Q (F0 m 1548 ls [])) : W p l e room_1 s m #[Value.ref b] below meth c H locs cells slots Q (F0 m 838 ls []) := by
  obtain ⟨hx, hb, hml, hown, hts, hXs, hbl⟩ := hF
  obtain ⟨hX, hX2, hA1, hA2, hJ, hG, hZ0⟩ := hS
  have hZ := ws_of hG hZ0
  obtain ⟨d, kp, as, un, to, sc, fd, tp, sh, sp, kp', as', bf', sc', it, mv, hC, hC2, hR⟩ := hE
  refine lv_aload_n hx hb dL_law_838 rfl (lv_at hl 2 rfl) ?_
  refine lv_aload_n hx hb dL_law_839 rfl (lv_at hl 3 rfl) ?_
  refine lv_iload_n hx hb dL_law_840 rfl (lv_at hl 0 rfl) ?_
  refine lv_iconst (v := 1) hx hb dL_law_841 rfl ?_
  refine lv_iadd hx hb dL_law_842 ?_
  refine va_sld hx hb hXs hbl (hA1.out hbl) hC.2 (vin_ik 1 hi hL (by decide)) dL_law_843 ?_
  refine fc_V2 (As := [.int (xs (nI i + 1).toNatClampNeg)]) (rest := []) hx hb hml hown hts hX hC (m_X0_waitFor hR.1 _) (lw_V q927 q928 q929 q108 q930) hdV_X0_waitFor ⟨rfl, rfl⟩ ⟨Nat.le_of_ble_eq_true rfl, Nat.le_of_ble_eq_true rfl⟩ (fx_recv (g := 5) (i := 0) (ci := 1) (q := (RX0, TX0, 13)) hX hC (cin rfl) rfl rfl) hl.1 rfl (Nat.le_of_ble_eq_true rfl) hcs dL_law_844 hC2 hA1 hA2 hJ (fun u H locs hC hC2 => ?_)
  refine W.eq (g2 := F0 m 847 ls [_]) rfl ?_
  refine lv_aload_n hx hb dL_law_847 rfl (lv_at hl 1 rfl) ?_
  refine lv_aload_n hx hb dL_law_848 rfl (lv_at hl 3 rfl) ?_
  refine lv_iload_n hx hb dL_law_849 rfl (lv_at hl 0 rfl) ?_
  refine lv_iconst (v := 1) hx hb dL_law_850 rfl ?_
  refine lv_iadd hx hb dL_law_851 ?_
  refine va_sld hx hb hXs hbl (hA1.out hbl) hC.2 (vin_ik 1 hi hL (by decide)) dL_law_852 ?_
  refine fc_V2 (As := [.int (xs (nI i + 1).toNatClampNeg)]) (rest := [_]) hx hb hml hown hts hX2 hC2 (m_X13_waitFor hR.1 _) (lw_V q1638 q1639 q1640 q124 q1641) hdV_X13_waitFor ⟨rfl, rfl⟩ ⟨Nat.le_of_ble_eq_true rfl, Nat.le_of_ble_eq_true rfl⟩ (fx_recv (g := 0) (i := 0) (ci := 0) (q := (RX13, TX13, 24)) hX2 hC2 (min_ (by decide)) rfl rfl) hl.1 rfl (Nat.le_of_ble_eq_true rfl) hcs dL_law_853 hC hA2 hA1 hJ.symm (fun u H locs hC2 hC => ?_)
  refine W.eq (g2 := F0 m 856 ls [_, _]) rfl ?_
  refine lv_icmp_eq (tgt := 1548) hx hb dL_law_856 (by decide) (fun _ => ?_) (fun z => absurd rfl z)
  exact kn _ _ ⟨_, _, _, _, _, _, _, _, _, _, _, _, _, _, _, _, hC, hC2, hR⟩
set_option maxRecDepth 100000 in
theorem lc_best {p : Program} {l : Launch} {e : Env} {s : State} {m : MethodId} {below : List Frame} {meth : Method} {c : Code} {b L i cells slots : Nat} {xs : Nat → Int32} {G : Gc} {M : Gm} {H : Heap} {locs : List Loc} {ls : Array Slot} {Q : State → Prop} (hF : LwF p s m c b L xs) (hS : LwS G M s) (hE : LwE G M s H locs) (hi : i + 6 ≤ L) (hL : L ≤ 384) (hcs : cells ≤ 601024 ∧ slots ≤ 7293034) (hl : lv_has ls 4 [(3, .int (nI i)), (2, .ref (M.ad 0 0)), (1, .ref (G.ad 5 0)), (0, .ref b)]) (kn : ∀ (H1 : Heap) (locs1 : List Loc), LwE G M s H1 locs1 → W p l e room_1 s m #[Value.ref b] below meth c H1 locs1 cells slots Q (F0 m 1548 ls [])) : W p l e room_1 s m #[Value.ref b] below meth c H locs cells slots Q (F0 m 861 ls []) := by
  obtain ⟨hx, hb, hml, hown, hts, hXs, hbl⟩ := hF
  obtain ⟨hX, hX2, hA1, hA2, hJ, hG, hZ0⟩ := hS
  have hZ := ws_of hG hZ0
  obtain ⟨d, kp, as, un, to, sc, fd, tp, sh, sp, kp', as', bf', sc', it, mv, hC, hC2, hR⟩ := hE
  refine lv_aload_n hx hb dL_law_861 rfl (lv_at hl 2 rfl) ?_
  refine lv_aload_n hx hb dL_law_862 rfl (lv_at hl 3 rfl) ?_
  refine lv_iload_n hx hb dL_law_863 rfl (lv_at hl 0 rfl) ?_
  refine lv_iconst (v := 1) hx hb dL_law_864 rfl ?_
  refine lv_iadd hx hb dL_law_865 ?_
  refine va_sld hx hb hXs hbl (hA1.out hbl) hC.2 (vin_ik 1 hi hL (by decide)) dL_law_866 ?_
  refine fc_V2 (As := [.int (xs (nI i + 1).toNatClampNeg)]) (rest := []) hx hb hml hown hts hX hC (m_X0_best hR.1 _) (lw_V q931 q932 q933 q108 q934) hdV_X0_best ⟨rfl, rfl⟩ ⟨Nat.le_of_ble_eq_true rfl, Nat.le_of_ble_eq_true rfl⟩ (fx_recv (g := 5) (i := 0) (ci := 1) (q := (RX0, TX0, 13)) hX hC (cin rfl) rfl rfl) hl.1 rfl (Nat.le_of_ble_eq_true rfl) hcs dL_law_867 hC2 hA1 hA2 hJ (fun u H locs hC hC2 => ?_)
  refine W.eq (g2 := F0 m 870 ls [_]) rfl ?_
  refine lv_aload_n hx hb dL_law_870 rfl (lv_at hl 1 rfl) ?_
  refine lv_aload_n hx hb dL_law_871 rfl (lv_at hl 3 rfl) ?_
  refine lv_iload_n hx hb dL_law_872 rfl (lv_at hl 0 rfl) ?_
  refine lv_iconst (v := 1) hx hb dL_law_873 rfl ?_
  refine lv_iadd hx hb dL_law_874 ?_
  refine va_sld hx hb hXs hbl (hA1.out hbl) hC.2 (vin_ik 1 hi hL (by decide)) dL_law_875 ?_
  refine fc_V2 (As := [.int (xs (nI i + 1).toNatClampNeg)]) (rest := [_]) hx hb hml hown hts hX2 hC2 (m_X13_best hR.1 _) (lw_V q1645 q1646 q1647 q124 q1648) hdV_X13_best ⟨rfl, rfl⟩ ⟨Nat.le_of_ble_eq_true rfl, Nat.le_of_ble_eq_true rfl⟩ (fx_recv (g := 0) (i := 0) (ci := 0) (q := (RX13, TX13, 24)) hX2 hC2 (min_ (by decide)) rfl rfl) hl.1 rfl (Nat.le_of_ble_eq_true rfl) hcs dL_law_876 hC hA2 hA1 hJ.symm (fun u H locs hC2 hC => ?_)
  refine W.eq (g2 := F0 m 879 ls [_, _]) rfl ?_
  refine lv_icmp_eq (tgt := 1548) hx hb dL_law_879 (by decide) (fun _ => ?_) (fun z => absurd rfl z)
  exact kn _ _ ⟨_, _, _, _, _, _, _, _, _, _, _, _, _, _, _, _, hC, hC2, hR⟩
set_option maxRecDepth 100000 in
theorem lc_post {p : Program} {l : Launch} {e : Env} {s : State} {m : MethodId} {below : List Frame} {meth : Method} {c : Code} {b L i cells slots : Nat} {xs : Nat → Int32} {G : Gc} {M : Gm} {H : Heap} {locs : List Loc} {ls : Array Slot} {Q : State → Prop} (hF : LwF p s m c b L xs) (hS : LwS G M s) (hE : LwE G M s H locs) (hi : i + 6 ≤ L) (hL : L ≤ 384) (hcs : cells ≤ 601024 ∧ slots ≤ 7293034) (hl : lv_has ls 4 [(3, .int (nI i)), (2, .ref (M.ad 0 0)), (1, .ref (G.ad 5 0)), (0, .ref b)]) (kn : ∀ (H1 : Heap) (locs1 : List Loc), LwE G M s H1 locs1 → W p l e room_1 s m #[Value.ref b] below meth c H1 locs1 cells slots Q (F0 m 1548 ls [])) : W p l e room_1 s m #[Value.ref b] below meth c H locs cells slots Q (F0 m 884 ls []) := by
  obtain ⟨hx, hb, hml, hown, hts, hXs, hbl⟩ := hF
  obtain ⟨hX, hX2, hA1, hA2, hJ, hG, hZ0⟩ := hS
  have hZ := ws_of hG hZ0
  obtain ⟨d, kp, as, un, to, sc, fd, tp, sh, sp, kp', as', bf', sc', it, mv, hC, hC2, hR⟩ := hE
  refine lv_aload_n hx hb dL_law_884 rfl (lv_at hl 2 rfl) ?_
  refine lv_aload_n hx hb dL_law_885 rfl (lv_at hl 3 rfl) ?_
  refine lv_iload_n hx hb dL_law_886 rfl (lv_at hl 0 rfl) ?_
  refine lv_iconst (v := 1) hx hb dL_law_887 rfl ?_
  refine lv_iadd hx hb dL_law_888 ?_
  refine va_sld hx hb hXs hbl (hA1.out hbl) hC.2 (vin_ik 1 hi hL (by decide)) dL_law_889 ?_
  refine fc_V2 (As := [.int (xs (nI i + 1).toNatClampNeg)]) (rest := []) hx hb hml hown hts hX hC (m_X0_post hR.1 _) (lw_V q940 q941 q942 q108 q943) hdV_X0_post ⟨rfl, rfl⟩ ⟨Nat.le_of_ble_eq_true rfl, Nat.le_of_ble_eq_true rfl⟩ (fx_recv (g := 5) (i := 0) (ci := 1) (q := (RX0, TX0, 13)) hX hC (cin rfl) rfl rfl) hl.1 rfl (Nat.le_of_ble_eq_true rfl) hcs dL_law_890 hC2 hA1 hA2 hJ (fun u H locs hC hC2 => ?_)
  refine W.eq (g2 := F0 m 893 ls [_]) rfl ?_
  refine lv_aload_n hx hb dL_law_893 rfl (lv_at hl 1 rfl) ?_
  refine lv_aload_n hx hb dL_law_894 rfl (lv_at hl 3 rfl) ?_
  refine lv_iload_n hx hb dL_law_895 rfl (lv_at hl 0 rfl) ?_
  refine lv_iconst (v := 1) hx hb dL_law_896 rfl ?_
  refine lv_iadd hx hb dL_law_897 ?_
  refine va_sld hx hb hXs hbl (hA1.out hbl) hC.2 (vin_ik 1 hi hL (by decide)) dL_law_898 ?_
  refine fc_V2 (As := [.int (xs (nI i + 1).toNatClampNeg)]) (rest := [_]) hx hb hml hown hts hX2 hC2 (m_X13_post hR.1 _) (lw_V q1652 q1653 q1654 q124 q1655) hdV_X13_post ⟨rfl, rfl⟩ ⟨Nat.le_of_ble_eq_true rfl, Nat.le_of_ble_eq_true rfl⟩ (fx_recv (g := 0) (i := 0) (ci := 0) (q := (RX13, TX13, 24)) hX2 hC2 (min_ (by decide)) rfl rfl) hl.1 rfl (Nat.le_of_ble_eq_true rfl) hcs dL_law_899 hC hA2 hA1 hJ.symm (fun u H locs hC2 hC => ?_)
  refine W.eq (g2 := F0 m 902 ls [_, _]) rfl ?_
  refine lv_icmp_eq (tgt := 1548) hx hb dL_law_902 (by decide) (fun _ => ?_) (fun z => absurd rfl z)
  exact kn _ _ ⟨_, _, _, _, _, _, _, _, _, _, _, _, _, _, _, _, hC, hC2, hR⟩
set_option maxRecDepth 100000 in
theorem lc_face {p : Program} {l : Launch} {e : Env} {s : State} {m : MethodId} {below : List Frame} {meth : Method} {c : Code} {b L i cells slots : Nat} {xs : Nat → Int32} {G : Gc} {M : Gm} {H : Heap} {locs : List Loc} {ls : Array Slot} {Q : State → Prop} (hF : LwF p s m c b L xs) (hS : LwS G M s) (hE : LwE G M s H locs) (hi : i + 6 ≤ L) (hL : L ≤ 384) (hcs : cells ≤ 601024 ∧ slots ≤ 7293034) (hl : lv_has ls 4 [(3, .int (nI i)), (2, .ref (M.ad 0 0)), (1, .ref (G.ad 5 0)), (0, .ref b)]) (kn : ∀ (H1 : Heap) (locs1 : List Loc), LwE G M s H1 locs1 → W p l e room_1 s m #[Value.ref b] below meth c H1 locs1 cells slots Q (F0 m 1548 ls [])) : W p l e room_1 s m #[Value.ref b] below meth c H locs cells slots Q (F0 m 907 ls []) := by
  obtain ⟨hx, hb, hml, hown, hts, hXs, hbl⟩ := hF
  obtain ⟨hX, hX2, hA1, hA2, hJ, hG, hZ0⟩ := hS
  have hZ := ws_of hG hZ0
  obtain ⟨d, kp, as, un, to, sc, fd, tp, sh, sp, kp', as', bf', sc', it, mv, hC, hC2, hR⟩ := hE
  refine lv_aload_n hx hb dL_law_907 rfl (lv_at hl 2 rfl) ?_
  refine lv_aload_n hx hb dL_law_908 rfl (lv_at hl 3 rfl) ?_
  refine lv_iload_n hx hb dL_law_909 rfl (lv_at hl 0 rfl) ?_
  refine lv_iconst (v := 1) hx hb dL_law_910 rfl ?_
  refine lv_iadd hx hb dL_law_911 ?_
  refine va_sld hx hb hXs hbl (hA1.out hbl) hC.2 (vin_ik 1 hi hL (by decide)) dL_law_912 ?_
  refine fc_V2 (As := [.int (xs (nI i + 1).toNatClampNeg)]) (rest := []) hx hb hml hown hts hX hC (m_X0_face hR.1 _) (lw_V q948 q949 q950 q108 q951) hdV_X0_face ⟨rfl, rfl⟩ ⟨Nat.le_of_ble_eq_true rfl, Nat.le_of_ble_eq_true rfl⟩ (fx_recv (g := 5) (i := 0) (ci := 1) (q := (RX0, TX0, 13)) hX hC (cin rfl) rfl rfl) hl.1 rfl (Nat.le_of_ble_eq_true rfl) hcs dL_law_913 hC2 hA1 hA2 hJ (fun u H locs hC hC2 => ?_)
  refine W.eq (g2 := F0 m 916 ls [_]) rfl ?_
  refine lv_aload_n hx hb dL_law_916 rfl (lv_at hl 1 rfl) ?_
  refine lv_aload_n hx hb dL_law_917 rfl (lv_at hl 3 rfl) ?_
  refine lv_iload_n hx hb dL_law_918 rfl (lv_at hl 0 rfl) ?_
  refine lv_iconst (v := 1) hx hb dL_law_919 rfl ?_
  refine lv_iadd hx hb dL_law_920 ?_
  refine va_sld hx hb hXs hbl (hA1.out hbl) hC.2 (vin_ik 1 hi hL (by decide)) dL_law_921 ?_
  refine fc_V2 (As := [.int (xs (nI i + 1).toNatClampNeg)]) (rest := [_]) hx hb hml hown hts hX2 hC2 (m_X13_face hR.1 _) (lw_V q1660 q1661 q1662 q124 q1663) hdV_X13_face ⟨rfl, rfl⟩ ⟨Nat.le_of_ble_eq_true rfl, Nat.le_of_ble_eq_true rfl⟩ (fx_recv (g := 0) (i := 0) (ci := 0) (q := (RX13, TX13, 24)) hX2 hC2 (min_ (by decide)) rfl rfl) hl.1 rfl (Nat.le_of_ble_eq_true rfl) hcs dL_law_922 hC hA2 hA1 hJ.symm (fun u H locs hC2 hC => ?_)
  refine W.eq (g2 := F0 m 925 ls [_, _]) rfl ?_
  refine lv_icmp_eq (tgt := 1548) hx hb dL_law_925 (by decide) (fun _ => ?_) (fun z => absurd rfl z)
  exact kn _ _ ⟨_, _, _, _, _, _, _, _, _, _, _, _, _, _, _, _, hC, hC2, hR⟩
set_option maxRecDepth 100000 in
theorem lc_rhythm {p : Program} {l : Launch} {e : Env} {s : State} {m : MethodId} {below : List Frame} {meth : Method} {c : Code} {b L i cells slots : Nat} {xs : Nat → Int32} {G : Gc} {M : Gm} {H : Heap} {locs : List Loc} {ls : Array Slot} {Q : State → Prop} (hF : LwF p s m c b L xs) (hS : LwS G M s) (hE : LwE G M s H locs) (hi : i + 6 ≤ L) (hL : L ≤ 384) (hcs : cells ≤ 601024 ∧ slots ≤ 7293034) (hl : lv_has ls 4 [(3, .int (nI i)), (2, .ref (M.ad 0 0)), (1, .ref (G.ad 5 0)), (0, .ref b)]) (kn : ∀ (H1 : Heap) (locs1 : List Loc), LwE G M s H1 locs1 → W p l e room_1 s m #[Value.ref b] below meth c H1 locs1 cells slots Q (F0 m 1548 ls [])) : W p l e room_1 s m #[Value.ref b] below meth c H locs cells slots Q (F0 m 930 ls []) := by
  obtain ⟨hx, hb, hml, hown, hts, hXs, hbl⟩ := hF
  obtain ⟨hX, hX2, hA1, hA2, hJ, hG, hZ0⟩ := hS
  have hZ := ws_of hG hZ0
  obtain ⟨d, kp, as, un, to, sc, fd, tp, sh, sp, kp', as', bf', sc', it, mv, hC, hC2, hR⟩ := hE
  refine lv_aload_n hx hb dL_law_930 rfl (lv_at hl 2 rfl) ?_
  refine lv_aload_n hx hb dL_law_931 rfl (lv_at hl 3 rfl) ?_
  refine lv_iload_n hx hb dL_law_932 rfl (lv_at hl 0 rfl) ?_
  refine lv_iconst (v := 1) hx hb dL_law_933 rfl ?_
  refine lv_iadd hx hb dL_law_934 ?_
  refine va_sld hx hb hXs hbl (hA1.out hbl) hC.2 (vin_ik 1 hi hL (by decide)) dL_law_935 ?_
  refine lv_aload_n hx hb dL_law_936 rfl (lv_at hl 3 rfl) ?_
  refine lv_iload_n hx hb dL_law_937 rfl (lv_at hl 0 rfl) ?_
  refine lv_iconst (v := 2) hx hb dL_law_938 rfl ?_
  refine lv_iadd hx hb dL_law_939 ?_
  refine va_sld hx hb hXs hbl (hA1.out hbl) hC.2 (vin_ik 2 hi hL (by decide)) dL_law_940 ?_
  refine fc_V2 (As := [.int (xs (nI i + 1).toNatClampNeg), .int (xs (nI i + 2).toNatClampNeg)]) (rest := []) hx hb hml hown hts hX hC (m_X0_rhythm hR.1 _ _) (lw_V q952 q953 q954 q108 q955) hdV_X0_rhythm ⟨rfl, rfl⟩ ⟨Nat.le_of_ble_eq_true rfl, Nat.le_of_ble_eq_true rfl⟩ (fx_recv (g := 5) (i := 0) (ci := 1) (q := (RX0, TX0, 13)) hX hC (cin rfl) rfl rfl) hl.1 rfl (Nat.le_of_ble_eq_true rfl) hcs dL_law_941 hC2 hA1 hA2 hJ (fun u H locs hC hC2 => ?_)
  refine W.eq (g2 := F0 m 944 ls [_]) rfl ?_
  refine lv_aload_n hx hb dL_law_944 rfl (lv_at hl 1 rfl) ?_
  refine lv_aload_n hx hb dL_law_945 rfl (lv_at hl 3 rfl) ?_
  refine lv_iload_n hx hb dL_law_946 rfl (lv_at hl 0 rfl) ?_
  refine lv_iconst (v := 1) hx hb dL_law_947 rfl ?_
  refine lv_iadd hx hb dL_law_948 ?_
  refine va_sld hx hb hXs hbl (hA1.out hbl) hC.2 (vin_ik 1 hi hL (by decide)) dL_law_949 ?_
  refine lv_aload_n hx hb dL_law_950 rfl (lv_at hl 3 rfl) ?_
  refine lv_iload_n hx hb dL_law_951 rfl (lv_at hl 0 rfl) ?_
  refine lv_iconst (v := 2) hx hb dL_law_952 rfl ?_
  refine lv_iadd hx hb dL_law_953 ?_
  refine va_sld hx hb hXs hbl (hA1.out hbl) hC.2 (vin_ik 2 hi hL (by decide)) dL_law_954 ?_
  refine fc_V2 (As := [.int (xs (nI i + 1).toNatClampNeg), .int (xs (nI i + 2).toNatClampNeg)]) (rest := [_]) hx hb hml hown hts hX2 hC2 (m_X13_rhythm hR.1 _ _) (lw_V q1664 q1665 q1666 q124 q1667) hdV_X13_rhythm ⟨rfl, rfl⟩ ⟨Nat.le_of_ble_eq_true rfl, Nat.le_of_ble_eq_true rfl⟩ (fx_recv (g := 0) (i := 0) (ci := 0) (q := (RX13, TX13, 24)) hX2 hC2 (min_ (by decide)) rfl rfl) hl.1 rfl (Nat.le_of_ble_eq_true rfl) hcs dL_law_955 hC hA2 hA1 hJ.symm (fun u H locs hC2 hC => ?_)
  refine W.eq (g2 := F0 m 958 ls [_, _]) rfl ?_
  refine lv_icmp_eq (tgt := 1548) hx hb dL_law_958 (by decide) (fun _ => ?_) (fun z => absurd rhy_1.1 z)
  rw [rhy_1.2.1] at hC
  exact kn _ _ ⟨_, _, _, _, _, _, _, _, _, _, _, _, _, _, _, _, hC, hC2, ⟨hR.1, hR.2.1, (show vp_in ((s_rhythm d fd sc _ _).2.2 0) 121 by rw [rhy_1.2.2 0 (by decide)]; exact hR.2.2.1), (show sc' 3 = (s_rhythm d fd sc _ _).2.2 0 by rw [rhy_1.2.2 0 (by decide)]; exact hR.2.2.2.1), (show sc' 0 = (s_rhythm d fd sc _ _).2.2 1 by rw [rhy_1.2.2 1 (by decide)]; exact hR.2.2.2.2.1), (show ¬ (s_rhythm d fd sc _ _).2.2 1 = 0 → _ by rw [rhy_1.2.2 1 (by decide)]; exact hR.2.2.2.2.2)⟩⟩
set_option maxRecDepth 100000 in
theorem lc_least {p : Program} {l : Launch} {e : Env} {s : State} {m : MethodId} {below : List Frame} {meth : Method} {c : Code} {b L i cells slots : Nat} {xs : Nat → Int32} {G : Gc} {M : Gm} {H : Heap} {locs : List Loc} {ls : Array Slot} {Q : State → Prop} (hF : LwF p s m c b L xs) (hS : LwS G M s) (hE : LwE G M s H locs) (hi : i + 6 ≤ L) (hL : L ≤ 384) (hcs : cells ≤ 601024 ∧ slots ≤ 7293034) (hl : lv_has ls 4 [(3, .int (nI i)), (2, .ref (M.ad 0 0)), (1, .ref (G.ad 5 0)), (0, .ref b)]) (kn : ∀ (H1 : Heap) (locs1 : List Loc), LwE G M s H1 locs1 → W p l e room_1 s m #[Value.ref b] below meth c H1 locs1 cells slots Q (F0 m 1548 ls [])) : W p l e room_1 s m #[Value.ref b] below meth c H locs cells slots Q (F0 m 963 ls []) := by
  obtain ⟨hx, hb, hml, hown, hts, hXs, hbl⟩ := hF
  obtain ⟨hX, hX2, hA1, hA2, hJ, hG, hZ0⟩ := hS
  have hZ := ws_of hG hZ0
  obtain ⟨d, kp, as, un, to, sc, fd, tp, sh, sp, kp', as', bf', sc', it, mv, hC, hC2, hR⟩ := hE
  refine lv_aload_n hx hb dL_law_963 rfl (lv_at hl 2 rfl) ?_
  refine lv_aload_n hx hb dL_law_964 rfl (lv_at hl 3 rfl) ?_
  refine lv_iload_n hx hb dL_law_965 rfl (lv_at hl 0 rfl) ?_
  refine lv_iconst (v := 1) hx hb dL_law_966 rfl ?_
  refine lv_iadd hx hb dL_law_967 ?_
  refine va_sld hx hb hXs hbl (hA1.out hbl) hC.2 (vin_ik 1 hi hL (by decide)) dL_law_968 ?_
  refine lv_aload_n hx hb dL_law_969 rfl (lv_at hl 3 rfl) ?_
  refine lv_iload_n hx hb dL_law_970 rfl (lv_at hl 0 rfl) ?_
  refine lv_iconst (v := 2) hx hb dL_law_971 rfl ?_
  refine lv_iadd hx hb dL_law_972 ?_
  refine va_sld hx hb hXs hbl (hA1.out hbl) hC.2 (vin_ik 2 hi hL (by decide)) dL_law_973 ?_
  refine fc_V2 (As := [.int (xs (nI i + 1).toNatClampNeg), .int (xs (nI i + 2).toNatClampNeg)]) (rest := []) hx hb hml hown hts hX hC (m_X0_least hR.1 _ _) (lw_V q972 q973 q974 q108 q975) hdV_X0_least ⟨rfl, rfl⟩ ⟨Nat.le_of_ble_eq_true rfl, Nat.le_of_ble_eq_true rfl⟩ (fx_recv (g := 5) (i := 0) (ci := 1) (q := (RX0, TX0, 13)) hX hC (cin rfl) rfl rfl) hl.1 rfl (Nat.le_of_ble_eq_true rfl) hcs dL_law_974 hC2 hA1 hA2 hJ (fun u H locs hC hC2 => ?_)
  refine W.eq (g2 := F0 m 977 ls [_]) rfl ?_
  refine lv_aload_n hx hb dL_law_977 rfl (lv_at hl 1 rfl) ?_
  refine lv_aload_n hx hb dL_law_978 rfl (lv_at hl 3 rfl) ?_
  refine lv_iload_n hx hb dL_law_979 rfl (lv_at hl 0 rfl) ?_
  refine lv_iconst (v := 1) hx hb dL_law_980 rfl ?_
  refine lv_iadd hx hb dL_law_981 ?_
  refine va_sld hx hb hXs hbl (hA1.out hbl) hC.2 (vin_ik 1 hi hL (by decide)) dL_law_982 ?_
  refine lv_aload_n hx hb dL_law_983 rfl (lv_at hl 3 rfl) ?_
  refine lv_iload_n hx hb dL_law_984 rfl (lv_at hl 0 rfl) ?_
  refine lv_iconst (v := 2) hx hb dL_law_985 rfl ?_
  refine lv_iadd hx hb dL_law_986 ?_
  refine va_sld hx hb hXs hbl (hA1.out hbl) hC.2 (vin_ik 2 hi hL (by decide)) dL_law_987 ?_
  refine fc_V2 (As := [.int (xs (nI i + 1).toNatClampNeg), .int (xs (nI i + 2).toNatClampNeg)]) (rest := [_]) hx hb hml hown hts hX2 hC2 (m_X13_least hR.1 _ _) (lw_V q1675 q1676 q1677 q124 q1678) hdV_X13_least ⟨rfl, rfl⟩ ⟨Nat.le_of_ble_eq_true rfl, Nat.le_of_ble_eq_true rfl⟩ (fx_recv (g := 0) (i := 0) (ci := 0) (q := (RX13, TX13, 24)) hX2 hC2 (min_ (by decide)) rfl rfl) hl.1 rfl (Nat.le_of_ble_eq_true rfl) hcs dL_law_988 hC hA2 hA1 hJ.symm (fun u H locs hC2 hC => ?_)
  refine W.eq (g2 := F0 m 991 ls [_, _]) rfl ?_
  refine lv_icmp_eq (tgt := 1548) hx hb dL_law_991 (by decide) (fun _ => ?_) (fun z => absurd lea_1.1 z)
  rw [lea_1.2.1] at hC
  exact kn _ _ ⟨_, _, _, _, _, _, _, _, _, _, _, _, _, _, _, _, hC, hC2, ⟨hR.1, hR.2.1, (show vp_in ((s_least d fd sc _ _).2.2 0) 121 by rw [lea_1.2.2 0 (by decide)]; exact hR.2.2.1), (show sc' 3 = (s_least d fd sc _ _).2.2 0 by rw [lea_1.2.2 0 (by decide)]; exact hR.2.2.2.1), (show sc' 0 = (s_least d fd sc _ _).2.2 1 by rw [lea_1.2.2 1 (by decide)]; exact hR.2.2.2.2.1), (show ¬ (s_least d fd sc _ _).2.2 1 = 0 → _ by rw [lea_1.2.2 1 (by decide)]; exact hR.2.2.2.2.2)⟩⟩
set_option maxRecDepth 100000 in
theorem lc_fits {p : Program} {l : Launch} {e : Env} {s : State} {m : MethodId} {below : List Frame} {meth : Method} {c : Code} {b L i cells slots : Nat} {xs : Nat → Int32} {G : Gc} {M : Gm} {H : Heap} {locs : List Loc} {ls : Array Slot} {Q : State → Prop} (hF : LwF p s m c b L xs) (hS : LwS G M s) (hE : LwE G M s H locs) (hi : i + 6 ≤ L) (hL : L ≤ 384) (hcs : cells ≤ 601024 ∧ slots ≤ 7293034) (hl : lv_has ls 4 [(3, .int (nI i)), (2, .ref (M.ad 0 0)), (1, .ref (G.ad 5 0)), (0, .ref b)]) (kn : ∀ (H1 : Heap) (locs1 : List Loc), LwE G M s H1 locs1 → W p l e room_1 s m #[Value.ref b] below meth c H1 locs1 cells slots Q (F0 m 1548 ls [])) : W p l e room_1 s m #[Value.ref b] below meth c H locs cells slots Q (F0 m 996 ls []) := by
  obtain ⟨hx, hb, hml, hown, hts, hXs, hbl⟩ := hF
  obtain ⟨hX, hX2, hA1, hA2, hJ, hG, hZ0⟩ := hS
  have hZ := ws_of hG hZ0
  obtain ⟨d, kp, as, un, to, sc, fd, tp, sh, sp, kp', as', bf', sc', it, mv, hC, hC2, hR⟩ := hE
  refine lv_aload_n hx hb dL_law_996 rfl (lv_at hl 2 rfl) ?_
  refine lv_aload_n hx hb dL_law_997 rfl (lv_at hl 3 rfl) ?_
  refine lv_iload_n hx hb dL_law_998 rfl (lv_at hl 0 rfl) ?_
  refine lv_iconst (v := 1) hx hb dL_law_999 rfl ?_
  refine lv_iadd hx hb dL_law_1000 ?_
  refine va_sld hx hb hXs hbl (hA1.out hbl) hC.2 (vin_ik 1 hi hL (by decide)) dL_law_1001 ?_
  refine lv_aload_n hx hb dL_law_1002 rfl (lv_at hl 3 rfl) ?_
  refine lv_iload_n hx hb dL_law_1003 rfl (lv_at hl 0 rfl) ?_
  refine lv_iconst (v := 2) hx hb dL_law_1004 rfl ?_
  refine lv_iadd hx hb dL_law_1005 ?_
  refine va_sld hx hb hXs hbl (hA1.out hbl) hC.2 (vin_ik 2 hi hL (by decide)) dL_law_1006 ?_
  refine fc_VW2 (As := [.int (xs (nI i + 1).toNatClampNeg), .int (xs (nI i + 2).toNatClampNeg)]) (rest := []) hx hb hml hown hts hX hC (m_X0_fits hR.1 _ _ hG) (lw_VW q976 q977 q978 q108 q979) hdV_X0_fits ⟨rfl, rfl⟩ ⟨Nat.le_of_ble_eq_true rfl, Nat.le_of_ble_eq_true rfl⟩ (fx_recv (g := 5) (i := 0) (ci := 1) (q := (RX0, TX0, 13)) hX hC (cin rfl) rfl rfl) hl.1 rfl (Nat.le_of_ble_eq_true rfl) hcs dL_law_1007 hC2 hA1 hA2 hJ (fun u H locs hC hC2 => ?_)
  refine W.eq (g2 := F0 m 1010 ls [_]) rfl ?_
  refine lv_aload_n hx hb dL_law_1010 rfl (lv_at hl 1 rfl) ?_
  refine lv_aload_n hx hb dL_law_1011 rfl (lv_at hl 3 rfl) ?_
  refine lv_iload_n hx hb dL_law_1012 rfl (lv_at hl 0 rfl) ?_
  refine lv_iconst (v := 1) hx hb dL_law_1013 rfl ?_
  refine lv_iadd hx hb dL_law_1014 ?_
  refine va_sld hx hb hXs hbl (hA1.out hbl) hC.2 (vin_ik 1 hi hL (by decide)) dL_law_1015 ?_
  refine lv_aload_n hx hb dL_law_1016 rfl (lv_at hl 3 rfl) ?_
  refine lv_iload_n hx hb dL_law_1017 rfl (lv_at hl 0 rfl) ?_
  refine lv_iconst (v := 2) hx hb dL_law_1018 rfl ?_
  refine lv_iadd hx hb dL_law_1019 ?_
  refine va_sld hx hb hXs hbl (hA1.out hbl) hC.2 (vin_ik 2 hi hL (by decide)) dL_law_1020 ?_
  refine fc_V2 (As := [.int (xs (nI i + 1).toNatClampNeg), .int (xs (nI i + 2).toNatClampNeg)]) (rest := [_]) hx hb hml hown hts hX2 hC2 (m_X13_fits hR.1 _ _ hZ) (lw_V q1679 q1680 q1681 q124 q1682) hdV_X13_fits ⟨rfl, rfl⟩ ⟨Nat.le_of_ble_eq_true rfl, Nat.le_of_ble_eq_true rfl⟩ (fx_recv (g := 0) (i := 0) (ci := 0) (q := (RX13, TX13, 24)) hX2 hC2 (min_ (by decide)) rfl rfl) hl.1 rfl (Nat.le_of_ble_eq_true rfl) hcs dL_law_1021 hC hA2 hA1 hJ.symm (fun u H locs hC2 hC => ?_)
  refine W.eq (g2 := F0 m 1024 ls [_, _]) rfl ?_
  refine W.lcmp hx hb dL_law_1024 ?_
  refine lv_if_eq (tgt := 1548) hx hb dL_law_1025 (by decide) (fun _ => ?_) (fun z => absurd (cmp_self _) z)
  exact kn _ _ ⟨_, _, _, _, _, _, _, _, _, _, _, _, _, _, _, _, hC, hC2, hR⟩
set_option maxRecDepth 100000 in
theorem lc_headings {p : Program} {l : Launch} {e : Env} {s : State} {m : MethodId} {below : List Frame} {meth : Method} {c : Code} {b L i cells slots : Nat} {xs : Nat → Int32} {G : Gc} {M : Gm} {H : Heap} {locs : List Loc} {ls : Array Slot} {Q : State → Prop} (hF : LwF p s m c b L xs) (hS : LwS G M s) (hE : LwE G M s H locs) (hi : i + 6 ≤ L) (hL : L ≤ 384) (hcs : cells ≤ 601024 ∧ slots ≤ 7293034) (hl : lv_has ls 4 [(3, .int (nI i)), (2, .ref (M.ad 0 0)), (1, .ref (G.ad 5 0)), (0, .ref b)]) (kn : ∀ (H1 : Heap) (locs1 : List Loc), LwE G M s H1 locs1 → W p l e room_1 s m #[Value.ref b] below meth c H1 locs1 cells slots Q (F0 m 1548 ls [])) : W p l e room_1 s m #[Value.ref b] below meth c H locs cells slots Q (F0 m 1030 ls []) := by
  obtain ⟨hx, hb, hml, hown, hts, hXs, hbl⟩ := hF
  obtain ⟨hX, hX2, hA1, hA2, hJ, hG, hZ0⟩ := hS
  have hZ := ws_of hG hZ0
  obtain ⟨d, kp, as, un, to, sc, fd, tp, sh, sp, kp', as', bf', sc', it, mv, hC, hC2, hR⟩ := hE
  refine lv_aload_n hx hb dL_law_1030 rfl (lv_at hl 2 rfl) ?_
  refine lv_aload_n hx hb dL_law_1031 rfl (lv_at hl 3 rfl) ?_
  refine lv_iload_n hx hb dL_law_1032 rfl (lv_at hl 0 rfl) ?_
  refine lv_iconst (v := 1) hx hb dL_law_1033 rfl ?_
  refine lv_iadd hx hb dL_law_1034 ?_
  refine va_sld hx hb hXs hbl (hA1.out hbl) hC.2 (vin_ik 1 hi hL (by decide)) dL_law_1035 ?_
  refine lv_aload_n hx hb dL_law_1036 rfl (lv_at hl 3 rfl) ?_
  refine lv_iload_n hx hb dL_law_1037 rfl (lv_at hl 0 rfl) ?_
  refine lv_iconst (v := 2) hx hb dL_law_1038 rfl ?_
  refine lv_iadd hx hb dL_law_1039 ?_
  refine va_sld hx hb hXs hbl (hA1.out hbl) hC.2 (vin_ik 2 hi hL (by decide)) dL_law_1040 ?_
  refine fc_VW2 (As := [.int (xs (nI i + 1).toNatClampNeg), .int (xs (nI i + 2).toNatClampNeg)]) (rest := []) hx hb hml hown hts hX hC (m_X0_headings hR.1 _ _ hG) (lw_VW q1016 q1017 q1018 q108 q1019) hdV_X0_headings ⟨rfl, rfl⟩ ⟨Nat.le_of_ble_eq_true rfl, Nat.le_of_ble_eq_true rfl⟩ (fx_recv (g := 5) (i := 0) (ci := 1) (q := (RX0, TX0, 13)) hX hC (cin rfl) rfl rfl) hl.1 rfl (Nat.le_of_ble_eq_true rfl) hcs dL_law_1041 hC2 hA1 hA2 hJ (fun u H locs hC hC2 => ?_)
  refine W.eq (g2 := F0 m 1044 ls [_]) rfl ?_
  refine lv_aload_n hx hb dL_law_1044 rfl (lv_at hl 1 rfl) ?_
  refine lv_aload_n hx hb dL_law_1045 rfl (lv_at hl 3 rfl) ?_
  refine lv_iload_n hx hb dL_law_1046 rfl (lv_at hl 0 rfl) ?_
  refine lv_iconst (v := 1) hx hb dL_law_1047 rfl ?_
  refine lv_iadd hx hb dL_law_1048 ?_
  refine va_sld hx hb hXs hbl (hA1.out hbl) hC.2 (vin_ik 1 hi hL (by decide)) dL_law_1049 ?_
  refine lv_aload_n hx hb dL_law_1050 rfl (lv_at hl 3 rfl) ?_
  refine lv_iload_n hx hb dL_law_1051 rfl (lv_at hl 0 rfl) ?_
  refine lv_iconst (v := 2) hx hb dL_law_1052 rfl ?_
  refine lv_iadd hx hb dL_law_1053 ?_
  refine va_sld hx hb hXs hbl (hA1.out hbl) hC.2 (vin_ik 2 hi hL (by decide)) dL_law_1054 ?_
  refine fc_V2 (As := [.int (xs (nI i + 1).toNatClampNeg), .int (xs (nI i + 2).toNatClampNeg)]) (rest := [_]) hx hb hml hown hts hX2 hC2 (m_X13_headings hR.1 _ _ hZ) (lw_V q1707 q1708 q1709 q124 q1710) hdV_X13_headings ⟨rfl, rfl⟩ ⟨Nat.le_of_ble_eq_true rfl, Nat.le_of_ble_eq_true rfl⟩ (fx_recv (g := 0) (i := 0) (ci := 0) (q := (RX13, TX13, 24)) hX2 hC2 (min_ (by decide)) rfl rfl) hl.1 rfl (Nat.le_of_ble_eq_true rfl) hcs dL_law_1055 hC hA2 hA1 hJ.symm (fun u H locs hC2 hC => ?_)
  refine W.eq (g2 := F0 m 1058 ls [_, _]) rfl ?_
  refine lv_icmp_eq (tgt := 1548) hx hb dL_law_1058 (by decide) (fun _ => ?_) (fun z => absurd rfl z)
  exact kn _ _ ⟨_, _, _, _, _, _, _, _, _, _, _, _, _, _, _, _, hC, hC2, hR⟩
set_option maxRecDepth 100000 in
theorem lc_leaves {p : Program} {l : Launch} {e : Env} {s : State} {m : MethodId} {below : List Frame} {meth : Method} {c : Code} {b L i cells slots : Nat} {xs : Nat → Int32} {G : Gc} {M : Gm} {H : Heap} {locs : List Loc} {ls : Array Slot} {Q : State → Prop} (hF : LwF p s m c b L xs) (hS : LwS G M s) (hE : LwE G M s H locs) (hi : i + 6 ≤ L) (hL : L ≤ 384) (hcs : cells ≤ 601024 ∧ slots ≤ 7293034) (hl : lv_has ls 4 [(3, .int (nI i)), (2, .ref (M.ad 0 0)), (1, .ref (G.ad 5 0)), (0, .ref b)]) (kn : ∀ (H1 : Heap) (locs1 : List Loc), LwE G M s H1 locs1 → W p l e room_1 s m #[Value.ref b] below meth c H1 locs1 cells slots Q (F0 m 1548 ls [])) : W p l e room_1 s m #[Value.ref b] below meth c H locs cells slots Q (F0 m 1063 ls []) := by
  obtain ⟨hx, hb, hml, hown, hts, hXs, hbl⟩ := hF
  obtain ⟨hX, hX2, hA1, hA2, hJ, hG, hZ0⟩ := hS
  have hZ := ws_of hG hZ0
  obtain ⟨d, kp, as, un, to, sc, fd, tp, sh, sp, kp', as', bf', sc', it, mv, hC, hC2, hR⟩ := hE
  refine lv_aload_n hx hb dL_law_1063 rfl (lv_at hl 2 rfl) ?_
  refine lv_aload_n hx hb dL_law_1064 rfl (lv_at hl 3 rfl) ?_
  refine lv_iload_n hx hb dL_law_1065 rfl (lv_at hl 0 rfl) ?_
  refine lv_iconst (v := 1) hx hb dL_law_1066 rfl ?_
  refine lv_iadd hx hb dL_law_1067 ?_
  refine va_sld hx hb hXs hbl (hA1.out hbl) hC.2 (vin_ik 1 hi hL (by decide)) dL_law_1068 ?_
  refine fc_V2 (As := [.int (xs (nI i + 1).toNatClampNeg)]) (rest := []) hx hb hml hown hts hX hC (m_X0_leaves hR.1 _) (lw_V q1026 q1027 q1028 q108 q1029) hdV_X0_leaves ⟨rfl, rfl⟩ ⟨Nat.le_of_ble_eq_true rfl, Nat.le_of_ble_eq_true rfl⟩ (fx_recv (g := 5) (i := 0) (ci := 1) (q := (RX0, TX0, 13)) hX hC (cin rfl) rfl rfl) hl.1 rfl (Nat.le_of_ble_eq_true rfl) hcs dL_law_1069 hC2 hA1 hA2 hJ (fun u H locs hC hC2 => ?_)
  refine W.eq (g2 := F0 m 1072 ls [_]) rfl ?_
  refine lv_aload_n hx hb dL_law_1072 rfl (lv_at hl 1 rfl) ?_
  refine lv_aload_n hx hb dL_law_1073 rfl (lv_at hl 3 rfl) ?_
  refine lv_iload_n hx hb dL_law_1074 rfl (lv_at hl 0 rfl) ?_
  refine lv_iconst (v := 1) hx hb dL_law_1075 rfl ?_
  refine lv_iadd hx hb dL_law_1076 ?_
  refine va_sld hx hb hXs hbl (hA1.out hbl) hC.2 (vin_ik 1 hi hL (by decide)) dL_law_1077 ?_
  refine fc_V2 (As := [.int (xs (nI i + 1).toNatClampNeg)]) (rest := [_]) hx hb hml hown hts hX2 hC2 (m_X13_leaves hR.1 _) (lw_V q1711 q1712 q1713 q124 q1714) hdV_X13_leaves ⟨rfl, rfl⟩ ⟨Nat.le_of_ble_eq_true rfl, Nat.le_of_ble_eq_true rfl⟩ (fx_recv (g := 0) (i := 0) (ci := 0) (q := (RX13, TX13, 24)) hX2 hC2 (min_ (by decide)) rfl rfl) hl.1 rfl (Nat.le_of_ble_eq_true rfl) hcs dL_law_1078 hC hA2 hA1 hJ.symm (fun u H locs hC2 hC => ?_)
  refine W.eq (g2 := F0 m 1081 ls [_, _]) rfl ?_
  refine lv_icmp_eq (tgt := 1548) hx hb dL_law_1081 (by decide) (fun _ => ?_) (fun z => absurd rfl z)
  exact kn _ _ ⟨_, _, _, _, _, _, _, _, _, _, _, _, _, _, _, _, hC, hC2, ⟨wf_leaves hR.1, hR.2⟩⟩
set_option maxRecDepth 100000 in
theorem lc_odds {p : Program} {l : Launch} {e : Env} {s : State} {m : MethodId} {below : List Frame} {meth : Method} {c : Code} {b L i cells slots : Nat} {xs : Nat → Int32} {G : Gc} {M : Gm} {H : Heap} {locs : List Loc} {ls : Array Slot} {Q : State → Prop} (hF : LwF p s m c b L xs) (hS : LwS G M s) (hE : LwE G M s H locs) (hi : i + 6 ≤ L) (hL : L ≤ 384) (hcs : cells ≤ 601024 ∧ slots ≤ 7293034) (hl : lv_has ls 4 [(3, .int (nI i)), (2, .ref (M.ad 0 0)), (1, .ref (G.ad 5 0)), (0, .ref b)]) (kn : ∀ (H1 : Heap) (locs1 : List Loc), LwE G M s H1 locs1 → W p l e room_1 s m #[Value.ref b] below meth c H1 locs1 cells slots Q (F0 m 1548 ls [])) : W p l e room_1 s m #[Value.ref b] below meth c H locs cells slots Q (F0 m 1086 ls []) := by
  obtain ⟨hx, hb, hml, hown, hts, hXs, hbl⟩ := hF
  obtain ⟨hX, hX2, hA1, hA2, hJ, hG, hZ0⟩ := hS
  have hZ := ws_of hG hZ0
  obtain ⟨d, kp, as, un, to, sc, fd, tp, sh, sp, kp', as', bf', sc', it, mv, hC, hC2, hR⟩ := hE
  refine lv_aload_n hx hb dL_law_1086 rfl (lv_at hl 2 rfl) ?_
  refine lv_aload_n hx hb dL_law_1087 rfl (lv_at hl 3 rfl) ?_
  refine lv_iload_n hx hb dL_law_1088 rfl (lv_at hl 0 rfl) ?_
  refine lv_iconst (v := 1) hx hb dL_law_1089 rfl ?_
  refine lv_iadd hx hb dL_law_1090 ?_
  refine va_sld hx hb hXs hbl (hA1.out hbl) hC.2 (vin_ik 1 hi hL (by decide)) dL_law_1091 ?_
  refine lv_aload_n hx hb dL_law_1092 rfl (lv_at hl 3 rfl) ?_
  refine lv_iload_n hx hb dL_law_1093 rfl (lv_at hl 0 rfl) ?_
  refine lv_iconst (v := 2) hx hb dL_law_1094 rfl ?_
  refine lv_iadd hx hb dL_law_1095 ?_
  refine va_sld hx hb hXs hbl (hA1.out hbl) hC.2 (vin_ik 2 hi hL (by decide)) dL_law_1096 ?_
  refine fc_V2 (As := [.int (xs (nI i + 1).toNatClampNeg), .int (xs (nI i + 2).toNatClampNeg)]) (rest := []) hx hb hml hown hts hX hC (m_X0_odds hR.1 _ _) (lw_V q1039 q1040 q1041 q108 q1042) hdV_X0_odds ⟨rfl, rfl⟩ ⟨Nat.le_of_ble_eq_true rfl, Nat.le_of_ble_eq_true rfl⟩ (fx_recv (g := 5) (i := 0) (ci := 1) (q := (RX0, TX0, 13)) hX hC (cin rfl) rfl rfl) hl.1 rfl (Nat.le_of_ble_eq_true rfl) hcs dL_law_1097 hC2 hA1 hA2 hJ (fun u H locs hC hC2 => ?_)
  refine W.eq (g2 := F0 m 1100 ls [_]) rfl ?_
  refine lv_aload_n hx hb dL_law_1100 rfl (lv_at hl 1 rfl) ?_
  refine lv_aload_n hx hb dL_law_1101 rfl (lv_at hl 3 rfl) ?_
  refine lv_iload_n hx hb dL_law_1102 rfl (lv_at hl 0 rfl) ?_
  refine lv_iconst (v := 1) hx hb dL_law_1103 rfl ?_
  refine lv_iadd hx hb dL_law_1104 ?_
  refine va_sld hx hb hXs hbl (hA1.out hbl) hC.2 (vin_ik 1 hi hL (by decide)) dL_law_1105 ?_
  refine lv_aload_n hx hb dL_law_1106 rfl (lv_at hl 3 rfl) ?_
  refine lv_iload_n hx hb dL_law_1107 rfl (lv_at hl 0 rfl) ?_
  refine lv_iconst (v := 2) hx hb dL_law_1108 rfl ?_
  refine lv_iadd hx hb dL_law_1109 ?_
  refine va_sld hx hb hXs hbl (hA1.out hbl) hC.2 (vin_ik 2 hi hL (by decide)) dL_law_1110 ?_
  refine fc_V2 (As := [.int (xs (nI i + 1).toNatClampNeg), .int (xs (nI i + 2).toNatClampNeg)]) (rest := [_]) hx hb hml hown hts hX2 hC2 (m_X13_odds _ _) (lw_V q1720 q1721 q1722 q124 q1723) hdV_X13_odds ⟨rfl, rfl⟩ ⟨Nat.le_of_ble_eq_true rfl, Nat.le_of_ble_eq_true rfl⟩ (fx_recv (g := 0) (i := 0) (ci := 0) (q := (RX13, TX13, 24)) hX2 hC2 (min_ (by decide)) rfl rfl) hl.1 rfl (Nat.le_of_ble_eq_true rfl) hcs dL_law_1111 hC hA2 hA1 hJ.symm (fun u H locs hC2 hC => ?_)
  refine W.eq (g2 := F0 m 1114 ls [_, _]) rfl ?_
  refine W.lcmp hx hb dL_law_1114 ?_
  refine lv_if_eq (tgt := 1548) hx hb dL_law_1115 (by decide) (fun _ => ?_) (fun z => absurd (cmp_self _) z)
  exact kn _ _ ⟨_, _, _, _, _, _, _, _, _, _, _, _, _, _, _, _, hC, hC2, hR⟩
set_option maxRecDepth 100000 in
theorem lc_seed {p : Program} {l : Launch} {e : Env} {s : State} {m : MethodId} {below : List Frame} {meth : Method} {c : Code} {b L i cells slots : Nat} {xs : Nat → Int32} {G : Gc} {M : Gm} {H : Heap} {locs : List Loc} {ls : Array Slot} {Q : State → Prop} (hF : LwF p s m c b L xs) (hS : LwS G M s) (hE : LwE G M s H locs) (hi : i + 6 ≤ L) (hL : L ≤ 384) (hcs : cells ≤ 601024 ∧ slots ≤ 7293034) (hl : lv_has ls 4 [(3, .int (nI i)), (2, .ref (M.ad 0 0)), (1, .ref (G.ad 5 0)), (0, .ref b)]) (kn : ∀ (H1 : Heap) (locs1 : List Loc), LwE G M s H1 locs1 → W p l e room_1 s m #[Value.ref b] below meth c H1 locs1 cells slots Q (F0 m 1548 ls [])) : W p l e room_1 s m #[Value.ref b] below meth c H locs cells slots Q (F0 m 1120 ls []) := by
  obtain ⟨hx, hb, hml, hown, hts, hXs, hbl⟩ := hF
  obtain ⟨hX, hX2, hA1, hA2, hJ, hG, hZ0⟩ := hS
  have hZ := ws_of hG hZ0
  obtain ⟨d, kp, as, un, to, sc, fd, tp, sh, sp, kp', as', bf', sc', it, mv, hC, hC2, hR⟩ := hE
  refine lv_aload_n hx hb dL_law_1120 rfl (lv_at hl 2 rfl) ?_
  refine lv_aload_n hx hb dL_law_1121 rfl (lv_at hl 3 rfl) ?_
  refine lv_iload_n hx hb dL_law_1122 rfl (lv_at hl 0 rfl) ?_
  refine lv_iconst (v := 1) hx hb dL_law_1123 rfl ?_
  refine lv_iadd hx hb dL_law_1124 ?_
  refine va_sld hx hb hXs hbl (hA1.out hbl) hC.2 (vin_ik 1 hi hL (by decide)) dL_law_1125 ?_
  refine fc_V2 (As := [.int (xs (nI i + 1).toNatClampNeg)]) (rest := []) hx hb hml hown hts hX hC (m_X0_seed _) (lw_V q1050 q1051 q1052 q108 q1053) hdV_X0_seed ⟨rfl, rfl⟩ ⟨Nat.le_of_ble_eq_true rfl, Nat.le_of_ble_eq_true rfl⟩ (fx_recv (g := 5) (i := 0) (ci := 1) (q := (RX0, TX0, 13)) hX hC (cin rfl) rfl rfl) hl.1 rfl (Nat.le_of_ble_eq_true rfl) hcs dL_law_1126 hC2 hA1 hA2 hJ (fun u H locs hC hC2 => ?_)
  refine W.eq (g2 := F0 m 1129 ls [_]) rfl ?_
  refine lv_aload_n hx hb dL_law_1129 rfl (lv_at hl 1 rfl) ?_
  refine lv_aload_n hx hb dL_law_1130 rfl (lv_at hl 3 rfl) ?_
  refine lv_iload_n hx hb dL_law_1131 rfl (lv_at hl 0 rfl) ?_
  refine lv_iconst (v := 1) hx hb dL_law_1132 rfl ?_
  refine lv_iadd hx hb dL_law_1133 ?_
  refine va_sld hx hb hXs hbl (hA1.out hbl) hC.2 (vin_ik 1 hi hL (by decide)) dL_law_1134 ?_
  refine fc_V2 (As := [.int (xs (nI i + 1).toNatClampNeg)]) (rest := [_]) hx hb hml hown hts hX2 hC2 (m_X13_seed _) (lw_V q1724 q1725 q1726 q124 q1727) hdV_X13_seed ⟨rfl, rfl⟩ ⟨Nat.le_of_ble_eq_true rfl, Nat.le_of_ble_eq_true rfl⟩ (fx_recv (g := 0) (i := 0) (ci := 0) (q := (RX13, TX13, 24)) hX2 hC2 (min_ (by decide)) rfl rfl) hl.1 rfl (Nat.le_of_ble_eq_true rfl) hcs dL_law_1135 hC hA2 hA1 hJ.symm (fun u H locs hC2 hC => ?_)
  refine W.eq (g2 := F0 m 1138 ls [_, _]) rfl ?_
  refine lv_icmp_eq (tgt := 1548) hx hb dL_law_1138 (by decide) (fun _ => ?_) (fun z => absurd rfl z)
  exact kn _ _ ⟨_, _, _, _, _, _, _, _, _, _, _, _, _, _, _, _, hC, hC2, ⟨wf_seed hR.1, hR.2⟩⟩
set_option maxRecDepth 100000 in
theorem lc_feed {p : Program} {l : Launch} {e : Env} {s : State} {m : MethodId} {below : List Frame} {meth : Method} {c : Code} {b L i cells slots : Nat} {xs : Nat → Int32} {G : Gc} {M : Gm} {H : Heap} {locs : List Loc} {ls : Array Slot} {Q : State → Prop} (hF : LwF p s m c b L xs) (hS : LwS G M s) (hE : LwE G M s H locs) (hi : i + 6 ≤ L) (hL : L ≤ 384) (hcs : cells ≤ 601024 ∧ slots ≤ 7293034) (hl : lv_has ls 4 [(3, .int (nI i)), (2, .ref (M.ad 0 0)), (1, .ref (G.ad 5 0)), (0, .ref b)]) (kn : ∀ (H1 : Heap) (locs1 : List Loc), LwE G M s H1 locs1 → W p l e room_1 s m #[Value.ref b] below meth c H1 locs1 cells slots Q (F0 m 1548 ls [])) : W p l e room_1 s m #[Value.ref b] below meth c H locs cells slots Q (F0 m 1143 ls []) := by
  obtain ⟨hx, hb, hml, hown, hts, hXs, hbl⟩ := hF
  obtain ⟨hX, hX2, hA1, hA2, hJ, hG, hZ0⟩ := hS
  have hZ := ws_of hG hZ0
  obtain ⟨d, kp, as, un, to, sc, fd, tp, sh, sp, kp', as', bf', sc', it, mv, hC, hC2, hR⟩ := hE
  refine lv_aload_n hx hb dL_law_1143 rfl (lv_at hl 2 rfl) ?_
  refine lv_aload_n hx hb dL_law_1144 rfl (lv_at hl 3 rfl) ?_
  refine lv_iload_n hx hb dL_law_1145 rfl (lv_at hl 0 rfl) ?_
  refine lv_iconst (v := 1) hx hb dL_law_1146 rfl ?_
  refine lv_iadd hx hb dL_law_1147 ?_
  refine va_sld hx hb hXs hbl (hA1.out hbl) hC.2 (vin_ik 1 hi hL (by decide)) dL_law_1148 ?_
  refine lv_aload_n hx hb dL_law_1149 rfl (lv_at hl 3 rfl) ?_
  refine lv_iload_n hx hb dL_law_1150 rfl (lv_at hl 0 rfl) ?_
  refine lv_iconst (v := 2) hx hb dL_law_1151 rfl ?_
  refine lv_iadd hx hb dL_law_1152 ?_
  refine va_sld hx hb hXs hbl (hA1.out hbl) hC.2 (vin_ik 2 hi hL (by decide)) dL_law_1153 ?_
  refine fc_V2 (As := [.int (xs (nI i + 1).toNatClampNeg), .int (xs (nI i + 2).toNatClampNeg)]) (rest := []) hx hb hml hown hts hX hC (m_X0_feed _ _ hR.2.2.1) (lw_V q1054 q1055 q1056 q108 q1057) hdV_X0_feed ⟨rfl, rfl⟩ ⟨Nat.le_of_ble_eq_true rfl, Nat.le_of_ble_eq_true rfl⟩ (fx_recv (g := 5) (i := 0) (ci := 1) (q := (RX0, TX0, 13)) hX hC (cin rfl) rfl rfl) hl.1 rfl (Nat.le_of_ble_eq_true rfl) hcs dL_law_1154 hC2 hA1 hA2 hJ (fun u H locs hC hC2 => ?_)
  refine W.eq (g2 := F0 m 1157 ls [_]) rfl ?_
  refine lv_aload_n hx hb dL_law_1157 rfl (lv_at hl 1 rfl) ?_
  refine lv_aload_n hx hb dL_law_1158 rfl (lv_at hl 3 rfl) ?_
  refine lv_iload_n hx hb dL_law_1159 rfl (lv_at hl 0 rfl) ?_
  refine lv_iconst (v := 1) hx hb dL_law_1160 rfl ?_
  refine lv_iadd hx hb dL_law_1161 ?_
  refine va_sld hx hb hXs hbl (hA1.out hbl) hC.2 (vin_ik 1 hi hL (by decide)) dL_law_1162 ?_
  refine lv_aload_n hx hb dL_law_1163 rfl (lv_at hl 3 rfl) ?_
  refine lv_iload_n hx hb dL_law_1164 rfl (lv_at hl 0 rfl) ?_
  refine lv_iconst (v := 2) hx hb dL_law_1165 rfl ?_
  refine lv_iadd hx hb dL_law_1166 ?_
  refine va_sld hx hb hXs hbl (hA1.out hbl) hC.2 (vin_ik 2 hi hL (by decide)) dL_law_1167 ?_
  refine fc_V2 (As := [.int (xs (nI i + 1).toNatClampNeg), .int (xs (nI i + 2).toNatClampNeg)]) (rest := [_]) hx hb hml hown hts hX2 hC2 (m_X13_feed _ _ (show vp_in (sc' 3) 121 by rw [hR.2.2.2.1]; exact hR.2.2.1)) (lw_V q1728 q1729 q1730 q124 q1731) hdV_X13_feed ⟨rfl, rfl⟩ ⟨Nat.le_of_ble_eq_true rfl, Nat.le_of_ble_eq_true rfl⟩ (fx_recv (g := 0) (i := 0) (ci := 0) (q := (RX13, TX13, 24)) hX2 hC2 (min_ (by decide)) rfl rfl) hl.1 rfl (Nat.le_of_ble_eq_true rfl) hcs dL_law_1168 hC hA2 hA1 hJ.symm (fun u H locs hC2 hC => ?_)
  refine W.eq (g2 := F0 m 1171 ls [_, _]) rfl ?_
  refine lv_icmp_eq (tgt := 1548) hx hb dL_law_1171 (by decide) (fun _ => ?_) (fun z => absurd (show (s_feed fd tp (sc 0) _ _).1 = (s_feed fd tp (sc' 3) _ _).1 by rw [hR.2.2.2.1]) z)
  rw [hR.2.2.2.1] at hC2
  exact kn _ _ ⟨_, _, _, _, _, _, _, _, _, _, _, _, _, _, _, _, hC, hC2, ⟨hR.1, hR.2.1, feed_in hR.2.2.1, rfl, hR.2.2.2.2.1, hR.2.2.2.2.2⟩⟩
set_option maxRecDepth 100000 in
theorem lc_wipe {p : Program} {l : Launch} {e : Env} {s : State} {m : MethodId} {below : List Frame} {meth : Method} {c : Code} {b L i cells slots : Nat} {xs : Nat → Int32} {G : Gc} {M : Gm} {H : Heap} {locs : List Loc} {ls : Array Slot} {Q : State → Prop} (hF : LwF p s m c b L xs) (hS : LwS G M s) (hE : LwE G M s H locs) (hi : i + 6 ≤ L) (hL : L ≤ 384) (hcs : cells ≤ 601024 ∧ slots ≤ 7293034) (hl : lv_has ls 4 [(3, .int (nI i)), (2, .ref (M.ad 0 0)), (1, .ref (G.ad 5 0)), (0, .ref b)]) (kn : ∀ (H1 : Heap) (locs1 : List Loc), LwE G M s H1 locs1 → W p l e room_1 s m #[Value.ref b] below meth c H1 locs1 cells slots Q (F0 m 1548 ls [])) : W p l e room_1 s m #[Value.ref b] below meth c H locs cells slots Q (F0 m 1176 ls []) := by
  obtain ⟨hx, hb, hml, hown, hts, hXs, hbl⟩ := hF
  obtain ⟨hX, hX2, hA1, hA2, hJ, hG, hZ0⟩ := hS
  have hZ := ws_of hG hZ0
  obtain ⟨d, kp, as, un, to, sc, fd, tp, sh, sp, kp', as', bf', sc', it, mv, hC, hC2, hR⟩ := hE
  refine lv_aload_n hx hb dL_law_1176 rfl (lv_at hl 2 rfl) ?_
  refine fc_V2 (As := []) (rest := []) hx hb hml hown hts hX hC (m_X0_wipe) (lw_V q1058 q1059 q1060 q108 q1061) hdV_X0_wipe ⟨rfl, rfl⟩ ⟨Nat.le_of_ble_eq_true rfl, Nat.le_of_ble_eq_true rfl⟩ (fx_recv (g := 5) (i := 0) (ci := 1) (q := (RX0, TX0, 13)) hX hC (cin rfl) rfl rfl) hl.1 rfl (Nat.le_of_ble_eq_true rfl) hcs dL_law_1177 hC2 hA1 hA2 hJ (fun u H locs hC hC2 => ?_)
  refine W.eq (g2 := F0 m 1180 ls [_]) rfl ?_
  refine lv_aload_n hx hb dL_law_1180 rfl (lv_at hl 1 rfl) ?_
  refine fc_V2 (As := []) (rest := [_]) hx hb hml hown hts hX2 hC2 (m_X13_wipe) (lw_V q1732 q1733 q1734 q124 q1735) hdV_X13_wipe ⟨rfl, rfl⟩ ⟨Nat.le_of_ble_eq_true rfl, Nat.le_of_ble_eq_true rfl⟩ (fx_recv (g := 0) (i := 0) (ci := 0) (q := (RX13, TX13, 24)) hX2 hC2 (min_ (by decide)) rfl rfl) hl.1 rfl (Nat.le_of_ble_eq_true rfl) hcs dL_law_1181 hC hA2 hA1 hJ.symm (fun u H locs hC2 hC => ?_)
  refine W.eq (g2 := F0 m 1184 ls [_, _]) rfl ?_
  refine lv_icmp_eq (tgt := 1548) hx hb dL_law_1184 (by decide) (fun _ => ?_) (fun z => absurd hR.2.2.2.1.symm z)
  exact kn _ _ ⟨_, _, _, _, _, _, _, _, _, _, _, _, _, _, _, _, hC, hC2, ⟨hR.1, hR.2.1, vin_b rfl, rfl, hR.2.2.2.2.1, hR.2.2.2.2.2⟩⟩
set_option maxRecDepth 100000 in
theorem lc_hold {p : Program} {l : Launch} {e : Env} {s : State} {m : MethodId} {below : List Frame} {meth : Method} {c : Code} {b L i cells slots : Nat} {xs : Nat → Int32} {G : Gc} {M : Gm} {H : Heap} {locs : List Loc} {ls : Array Slot} {Q : State → Prop} (hF : LwF p s m c b L xs) (hS : LwS G M s) (hE : LwE G M s H locs) (hi : i + 6 ≤ L) (hL : L ≤ 384) (hcs : cells ≤ 601024 ∧ slots ≤ 7293034) (hl : lv_has ls 4 [(3, .int (nI i)), (2, .ref (M.ad 0 0)), (1, .ref (G.ad 5 0)), (0, .ref b)]) (kn : ∀ (H1 : Heap) (locs1 : List Loc), LwE G M s H1 locs1 → W p l e room_1 s m #[Value.ref b] below meth c H1 locs1 cells slots Q (F0 m 1548 ls [])) : W p l e room_1 s m #[Value.ref b] below meth c H locs cells slots Q (F0 m 1202 ls []) := by
  obtain ⟨hx, hb, hml, hown, hts, hXs, hbl⟩ := hF
  obtain ⟨hX, hX2, hA1, hA2, hJ, hG, hZ0⟩ := hS
  have hZ := ws_of hG hZ0
  obtain ⟨d, kp, as, un, to, sc, fd, tp, sh, sp, kp', as', bf', sc', it, mv, hC, hC2, hR⟩ := hE
  refine lv_aload_n hx hb dL_law_1202 rfl (lv_at hl 2 rfl) ?_
  refine lv_aload_n hx hb dL_law_1203 rfl (lv_at hl 3 rfl) ?_
  refine lv_iload_n hx hb dL_law_1204 rfl (lv_at hl 0 rfl) ?_
  refine lv_iconst (v := 1) hx hb dL_law_1205 rfl ?_
  refine lv_iadd hx hb dL_law_1206 ?_
  refine va_sld hx hb hXs hbl (hA1.out hbl) hC.2 (vin_ik 1 hi hL (by decide)) dL_law_1207 ?_
  refine lv_aload_n hx hb dL_law_1208 rfl (lv_at hl 3 rfl) ?_
  refine lv_iload_n hx hb dL_law_1209 rfl (lv_at hl 0 rfl) ?_
  refine lv_iconst (v := 2) hx hb dL_law_1210 rfl ?_
  refine lv_iadd hx hb dL_law_1211 ?_
  refine va_sld hx hb hXs hbl (hA1.out hbl) hC.2 (vin_ik 2 hi hL (by decide)) dL_law_1212 ?_
  refine fc_V2 (As := [.int (xs (nI i + 1).toNatClampNeg), .int (xs (nI i + 2).toNatClampNeg)]) (rest := []) hx hb hml hown hts hX hC (m_X0_hold hR.1 _ _) (lw_V q1180 q1181 q1182 q108 q1183) hdV_X0_hold ⟨rfl, rfl⟩ ⟨Nat.le_of_ble_eq_true rfl, Nat.le_of_ble_eq_true rfl⟩ (fx_recv (g := 5) (i := 0) (ci := 1) (q := (RX0, TX0, 13)) hX hC (cin rfl) rfl rfl) hl.1 rfl (Nat.le_of_ble_eq_true rfl) hcs dL_law_1213 hC2 hA1 hA2 hJ (fun u H locs hC hC2 => ?_)
  refine W.eq (g2 := F0 m 1216 ls [_]) rfl ?_
  refine lv_aload_n hx hb dL_law_1216 rfl (lv_at hl 1 rfl) ?_
  refine lv_aload_n hx hb dL_law_1217 rfl (lv_at hl 3 rfl) ?_
  refine lv_iload_n hx hb dL_law_1218 rfl (lv_at hl 0 rfl) ?_
  refine lv_iconst (v := 1) hx hb dL_law_1219 rfl ?_
  refine lv_iadd hx hb dL_law_1220 ?_
  refine va_sld hx hb hXs hbl (hA1.out hbl) hC.2 (vin_ik 1 hi hL (by decide)) dL_law_1221 ?_
  refine lv_aload_n hx hb dL_law_1222 rfl (lv_at hl 3 rfl) ?_
  refine lv_iload_n hx hb dL_law_1223 rfl (lv_at hl 0 rfl) ?_
  refine lv_iconst (v := 2) hx hb dL_law_1224 rfl ?_
  refine lv_iadd hx hb dL_law_1225 ?_
  refine va_sld hx hb hXs hbl (hA1.out hbl) hC.2 (vin_ik 2 hi hL (by decide)) dL_law_1226 ?_
  refine fc_V2 (As := [.int (xs (nI i + 1).toNatClampNeg), .int (xs (nI i + 2).toNatClampNeg)]) (rest := [_]) hx hb hml hown hts hX2 hC2 (m_X13_hold _ _) (lw_V q1812 q1813 q1814 q124 q1815) hdV_X13_hold ⟨rfl, rfl⟩ ⟨Nat.le_of_ble_eq_true rfl, Nat.le_of_ble_eq_true rfl⟩ (fx_recv (g := 0) (i := 0) (ci := 0) (q := (RX13, TX13, 24)) hX2 hC2 (min_ (by decide)) rfl rfl) hl.1 rfl (Nat.le_of_ble_eq_true rfl) hcs dL_law_1227 hC hA2 hA1 hJ.symm (fun u H locs hC2 hC => ?_)
  refine W.eq (g2 := F0 m 1230 ls [_, _]) rfl ?_
  refine lv_icmp_eq (tgt := 1548) hx hb dL_law_1230 (by decide) (fun _ => ?_) (fun z => absurd rfl z)
  exact kn _ _ ⟨_, _, _, _, _, _, _, _, _, _, _, _, _, _, _, _, hC, hC2, ⟨wf_hold hR.1, hR.2⟩⟩
set_option maxRecDepth 100000 in
theorem lc_as {p : Program} {l : Launch} {e : Env} {s : State} {m : MethodId} {below : List Frame} {meth : Method} {c : Code} {b L i cells slots : Nat} {xs : Nat → Int32} {G : Gc} {M : Gm} {H : Heap} {locs : List Loc} {ls : Array Slot} {Q : State → Prop} (hF : LwF p s m c b L xs) (hS : LwS G M s) (hE : LwE G M s H locs) (hi : i + 6 ≤ L) (hL : L ≤ 384) (hcs : cells ≤ 601024 ∧ slots ≤ 7293034) (hl : lv_has ls 4 [(3, .int (nI i)), (2, .ref (M.ad 0 0)), (1, .ref (G.ad 5 0)), (0, .ref b)]) (kn : ∀ (H1 : Heap) (locs1 : List Loc), LwE G M s H1 locs1 → W p l e room_1 s m #[Value.ref b] below meth c H1 locs1 cells slots Q (F0 m 1548 ls [])) : W p l e room_1 s m #[Value.ref b] below meth c H locs cells slots Q (F0 m 1235 ls []) := by
  obtain ⟨hx, hb, hml, hown, hts, hXs, hbl⟩ := hF
  obtain ⟨hX, hX2, hA1, hA2, hJ, hG, hZ0⟩ := hS
  have hZ := ws_of hG hZ0
  obtain ⟨d, kp, as, un, to, sc, fd, tp, sh, sp, kp', as', bf', sc', it, mv, hC, hC2, hR⟩ := hE
  refine lv_aload_n hx hb dL_law_1235 rfl (lv_at hl 2 rfl) ?_
  refine lv_aload_n hx hb dL_law_1236 rfl (lv_at hl 3 rfl) ?_
  refine lv_iload_n hx hb dL_law_1237 rfl (lv_at hl 0 rfl) ?_
  refine lv_iconst (v := 1) hx hb dL_law_1238 rfl ?_
  refine lv_iadd hx hb dL_law_1239 ?_
  refine va_sld hx hb hXs hbl (hA1.out hbl) hC.2 (vin_ik 1 hi hL (by decide)) dL_law_1240 ?_
  refine lv_aload_n hx hb dL_law_1241 rfl (lv_at hl 3 rfl) ?_
  refine lv_iload_n hx hb dL_law_1242 rfl (lv_at hl 0 rfl) ?_
  refine lv_iconst (v := 2) hx hb dL_law_1243 rfl ?_
  refine lv_iadd hx hb dL_law_1244 ?_
  refine va_sld hx hb hXs hbl (hA1.out hbl) hC.2 (vin_ik 2 hi hL (by decide)) dL_law_1245 ?_
  refine fc_V2 (As := [.int (xs (nI i + 1).toNatClampNeg), .int (xs (nI i + 2).toNatClampNeg)]) (rest := []) hx hb hml hown hts hX hC (m_X0_as hR.1 _ _) (lw_V q1187 q1188 q1189 q108 q1190) hdV_X0_as ⟨rfl, rfl⟩ ⟨Nat.le_of_ble_eq_true rfl, Nat.le_of_ble_eq_true rfl⟩ (fx_recv (g := 5) (i := 0) (ci := 1) (q := (RX0, TX0, 13)) hX hC (cin rfl) rfl rfl) hl.1 rfl (Nat.le_of_ble_eq_true rfl) hcs dL_law_1246 hC2 hA1 hA2 hJ (fun u H locs hC hC2 => ?_)
  refine W.eq (g2 := F0 m 1249 ls [_]) rfl ?_
  refine lv_aload_n hx hb dL_law_1249 rfl (lv_at hl 1 rfl) ?_
  refine lv_aload_n hx hb dL_law_1250 rfl (lv_at hl 3 rfl) ?_
  refine lv_iload_n hx hb dL_law_1251 rfl (lv_at hl 0 rfl) ?_
  refine lv_iconst (v := 1) hx hb dL_law_1252 rfl ?_
  refine lv_iadd hx hb dL_law_1253 ?_
  refine va_sld hx hb hXs hbl (hA1.out hbl) hC.2 (vin_ik 1 hi hL (by decide)) dL_law_1254 ?_
  refine lv_aload_n hx hb dL_law_1255 rfl (lv_at hl 3 rfl) ?_
  refine lv_iload_n hx hb dL_law_1256 rfl (lv_at hl 0 rfl) ?_
  refine lv_iconst (v := 2) hx hb dL_law_1257 rfl ?_
  refine lv_iadd hx hb dL_law_1258 ?_
  refine va_sld hx hb hXs hbl (hA1.out hbl) hC.2 (vin_ik 2 hi hL (by decide)) dL_law_1259 ?_
  refine fc_V2 (As := [.int (xs (nI i + 1).toNatClampNeg), .int (xs (nI i + 2).toNatClampNeg)]) (rest := [_]) hx hb hml hown hts hX2 hC2 (m_X13_as hR.1 _ _) (lw_V q1819 q1820 q1821 q124 q1822) hdV_X13_as ⟨rfl, rfl⟩ ⟨Nat.le_of_ble_eq_true rfl, Nat.le_of_ble_eq_true rfl⟩ (fx_recv (g := 0) (i := 0) (ci := 0) (q := (RX13, TX13, 24)) hX2 hC2 (min_ (by decide)) rfl rfl) hl.1 rfl (Nat.le_of_ble_eq_true rfl) hcs dL_law_1260 hC hA2 hA1 hJ.symm (fun u H locs hC2 hC => ?_)
  refine W.eq (g2 := F0 m 1263 ls [_, _]) rfl ?_
  refine lv_icmp_eq (tgt := 1548) hx hb dL_law_1263 (by decide) (fun _ => ?_) (fun z => absurd rfl z)
  exact kn _ _ ⟨_, _, _, _, _, _, _, _, _, _, _, _, _, _, _, _, hC, hC2, hR⟩
set_option maxRecDepth 100000 in
theorem lc_write {p : Program} {l : Launch} {e : Env} {s : State} {m : MethodId} {below : List Frame} {meth : Method} {c : Code} {b L i cells slots : Nat} {xs : Nat → Int32} {G : Gc} {M : Gm} {H : Heap} {locs : List Loc} {ls : Array Slot} {Q : State → Prop} (hF : LwF p s m c b L xs) (hS : LwS G M s) (hE : LwE G M s H locs) (hi : i + 6 ≤ L) (hL : L ≤ 384) (hcs : cells ≤ 601024 ∧ slots ≤ 7293034) (hl : lv_has ls 4 [(3, .int (nI i)), (2, .ref (M.ad 0 0)), (1, .ref (G.ad 5 0)), (0, .ref b)]) (kn : ∀ (H1 : Heap) (locs1 : List Loc), LwE G M s H1 locs1 → W p l e room_1 s m #[Value.ref b] below meth c H1 locs1 cells slots Q (F0 m 1548 ls [])) : W p l e room_1 s m #[Value.ref b] below meth c H locs cells slots Q (F0 m 1311 ls []) := by
  obtain ⟨hx, hb, hml, hown, hts, hXs, hbl⟩ := hF
  obtain ⟨hX, hX2, hA1, hA2, hJ, hG, hZ0⟩ := hS
  have hZ := ws_of hG hZ0
  obtain ⟨d, kp, as, un, to, sc, fd, tp, sh, sp, kp', as', bf', sc', it, mv, hC, hC2, hR⟩ := hE
  refine lv_aload_n hx hb dL_law_1311 rfl (lv_at hl 2 rfl) ?_
  refine lv_aload_n hx hb dL_law_1312 rfl (lv_at hl 3 rfl) ?_
  refine lv_iload_n hx hb dL_law_1313 rfl (lv_at hl 0 rfl) ?_
  refine lv_iconst (v := 1) hx hb dL_law_1314 rfl ?_
  refine lv_iadd hx hb dL_law_1315 ?_
  refine va_sld hx hb hXs hbl (hA1.out hbl) hC.2 (vin_ik 1 hi hL (by decide)) dL_law_1316 ?_
  refine lv_aload_n hx hb dL_law_1317 rfl (lv_at hl 3 rfl) ?_
  refine lv_iload_n hx hb dL_law_1318 rfl (lv_at hl 0 rfl) ?_
  refine lv_iconst (v := 2) hx hb dL_law_1319 rfl ?_
  refine lv_iadd hx hb dL_law_1320 ?_
  refine va_sld hx hb hXs hbl (hA1.out hbl) hC.2 (vin_ik 2 hi hL (by decide)) dL_law_1321 ?_
  refine lv_aload_n hx hb dL_law_1322 rfl (lv_at hl 3 rfl) ?_
  refine lv_iload_n hx hb dL_law_1323 rfl (lv_at hl 0 rfl) ?_
  refine lv_iconst (v := 3) hx hb dL_law_1324 rfl ?_
  refine lv_iadd hx hb dL_law_1325 ?_
  refine va_sld hx hb hXs hbl (hA1.out hbl) hC.2 (vin_ik 3 hi hL (by decide)) dL_law_1326 ?_
  refine fc_VW2 (As := [.int (xs (nI i + 1).toNatClampNeg), .int (xs (nI i + 2).toNatClampNeg), .int (xs (nI i + 3).toNatClampNeg)]) (rest := []) hx hb hml hown hts hX hC (m_X0_write _ _ _ hG) (lw_VW q1224 q1225 q1226 q108 q1227) hdV_X0_write ⟨rfl, rfl⟩ ⟨Nat.le_of_ble_eq_true rfl, Nat.le_of_ble_eq_true rfl⟩ (fx_recv (g := 5) (i := 0) (ci := 1) (q := (RX0, TX0, 13)) hX hC (cin rfl) rfl rfl) hl.1 rfl (Nat.le_of_ble_eq_true rfl) hcs dL_law_1327 hC2 hA1 hA2 hJ (fun u H locs hC hC2 => ?_)
  refine W.eq (g2 := F0 m 1330 ls [_]) rfl ?_
  refine lv_aload_n hx hb dL_law_1330 rfl (lv_at hl 1 rfl) ?_
  refine lv_aload_n hx hb dL_law_1331 rfl (lv_at hl 3 rfl) ?_
  refine lv_iload_n hx hb dL_law_1332 rfl (lv_at hl 0 rfl) ?_
  refine lv_iconst (v := 1) hx hb dL_law_1333 rfl ?_
  refine lv_iadd hx hb dL_law_1334 ?_
  refine va_sld hx hb hXs hbl (hA1.out hbl) hC.2 (vin_ik 1 hi hL (by decide)) dL_law_1335 ?_
  refine lv_aload_n hx hb dL_law_1336 rfl (lv_at hl 3 rfl) ?_
  refine lv_iload_n hx hb dL_law_1337 rfl (lv_at hl 0 rfl) ?_
  refine lv_iconst (v := 2) hx hb dL_law_1338 rfl ?_
  refine lv_iadd hx hb dL_law_1339 ?_
  refine va_sld hx hb hXs hbl (hA1.out hbl) hC.2 (vin_ik 2 hi hL (by decide)) dL_law_1340 ?_
  refine lv_aload_n hx hb dL_law_1341 rfl (lv_at hl 3 rfl) ?_
  refine lv_iload_n hx hb dL_law_1342 rfl (lv_at hl 0 rfl) ?_
  refine lv_iconst (v := 3) hx hb dL_law_1343 rfl ?_
  refine lv_iadd hx hb dL_law_1344 ?_
  refine va_sld hx hb hXs hbl (hA1.out hbl) hC.2 (vin_ik 3 hi hL (by decide)) dL_law_1345 ?_
  refine fc_V2 (As := [.int (xs (nI i + 1).toNatClampNeg), .int (xs (nI i + 2).toNatClampNeg), .int (xs (nI i + 3).toNatClampNeg)]) (rest := [_]) hx hb hml hown hts hX2 hC2 (m_X13_write _ _ _ hZ) (lw_V q1835 q1836 q1837 q124 q1838) hdV_X13_write ⟨rfl, rfl⟩ ⟨Nat.le_of_ble_eq_true rfl, Nat.le_of_ble_eq_true rfl⟩ (fx_recv (g := 0) (i := 0) (ci := 0) (q := (RX13, TX13, 24)) hX2 hC2 (min_ (by decide)) rfl rfl) hl.1 rfl (Nat.le_of_ble_eq_true rfl) hcs dL_law_1346 hC hA2 hA1 hJ.symm (fun u H locs hC2 hC => ?_)
  refine W.eq (g2 := F0 m 1349 ls [_, _]) rfl ?_
  refine lv_icmp_eq (tgt := 1548) hx hb dL_law_1349 (by decide) (fun _ => ?_) (fun z => absurd rfl z)
  exact kn _ _ ⟨_, _, _, _, _, _, _, _, _, _, _, _, _, _, _, _, hC, hC2, ⟨hR.1, gf_write hG hR.2.1, hR.2.2⟩⟩
set_option maxRecDepth 100000 in
theorem lc_copy {p : Program} {l : Launch} {e : Env} {s : State} {m : MethodId} {below : List Frame} {meth : Method} {c : Code} {b L i cells slots : Nat} {xs : Nat → Int32} {G : Gc} {M : Gm} {H : Heap} {locs : List Loc} {ls : Array Slot} {Q : State → Prop} (hF : LwF p s m c b L xs) (hS : LwS G M s) (hE : LwE G M s H locs) (hi : i + 6 ≤ L) (hL : L ≤ 384) (hcs : cells ≤ 601024 ∧ slots ≤ 7293034) (hl : lv_has ls 4 [(3, .int (nI i)), (2, .ref (M.ad 0 0)), (1, .ref (G.ad 5 0)), (0, .ref b)]) (kn : ∀ (H1 : Heap) (locs1 : List Loc), LwE G M s H1 locs1 → W p l e room_1 s m #[Value.ref b] below meth c H1 locs1 cells slots Q (F0 m 1548 ls [])) : W p l e room_1 s m #[Value.ref b] below meth c H locs cells slots Q (F0 m 1354 ls []) := by
  obtain ⟨hx, hb, hml, hown, hts, hXs, hbl⟩ := hF
  obtain ⟨hX, hX2, hA1, hA2, hJ, hG, hZ0⟩ := hS
  have hZ := ws_of hG hZ0
  obtain ⟨d, kp, as, un, to, sc, fd, tp, sh, sp, kp', as', bf', sc', it, mv, hC, hC2, hR⟩ := hE
  refine lv_aload_n hx hb dL_law_1354 rfl (lv_at hl 2 rfl) ?_
  refine lv_aload_n hx hb dL_law_1355 rfl (lv_at hl 3 rfl) ?_
  refine lv_iload_n hx hb dL_law_1356 rfl (lv_at hl 0 rfl) ?_
  refine lv_iconst (v := 1) hx hb dL_law_1357 rfl ?_
  refine lv_iadd hx hb dL_law_1358 ?_
  refine va_sld hx hb hXs hbl (hA1.out hbl) hC.2 (vin_ik 1 hi hL (by decide)) dL_law_1359 ?_
  refine lv_aload_n hx hb dL_law_1360 rfl (lv_at hl 3 rfl) ?_
  refine lv_iload_n hx hb dL_law_1361 rfl (lv_at hl 0 rfl) ?_
  refine lv_iconst (v := 2) hx hb dL_law_1362 rfl ?_
  refine lv_iadd hx hb dL_law_1363 ?_
  refine va_sld hx hb hXs hbl (hA1.out hbl) hC.2 (vin_ik 2 hi hL (by decide)) dL_law_1364 ?_
  refine lv_aload_n hx hb dL_law_1365 rfl (lv_at hl 3 rfl) ?_
  refine lv_iload_n hx hb dL_law_1366 rfl (lv_at hl 0 rfl) ?_
  refine lv_iconst (v := 3) hx hb dL_law_1367 rfl ?_
  refine lv_iadd hx hb dL_law_1368 ?_
  refine va_sld hx hb hXs hbl (hA1.out hbl) hC.2 (vin_ik 3 hi hL (by decide)) dL_law_1369 ?_
  refine lv_aload_n hx hb dL_law_1370 rfl (lv_at hl 3 rfl) ?_
  refine lv_iload_n hx hb dL_law_1371 rfl (lv_at hl 0 rfl) ?_
  refine lv_iconst (v := 4) hx hb dL_law_1372 rfl ?_
  refine lv_iadd hx hb dL_law_1373 ?_
  refine va_sld hx hb hXs hbl (hA1.out hbl) hC.2 (vin_ik 4 hi hL (by decide)) dL_law_1374 ?_
  refine lv_aload_n hx hb dL_law_1375 rfl (lv_at hl 3 rfl) ?_
  refine lv_iload_n hx hb dL_law_1376 rfl (lv_at hl 0 rfl) ?_
  refine lv_iconst (v := 5) hx hb dL_law_1377 rfl ?_
  refine lv_iadd hx hb dL_law_1378 ?_
  refine va_sld hx hb hXs hbl (hA1.out hbl) hC.2 (vin_ik 5 hi hL (by decide)) dL_law_1379 ?_
  refine fc_VW2 (As := [.int (xs (nI i + 1).toNatClampNeg), .int (xs (nI i + 2).toNatClampNeg), .int (xs (nI i + 3).toNatClampNeg), .int (xs (nI i + 4).toNatClampNeg), .int (xs (nI i + 5).toNatClampNeg)]) (rest := []) hx hb hml hown hts hX hC (m_X0_copy _ _ _ _ _ hG hR.2.1) (lw_VW q1231 q1232 q1233 q108 q1234) hdV_X0_copy ⟨rfl, rfl⟩ ⟨Nat.le_of_ble_eq_true rfl, Nat.le_of_ble_eq_true rfl⟩ (fx_recv (g := 5) (i := 0) (ci := 1) (q := (RX0, TX0, 13)) hX hC (cin rfl) rfl rfl) hl.1 rfl (Nat.le_of_ble_eq_true rfl) hcs dL_law_1380 hC2 hA1 hA2 hJ (fun u H locs hC hC2 => ?_)
  refine W.eq (g2 := F0 m 1383 ls [_]) rfl ?_
  refine lv_aload_n hx hb dL_law_1383 rfl (lv_at hl 1 rfl) ?_
  refine lv_aload_n hx hb dL_law_1384 rfl (lv_at hl 3 rfl) ?_
  refine lv_iload_n hx hb dL_law_1385 rfl (lv_at hl 0 rfl) ?_
  refine lv_iconst (v := 1) hx hb dL_law_1386 rfl ?_
  refine lv_iadd hx hb dL_law_1387 ?_
  refine va_sld hx hb hXs hbl (hA1.out hbl) hC.2 (vin_ik 1 hi hL (by decide)) dL_law_1388 ?_
  refine lv_aload_n hx hb dL_law_1389 rfl (lv_at hl 3 rfl) ?_
  refine lv_iload_n hx hb dL_law_1390 rfl (lv_at hl 0 rfl) ?_
  refine lv_iconst (v := 2) hx hb dL_law_1391 rfl ?_
  refine lv_iadd hx hb dL_law_1392 ?_
  refine va_sld hx hb hXs hbl (hA1.out hbl) hC.2 (vin_ik 2 hi hL (by decide)) dL_law_1393 ?_
  refine lv_aload_n hx hb dL_law_1394 rfl (lv_at hl 3 rfl) ?_
  refine lv_iload_n hx hb dL_law_1395 rfl (lv_at hl 0 rfl) ?_
  refine lv_iconst (v := 3) hx hb dL_law_1396 rfl ?_
  refine lv_iadd hx hb dL_law_1397 ?_
  refine va_sld hx hb hXs hbl (hA1.out hbl) hC.2 (vin_ik 3 hi hL (by decide)) dL_law_1398 ?_
  refine lv_aload_n hx hb dL_law_1399 rfl (lv_at hl 3 rfl) ?_
  refine lv_iload_n hx hb dL_law_1400 rfl (lv_at hl 0 rfl) ?_
  refine lv_iconst (v := 4) hx hb dL_law_1401 rfl ?_
  refine lv_iadd hx hb dL_law_1402 ?_
  refine va_sld hx hb hXs hbl (hA1.out hbl) hC.2 (vin_ik 4 hi hL (by decide)) dL_law_1403 ?_
  refine lv_aload_n hx hb dL_law_1404 rfl (lv_at hl 3 rfl) ?_
  refine lv_iload_n hx hb dL_law_1405 rfl (lv_at hl 0 rfl) ?_
  refine lv_iconst (v := 5) hx hb dL_law_1406 rfl ?_
  refine lv_iadd hx hb dL_law_1407 ?_
  refine va_sld hx hb hXs hbl (hA1.out hbl) hC.2 (vin_ik 5 hi hL (by decide)) dL_law_1408 ?_
  refine fc_V2 (As := [.int (xs (nI i + 1).toNatClampNeg), .int (xs (nI i + 2).toNatClampNeg), .int (xs (nI i + 3).toNatClampNeg), .int (xs (nI i + 4).toNatClampNeg), .int (xs (nI i + 5).toNatClampNeg)]) (rest := [_]) hx hb hml hown hts hX2 hC2 (m_X13_copy _ _ _ _ _ hZ) (lw_V q1842 q1843 q1844 q124 q1845) hdV_X13_copy ⟨rfl, rfl⟩ ⟨Nat.le_of_ble_eq_true rfl, Nat.le_of_ble_eq_true rfl⟩ (fx_recv (g := 0) (i := 0) (ci := 0) (q := (RX13, TX13, 24)) hX2 hC2 (min_ (by decide)) rfl rfl) hl.1 rfl (Nat.le_of_ble_eq_true rfl) hcs dL_law_1409 hC hA2 hA1 hJ.symm (fun u H locs hC2 hC => ?_)
  refine W.eq (g2 := F0 m 1412 ls [_, _]) rfl ?_
  refine lv_icmp_eq (tgt := 1548) hx hb dL_law_1412 (by decide) (fun _ => ?_) (fun z => absurd rfl z)
  exact kn _ _ ⟨_, _, _, _, _, _, _, _, _, _, _, _, _, _, _, _, hC, hC2, ⟨hR.1, gf_copy hG hR.2.1, hR.2.2⟩⟩
set_option maxRecDepth 100000 in
theorem lc_load {p : Program} {l : Launch} {e : Env} {s : State} {m : MethodId} {below : List Frame} {meth : Method} {c : Code} {b L i cells slots : Nat} {xs : Nat → Int32} {G : Gc} {M : Gm} {H : Heap} {locs : List Loc} {ls : Array Slot} {Q : State → Prop} (hF : LwF p s m c b L xs) (hS : LwS G M s) (hE : LwE G M s H locs) (hi : i + 6 ≤ L) (hL : L ≤ 384) (hcs : cells ≤ 601024 ∧ slots ≤ 7293034) (hl : lv_has ls 4 [(3, .int (nI i)), (2, .ref (M.ad 0 0)), (1, .ref (G.ad 5 0)), (0, .ref b)]) (kn : ∀ (H1 : Heap) (locs1 : List Loc), LwE G M s H1 locs1 → W p l e room_1 s m #[Value.ref b] below meth c H1 locs1 cells slots Q (F0 m 1548 ls [])) : W p l e room_1 s m #[Value.ref b] below meth c H locs cells slots Q (F0 m 1417 ls []) := by
  obtain ⟨hx, hb, hml, hown, hts, hXs, hbl⟩ := hF
  obtain ⟨hX, hX2, hA1, hA2, hJ, hG, hZ0⟩ := hS
  have hZ := ws_of hG hZ0
  obtain ⟨d, kp, as, un, to, sc, fd, tp, sh, sp, kp', as', bf', sc', it, mv, hC, hC2, hR⟩ := hE
  refine lv_aload_n hx hb dL_law_1417 rfl (lv_at hl 2 rfl) ?_
  refine lv_aload_n hx hb dL_law_1418 rfl (lv_at hl 3 rfl) ?_
  refine lv_iload_n hx hb dL_law_1419 rfl (lv_at hl 0 rfl) ?_
  refine lv_iconst (v := 1) hx hb dL_law_1420 rfl ?_
  refine lv_iadd hx hb dL_law_1421 ?_
  refine va_sld hx hb hXs hbl (hA1.out hbl) hC.2 (vin_ik 1 hi hL (by decide)) dL_law_1422 ?_
  refine fc_VW2 (As := [.int (xs (nI i + 1).toNatClampNeg)]) (rest := []) hx hb hml hown hts hX hC (m_X0_load _ hG) (lw_VW q1242 q1243 q1244 q108 q1245) hdV_X0_load ⟨rfl, rfl⟩ ⟨Nat.le_of_ble_eq_true rfl, Nat.le_of_ble_eq_true rfl⟩ (fx_recv (g := 5) (i := 0) (ci := 1) (q := (RX0, TX0, 13)) hX hC (cin rfl) rfl rfl) hl.1 rfl (Nat.le_of_ble_eq_true rfl) hcs dL_law_1423 hC2 hA1 hA2 hJ (fun u H locs hC hC2 => ?_)
  refine W.eq (g2 := F0 m 1426 ls [_]) rfl ?_
  refine lv_aload_n hx hb dL_law_1426 rfl (lv_at hl 1 rfl) ?_
  refine lv_aload_n hx hb dL_law_1427 rfl (lv_at hl 3 rfl) ?_
  refine lv_iload_n hx hb dL_law_1428 rfl (lv_at hl 0 rfl) ?_
  refine lv_iconst (v := 1) hx hb dL_law_1429 rfl ?_
  refine lv_iadd hx hb dL_law_1430 ?_
  refine va_sld hx hb hXs hbl (hA1.out hbl) hC.2 (vin_ik 1 hi hL (by decide)) dL_law_1431 ?_
  refine fc_V2 (As := [.int (xs (nI i + 1).toNatClampNeg)]) (rest := [_]) hx hb hml hown hts hX2 hC2 (m_X13_load _ hZ) (lw_V q1846 q1847 q1848 q124 q1849) hdV_X13_load ⟨rfl, rfl⟩ ⟨Nat.le_of_ble_eq_true rfl, Nat.le_of_ble_eq_true rfl⟩ (fx_recv (g := 0) (i := 0) (ci := 0) (q := (RX13, TX13, 24)) hX2 hC2 (min_ (by decide)) rfl rfl) hl.1 rfl (Nat.le_of_ble_eq_true rfl) hcs dL_law_1432 hC hA2 hA1 hJ.symm (fun u H locs hC2 hC => ?_)
  refine W.eq (g2 := F0 m 1435 ls [_, _]) rfl ?_
  refine lv_icmp_eq (tgt := 1548) hx hb dL_law_1435 (by decide) (fun _ => ?_) (fun z => absurd rfl z)
  exact kn _ _ ⟨_, _, _, _, _, _, _, _, _, _, _, _, _, _, _, _, hC, hC2, ⟨wf_load hR.1, hR.2⟩⟩
set_option maxRecDepth 100000 in
theorem lc_judge {p : Program} {l : Launch} {e : Env} {s : State} {m : MethodId} {below : List Frame} {meth : Method} {c : Code} {b L i cells slots : Nat} {xs : Nat → Int32} {G : Gc} {M : Gm} {H : Heap} {locs : List Loc} {ls : Array Slot} {Q : State → Prop} (hF : LwF p s m c b L xs) (hS : LwS G M s) (hE : LwE G M s H locs) (hi : i + 6 ≤ L) (hL : L ≤ 384) (hcs : cells ≤ 601024 ∧ slots ≤ 7293034) (hl : lv_has ls 4 [(3, .int (nI i)), (2, .ref (M.ad 0 0)), (1, .ref (G.ad 5 0)), (0, .ref b)]) (kn : ∀ (H1 : Heap) (locs1 : List Loc), LwE G M s H1 locs1 → W p l e room_1 s m #[Value.ref b] below meth c H1 locs1 cells slots Q (F0 m 1548 ls [])) : W p l e room_1 s m #[Value.ref b] below meth c H locs cells slots Q (F0 m 1440 ls []) := by
  obtain ⟨hx, hb, hml, hown, hts, hXs, hbl⟩ := hF
  obtain ⟨hX, hX2, hA1, hA2, hJ, hG, hZ0⟩ := hS
  have hZ := ws_of hG hZ0
  obtain ⟨d, kp, as, un, to, sc, fd, tp, sh, sp, kp', as', bf', sc', it, mv, hC, hC2, hR⟩ := hE
  refine lv_aload_n hx hb dL_law_1440 rfl (lv_at hl 2 rfl) ?_
  refine lv_aload_n hx hb dL_law_1441 rfl (lv_at hl 3 rfl) ?_
  refine lv_iload_n hx hb dL_law_1442 rfl (lv_at hl 0 rfl) ?_
  refine lv_iconst (v := 1) hx hb dL_law_1443 rfl ?_
  refine lv_iadd hx hb dL_law_1444 ?_
  refine va_sld hx hb hXs hbl (hA1.out hbl) hC.2 (vin_ik 1 hi hL (by decide)) dL_law_1445 ?_
  refine fc_VW2 (As := [.int (xs (nI i + 1).toNatClampNeg)]) (rest := []) hx hb hml hown hts hX hC (m_X0_judge hR.1 _ hG) (lw_VW q1250 q1251 q1252 q108 q1253) hdV_X0_judge ⟨rfl, rfl⟩ ⟨Nat.le_of_ble_eq_true rfl, Nat.le_of_ble_eq_true rfl⟩ (fx_recv (g := 5) (i := 0) (ci := 1) (q := (RX0, TX0, 13)) hX hC (cin rfl) rfl rfl) hl.1 rfl (Nat.le_of_ble_eq_true rfl) hcs dL_law_1446 hC2 hA1 hA2 hJ (fun u H locs hC hC2 => ?_)
  refine W.eq (g2 := F0 m 1449 ls [_]) rfl ?_
  refine lv_aload_n hx hb dL_law_1449 rfl (lv_at hl 1 rfl) ?_
  refine lv_aload_n hx hb dL_law_1450 rfl (lv_at hl 3 rfl) ?_
  refine lv_iload_n hx hb dL_law_1451 rfl (lv_at hl 0 rfl) ?_
  refine lv_iconst (v := 1) hx hb dL_law_1452 rfl ?_
  refine lv_iadd hx hb dL_law_1453 ?_
  refine va_sld hx hb hXs hbl (hA1.out hbl) hC.2 (vin_ik 1 hi hL (by decide)) dL_law_1454 ?_
  refine fc_V2 (As := [.int (xs (nI i + 1).toNatClampNeg)]) (rest := [_]) hx hb hml hown hts hX2 hC2 (m_X13_judge hR.1 _ hZ) (lw_V q1850 q1851 q1852 q124 q1853) hdV_X13_judge ⟨rfl, rfl⟩ ⟨Nat.le_of_ble_eq_true rfl, Nat.le_of_ble_eq_true rfl⟩ (fx_recv (g := 0) (i := 0) (ci := 0) (q := (RX13, TX13, 24)) hX2 hC2 (min_ (by decide)) rfl rfl) hl.1 rfl (Nat.le_of_ble_eq_true rfl) hcs dL_law_1455 hC hA2 hA1 hJ.symm (fun u H locs hC2 hC => ?_)
  refine W.eq (g2 := F0 m 1458 ls [_, _]) rfl ?_
  refine lv_icmp_eq (tgt := 1548) hx hb dL_law_1458 (by decide) (fun _ => ?_) (fun z => absurd rfl z)
  exact kn _ _ ⟨_, _, _, _, _, _, _, _, _, _, _, _, _, _, _, _, hC, hC2, hR⟩
set_option maxRecDepth 100000 in
theorem lc_image {p : Program} {l : Launch} {e : Env} {s : State} {m : MethodId} {below : List Frame} {meth : Method} {c : Code} {b L i cells slots : Nat} {xs : Nat → Int32} {G : Gc} {M : Gm} {H : Heap} {locs : List Loc} {ls : Array Slot} {Q : State → Prop} (hF : LwF p s m c b L xs) (hS : LwS G M s) (hE : LwE G M s H locs) (hi : i + 6 ≤ L) (hL : L ≤ 384) (hcs : cells ≤ 601024 ∧ slots ≤ 7293034) (hl : lv_has ls 4 [(3, .int (nI i)), (2, .ref (M.ad 0 0)), (1, .ref (G.ad 5 0)), (0, .ref b)]) (kn : ∀ (H1 : Heap) (locs1 : List Loc), LwE G M s H1 locs1 → W p l e room_1 s m #[Value.ref b] below meth c H1 locs1 cells slots Q (F0 m 1548 ls [])) : W p l e room_1 s m #[Value.ref b] below meth c H locs cells slots Q (F0 m 1463 ls []) := by
  obtain ⟨hx, hb, hml, hown, hts, hXs, hbl⟩ := hF
  obtain ⟨hX, hX2, hA1, hA2, hJ, hG, hZ0⟩ := hS
  have hZ := ws_of hG hZ0
  obtain ⟨d, kp, as, un, to, sc, fd, tp, sh, sp, kp', as', bf', sc', it, mv, hC, hC2, hR⟩ := hE
  refine lv_aload_n hx hb dL_law_1463 rfl (lv_at hl 2 rfl) ?_
  refine fc_V2 (As := []) (rest := []) hx hb hml hown hts hX hC (m_X0_image) (lw_V q1258 q1259 q1260 q108 q1261) hdV_X0_image ⟨rfl, rfl⟩ ⟨Nat.le_of_ble_eq_true rfl, Nat.le_of_ble_eq_true rfl⟩ (fx_recv (g := 5) (i := 0) (ci := 1) (q := (RX0, TX0, 13)) hX hC (cin rfl) rfl rfl) hl.1 rfl (Nat.le_of_ble_eq_true rfl) hcs dL_law_1464 hC2 hA1 hA2 hJ (fun u H locs hC hC2 => ?_)
  refine W.eq (g2 := F0 m 1467 ls [_]) rfl ?_
  refine lv_aload_n hx hb dL_law_1467 rfl (lv_at hl 1 rfl) ?_
  refine fc_V2 (As := []) (rest := [_]) hx hb hml hown hts hX2 hC2 (m_X13_image) (lw_V q1854 q1855 q1856 q124 q1857) hdV_X13_image ⟨rfl, rfl⟩ ⟨Nat.le_of_ble_eq_true rfl, Nat.le_of_ble_eq_true rfl⟩ (fx_recv (g := 0) (i := 0) (ci := 0) (q := (RX13, TX13, 24)) hX2 hC2 (min_ (by decide)) rfl rfl) hl.1 rfl (Nat.le_of_ble_eq_true rfl) hcs dL_law_1468 hC hA2 hA1 hJ.symm (fun u H locs hC2 hC => ?_)
  refine W.eq (g2 := F0 m 1471 ls [_, _]) rfl ?_
  refine lv_icmp_eq (tgt := 1548) hx hb dL_law_1471 (by decide) (fun _ => ?_) (fun z => absurd rfl z)
  exact kn _ _ ⟨_, _, _, _, _, _, _, _, _, _, _, _, _, _, _, _, hC, hC2, ⟨hR.1, hR.2.1, hR.2.2.1, hR.2.2.2.1, rfl, fun _ => ⟨rfl, hR.1⟩⟩⟩
set_option maxRecDepth 100000 in
theorem lc_undo {p : Program} {l : Launch} {e : Env} {s : State} {m : MethodId} {below : List Frame} {meth : Method} {c : Code} {b L i cells slots : Nat} {xs : Nat → Int32} {G : Gc} {M : Gm} {H : Heap} {locs : List Loc} {ls : Array Slot} {Q : State → Prop} (hF : LwF p s m c b L xs) (hS : LwS G M s) (hE : LwE G M s H locs) (hi : i + 6 ≤ L) (hL : L ≤ 384) (hcs : cells ≤ 601024 ∧ slots ≤ 7293034) (hl : lv_has ls 4 [(3, .int (nI i)), (2, .ref (M.ad 0 0)), (1, .ref (G.ad 5 0)), (0, .ref b)]) (kn : ∀ (H1 : Heap) (locs1 : List Loc), LwE G M s H1 locs1 → W p l e room_1 s m #[Value.ref b] below meth c H1 locs1 cells slots Q (F0 m 1548 ls [])) : W p l e room_1 s m #[Value.ref b] below meth c H locs cells slots Q (F0 m 1476 ls []) := by
  obtain ⟨hx, hb, hml, hown, hts, hXs, hbl⟩ := hF
  obtain ⟨hX, hX2, hA1, hA2, hJ, hG, hZ0⟩ := hS
  have hZ := ws_of hG hZ0
  obtain ⟨d, kp, as, un, to, sc, fd, tp, sh, sp, kp', as', bf', sc', it, mv, hC, hC2, hR⟩ := hE
  refine lv_aload_n hx hb dL_law_1476 rfl (lv_at hl 2 rfl) ?_
  refine fc_V2 (As := []) (rest := []) hx hb hml hown hts hX hC (m_X0_undo) (lw_V q1262 q1263 q1264 q108 q1265) hdV_X0_undo ⟨rfl, rfl⟩ ⟨Nat.le_of_ble_eq_true rfl, Nat.le_of_ble_eq_true rfl⟩ (fx_recv (g := 5) (i := 0) (ci := 1) (q := (RX0, TX0, 13)) hX hC (cin rfl) rfl rfl) hl.1 rfl (Nat.le_of_ble_eq_true rfl) hcs dL_law_1477 hC2 hA1 hA2 hJ (fun u H locs hC hC2 => ?_)
  refine W.eq (g2 := F0 m 1480 ls [_]) rfl ?_
  refine lv_aload_n hx hb dL_law_1480 rfl (lv_at hl 1 rfl) ?_
  refine fc_V2 (As := []) (rest := [_]) hx hb hml hown hts hX2 hC2 (m_X13_undo) (lw_V q1858 q1859 q1860 q124 q1861) hdV_X13_undo ⟨rfl, rfl⟩ ⟨Nat.le_of_ble_eq_true rfl, Nat.le_of_ble_eq_true rfl⟩ (fx_recv (g := 0) (i := 0) (ci := 0) (q := (RX13, TX13, 24)) hX2 hC2 (min_ (by decide)) rfl rfl) hl.1 rfl (Nat.le_of_ble_eq_true rfl) hcs dL_law_1481 hC hA2 hA1 hJ.symm (fun u H locs hC2 hC => ?_)
  refine W.eq (g2 := F0 m 1484 ls [_, _]) rfl ?_
  refine lv_icmp_eq (tgt := 1548) hx hb dL_law_1484 (by decide) (fun _ => ?_) (fun z => absurd (congrArg (fun z => z.1) (undo_eq hR)) z)
  rw [← undo_eq hR] at hC2
  exact kn _ _ ⟨_, _, _, _, _, _, _, _, _, _, _, _, _, _, _, _, hC, hC2, ⟨wf_undo hR.1 (fun z => (hR.2.2.2.2.2 z).2), hR.2⟩⟩
set_option maxRecDepth 100000 in
theorem lc_tear {p : Program} {l : Launch} {e : Env} {s : State} {m : MethodId} {below : List Frame} {meth : Method} {c : Code} {b L i cells slots : Nat} {xs : Nat → Int32} {G : Gc} {M : Gm} {H : Heap} {locs : List Loc} {ls : Array Slot} {Q : State → Prop} (hF : LwF p s m c b L xs) (hS : LwS G M s) (hE : LwE G M s H locs) (hi : i + 6 ≤ L) (hL : L ≤ 384) (hcs : cells ≤ 601024 ∧ slots ≤ 7293034) (hl : lv_has ls 4 [(3, .int (nI i)), (2, .ref (M.ad 0 0)), (1, .ref (G.ad 5 0)), (0, .ref b)]) (kn : ∀ (H1 : Heap) (locs1 : List Loc), LwE G M s H1 locs1 → W p l e room_1 s m #[Value.ref b] below meth c H1 locs1 cells slots Q (F0 m 1548 ls [])) : W p l e room_1 s m #[Value.ref b] below meth c H locs cells slots Q (F0 m 1489 ls []) := by
  obtain ⟨hx, hb, hml, hown, hts, hXs, hbl⟩ := hF
  obtain ⟨hX, hX2, hA1, hA2, hJ, hG, hZ0⟩ := hS
  have hZ := ws_of hG hZ0
  obtain ⟨d, kp, as, un, to, sc, fd, tp, sh, sp, kp', as', bf', sc', it, mv, hC, hC2, hR⟩ := hE
  refine lv_aload_n hx hb dL_law_1489 rfl (lv_at hl 2 rfl) ?_
  refine fc_V2 (As := []) (rest := []) hx hb hml hown hts hX hC (m_X0_tear) (lw_V q1266 q1267 q1268 q108 q1269) hdV_X0_tear ⟨rfl, rfl⟩ ⟨Nat.le_of_ble_eq_true rfl, Nat.le_of_ble_eq_true rfl⟩ (fx_recv (g := 5) (i := 0) (ci := 1) (q := (RX0, TX0, 13)) hX hC (cin rfl) rfl rfl) hl.1 rfl (Nat.le_of_ble_eq_true rfl) hcs dL_law_1490 hC2 hA1 hA2 hJ (fun u H locs hC hC2 => ?_)
  refine W.eq (g2 := F0 m 1493 ls [_]) rfl ?_
  refine lv_aload_n hx hb dL_law_1493 rfl (lv_at hl 1 rfl) ?_
  refine fc_V2 (As := []) (rest := [_]) hx hb hml hown hts hX2 hC2 (m_X13_tear) (lw_V q1862 q1863 q1864 q124 q1865) hdV_X13_tear ⟨rfl, rfl⟩ ⟨Nat.le_of_ble_eq_true rfl, Nat.le_of_ble_eq_true rfl⟩ (fx_recv (g := 0) (i := 0) (ci := 0) (q := (RX13, TX13, 24)) hX2 hC2 (min_ (by decide)) rfl rfl) hl.1 rfl (Nat.le_of_ble_eq_true rfl) hcs dL_law_1494 hC hA2 hA1 hJ.symm (fun u H locs hC2 hC => ?_)
  refine W.eq (g2 := F0 m 1497 ls [_, _]) rfl ?_
  refine lv_icmp_eq (tgt := 1548) hx hb dL_law_1497 (by decide) (fun _ => ?_) (fun z => absurd (show (if sc 1 = 0 then (0 : Int32) else 1) = (if sc' 0 = 0 then 0 else 1) by rw [hR.2.2.2.2.1]) z)
  exact kn _ _ ⟨_, _, _, _, _, _, _, _, _, _, _, _, _, _, _, _, hC, hC2, ⟨hR.1, hR.2.1, hR.2.2.1, hR.2.2.2.1, rfl, fun z => absurd rfl z⟩⟩
set_option maxRecDepth 100000 in
theorem lc_count {p : Program} {l : Launch} {e : Env} {s : State} {m : MethodId} {below : List Frame} {meth : Method} {c : Code} {b L i cells slots : Nat} {xs : Nat → Int32} {G : Gc} {M : Gm} {H : Heap} {locs : List Loc} {ls : Array Slot} {Q : State → Prop} (hF : LwF p s m c b L xs) (hS : LwS G M s) (hE : LwE G M s H locs) (hi : i + 6 ≤ L) (hL : L ≤ 384) (hcs : cells ≤ 601024 ∧ slots ≤ 7293034) (hl : lv_has ls 4 [(3, .int (nI i)), (2, .ref (M.ad 0 0)), (1, .ref (G.ad 5 0)), (0, .ref b)]) (kn : ∀ (H1 : Heap) (locs1 : List Loc), LwE G M s H1 locs1 → W p l e room_1 s m #[Value.ref b] below meth c H1 locs1 cells slots Q (F0 m 1548 ls [])) : W p l e room_1 s m #[Value.ref b] below meth c H locs cells slots Q (F0 m 1502 ls []) := by
  obtain ⟨hx, hb, hml, hown, hts, hXs, hbl⟩ := hF
  obtain ⟨hX, hX2, hA1, hA2, hJ, hG, hZ0⟩ := hS
  have hZ := ws_of hG hZ0
  obtain ⟨d, kp, as, un, to, sc, fd, tp, sh, sp, kp', as', bf', sc', it, mv, hC, hC2, hR⟩ := hE
  refine lv_aload_n hx hb dL_law_1502 rfl (lv_at hl 2 rfl) ?_
  refine lv_aload_n hx hb dL_law_1503 rfl (lv_at hl 3 rfl) ?_
  refine lv_iload_n hx hb dL_law_1504 rfl (lv_at hl 0 rfl) ?_
  refine lv_iconst (v := 1) hx hb dL_law_1505 rfl ?_
  refine lv_iadd hx hb dL_law_1506 ?_
  refine va_sld hx hb hXs hbl (hA1.out hbl) hC.2 (vin_ik 1 hi hL (by decide)) dL_law_1507 ?_
  refine fc_V2 (As := [.int (xs (nI i + 1).toNatClampNeg)]) (rest := []) hx hb hml hown hts hX hC (m_X0_count hR.1 _) (lw_V q1270 q1271 q1272 q108 q1273) hdV_X0_count ⟨rfl, rfl⟩ ⟨Nat.le_of_ble_eq_true rfl, Nat.le_of_ble_eq_true rfl⟩ (fx_recv (g := 5) (i := 0) (ci := 1) (q := (RX0, TX0, 13)) hX hC (cin rfl) rfl rfl) hl.1 rfl (Nat.le_of_ble_eq_true rfl) hcs dL_law_1508 hC2 hA1 hA2 hJ (fun u H locs hC hC2 => ?_)
  refine W.eq (g2 := F0 m 1511 ls [_]) rfl ?_
  refine lv_aload_n hx hb dL_law_1511 rfl (lv_at hl 1 rfl) ?_
  refine lv_aload_n hx hb dL_law_1512 rfl (lv_at hl 3 rfl) ?_
  refine lv_iload_n hx hb dL_law_1513 rfl (lv_at hl 0 rfl) ?_
  refine lv_iconst (v := 1) hx hb dL_law_1514 rfl ?_
  refine lv_iadd hx hb dL_law_1515 ?_
  refine va_sld hx hb hXs hbl (hA1.out hbl) hC.2 (vin_ik 1 hi hL (by decide)) dL_law_1516 ?_
  refine fc_V2 (As := [.int (xs (nI i + 1).toNatClampNeg)]) (rest := [_]) hx hb hml hown hts hX2 hC2 (m_X13_count hR.1 _) (lw_V q1866 q1867 q1868 q124 q1869) hdV_X13_count ⟨rfl, rfl⟩ ⟨Nat.le_of_ble_eq_true rfl, Nat.le_of_ble_eq_true rfl⟩ (fx_recv (g := 0) (i := 0) (ci := 0) (q := (RX13, TX13, 24)) hX2 hC2 (min_ (by decide)) rfl rfl) hl.1 rfl (Nat.le_of_ble_eq_true rfl) hcs dL_law_1517 hC hA2 hA1 hJ.symm (fun u H locs hC2 hC => ?_)
  refine W.eq (g2 := F0 m 1520 ls [_, _]) rfl ?_
  refine lv_icmp_eq (tgt := 1548) hx hb dL_law_1520 (by decide) (fun _ => ?_) (fun z => absurd (show (s_count d fd (sc 0) _).1 = (s_count d fd (sc' 3) _).1 by rw [hR.2.2.2.1]) z)
  rw [hR.2.2.2.1] at hC2
  exact kn _ _ ⟨_, _, _, _, _, _, _, _, _, _, _, _, _, _, _, _, hC, hC2, hR⟩
set_option maxRecDepth 100000 in
theorem lc_status {p : Program} {l : Launch} {e : Env} {s : State} {m : MethodId} {below : List Frame} {meth : Method} {c : Code} {b L i cells slots : Nat} {xs : Nat → Int32} {G : Gc} {M : Gm} {H : Heap} {locs : List Loc} {ls : Array Slot} {Q : State → Prop} (hF : LwF p s m c b L xs) (hS : LwS G M s) (hE : LwE G M s H locs) (hi : i + 6 ≤ L) (hL : L ≤ 384) (hcs : cells ≤ 601024 ∧ slots ≤ 7293034) (hl : lv_has ls 4 [(3, .int (nI i)), (2, .ref (M.ad 0 0)), (1, .ref (G.ad 5 0)), (0, .ref b)]) (kn : ∀ (H1 : Heap) (locs1 : List Loc), LwE G M s H1 locs1 → W p l e room_1 s m #[Value.ref b] below meth c H1 locs1 cells slots Q (F0 m 1548 ls [])) : W p l e room_1 s m #[Value.ref b] below meth c H locs cells slots Q (F0 m 1525 ls []) := by
  obtain ⟨hx, hb, hml, hown, hts, hXs, hbl⟩ := hF
  obtain ⟨hX, hX2, hA1, hA2, hJ, hG, hZ0⟩ := hS
  have hZ := ws_of hG hZ0
  obtain ⟨d, kp, as, un, to, sc, fd, tp, sh, sp, kp', as', bf', sc', it, mv, hC, hC2, hR⟩ := hE
  refine lv_aload_n hx hb dL_law_1525 rfl (lv_at hl 2 rfl) ?_
  refine lv_aload_n hx hb dL_law_1526 rfl (lv_at hl 3 rfl) ?_
  refine lv_iload_n hx hb dL_law_1527 rfl (lv_at hl 0 rfl) ?_
  refine lv_iconst (v := 1) hx hb dL_law_1528 rfl ?_
  refine lv_iadd hx hb dL_law_1529 ?_
  refine va_sld hx hb hXs hbl (hA1.out hbl) hC.2 (vin_ik 1 hi hL (by decide)) dL_law_1530 ?_
  refine fc_V2 (As := [.int (xs (nI i + 1).toNatClampNeg)]) (rest := []) hx hb hml hown hts hX hC (m_X0_status _) (lw_V q1287 q1288 q1289 q108 q1290) hdV_X0_status ⟨rfl, rfl⟩ ⟨Nat.le_of_ble_eq_true rfl, Nat.le_of_ble_eq_true rfl⟩ (fx_recv (g := 5) (i := 0) (ci := 1) (q := (RX0, TX0, 13)) hX hC (cin rfl) rfl rfl) hl.1 rfl (Nat.le_of_ble_eq_true rfl) hcs dL_law_1531 hC2 hA1 hA2 hJ (fun u H locs hC hC2 => ?_)
  refine W.eq (g2 := F0 m 1534 ls [_]) rfl ?_
  refine lv_aload_n hx hb dL_law_1534 rfl (lv_at hl 1 rfl) ?_
  refine lv_aload_n hx hb dL_law_1535 rfl (lv_at hl 3 rfl) ?_
  refine lv_iload_n hx hb dL_law_1536 rfl (lv_at hl 0 rfl) ?_
  refine lv_iconst (v := 1) hx hb dL_law_1537 rfl ?_
  refine lv_iadd hx hb dL_law_1538 ?_
  refine va_sld hx hb hXs hbl (hA1.out hbl) hC.2 (vin_ik 1 hi hL (by decide)) dL_law_1539 ?_
  refine fc_V2 (As := [.int (xs (nI i + 1).toNatClampNeg)]) (rest := [_]) hx hb hml hown hts hX2 hC2 (m_X13_status _) (lw_V q1870 q1871 q1872 q124 q1873) hdV_X13_status ⟨rfl, rfl⟩ ⟨Nat.le_of_ble_eq_true rfl, Nat.le_of_ble_eq_true rfl⟩ (fx_recv (g := 0) (i := 0) (ci := 0) (q := (RX13, TX13, 24)) hX2 hC2 (min_ (by decide)) rfl rfl) hl.1 rfl (Nat.le_of_ble_eq_true rfl) hcs dL_law_1540 hC hA2 hA1 hJ.symm (fun u H locs hC2 hC => ?_)
  refine W.eq (g2 := F0 m 1543 ls [_, _]) rfl ?_
  refine lv_icmp_eq (tgt := 1548) hx hb dL_law_1543 (by decide) (fun _ => ?_) (fun z => absurd rfl z)
  exact kn _ _ ⟨_, _, _, _, _, _, _, _, _, _, _, _, _, _, _, _, hC, hC2, hR⟩
set_option maxRecDepth 100000 in
theorem lc_text {p : Program} {l : Launch} {e : Env} {s : State} {m : MethodId} {below : List Frame} {meth : Method} {c : Code} {b L i cells slots : Nat} {xs : Nat → Int32} {G : Gc} {M : Gm} {H : Heap} {locs : List Loc} {ls : Array Slot} {Q : State → Prop} (hF : LwF p s m c b L xs) (hS : LwS G M s) (hE : LwE G M s H locs) (hi : i + 6 ≤ L) (hL : L ≤ 384) (hcs : cells ≤ 601024 ∧ slots ≤ 7293034) (hl : lv_has ls 4 [(3, .int (nI i)), (2, .ref (M.ad 0 0)), (1, .ref (G.ad 5 0)), (0, .ref b)]) (kn : ∀ (H1 : Heap) (locs1 : List Loc), LwE G M s H1 locs1 → W p l e room_1 s m #[Value.ref b] below meth c H1 locs1 cells slots Q (F0 m 1548 ls [])) : W p l e room_1 s m #[Value.ref b] below meth c H locs cells slots Q (F0 m 1189 ls []) := by
  obtain ⟨hx, hb, hml, hown, hts, hXs, hbl⟩ := hF
  obtain ⟨hX, hX2, hA1, hA2, hJ, hG, hZ0⟩ := hS
  have hZ := ws_of hG hZ0
  obtain ⟨d, kp, as, un, to, sc, fd, tp, sh, sp, kp', as', bf', sc', it, mv, hC, hC2, hR⟩ := hE
  obtain ⟨Lt, hLt, e0⟩ := vp_in_of hR.2.2.1 (by decide)
  have hfr := whole_FR (tp := tp) (d := d) (it := it) (t := sc 7) (v := sc 8) (L := Lt) (by omega) hR.1
  rcases hq : c_whole tp Lt (sc 7) (sc 8) d with ⟨⟨a1, b1, t1, v1⟩, ok, n1, to1⟩
  rcases hq2 : n_read tp Lt (d 1) it with ⟨S1, sn1, it1, im1⟩
  rw [hq, hq2] at hfr
  cases ok
  · have hfr : (n_fin tp Lt S1).bg = b1 ∧ ¬ (n_fin tp Lt S1).wr = 0 := hfr
    refine lv_aload_n hx hb dL_law_1189 rfl (lv_at hl 2 rfl) ?_
    refine fc_VW2 (As := []) (rest := []) hx hb hml hown hts hX hC (m_X0_text_F hR.1 (show Lt ≤ 120 by omega) e0 hq) (lw_VW q1062 q1063 q1064 q108 q1065) hdV_X0_text ⟨rfl, rfl⟩ ⟨Nat.le_of_ble_eq_true rfl, Nat.le_of_ble_eq_true rfl⟩ (fx_recv (g := 5) (i := 0) (ci := 1) (q := (RX0, TX0, 13)) hX hC (cin rfl) rfl rfl) hl.1 rfl (Nat.le_of_ble_eq_true rfl) hcs dL_law_1190 hC2 hA1 hA2 hJ (fun u H locs hC hC2 => ?_)
    refine W.eq (g2 := F0 m 1193 ls [_]) rfl ?_
    refine lv_aload_n hx hb dL_law_1193 rfl (lv_at hl 1 rfl) ?_
    refine fc_V2 (As := []) (rest := [_]) hx hb hml hown hts hX2 hC2 (m_X13_text_F (show Lt ≤ 120 by omega) (hR.2.2.2.1.trans e0) hq2 hfr.2) (lw_V q1736 q1737 q1738 q124 q1739) hdV_X13_text ⟨rfl, rfl⟩ ⟨Nat.le_of_ble_eq_true rfl, Nat.le_of_ble_eq_true rfl⟩ (fx_recv (g := 0) (i := 0) (ci := 0) (q := (RX13, TX13, 24)) hX2 hC2 (min_ (by decide)) rfl rfl) hl.1 rfl (Nat.le_of_ble_eq_true rfl) hcs dL_law_1194 hC hA2 hA1 hJ.symm (fun u H locs hC2 hC => ?_)
    refine W.eq (g2 := F0 m 1197 ls [_, _]) rfl ?_
    refine lv_icmp_eq (tgt := 1548) hx hb dL_law_1197 (by decide) (fun _ => ?_) (fun z => absurd (show -1 - nI b1 = -1 - nI (n_fin tp Lt S1).bg by rw [hfr.1]) z)
    exact kn _ _ ⟨_, _, _, _, _, _, _, _, _, _, _, _, _, _, _, _, hC, hC2, ⟨hR.1, hR.2.1, vin_b rfl, rfl, hR.2.2.2.2.1, hR.2.2.2.2.2⟩⟩
  · have hfr : (n_fin tp Lt S1).wr = 0 ∧ n1 = nI im1 ∧ TD it1 im1 d to1 := hfr
    refine lv_aload_n hx hb dL_law_1189 rfl (lv_at hl 2 rfl) ?_
    refine fc_VW2 (As := []) (rest := []) hx hb hml hown hts hX hC (m_X0_text_T hR.1 (show Lt ≤ 120 by omega) e0 hq) (lw_VW q1062 q1063 q1064 q108 q1065) hdV_X0_text ⟨rfl, rfl⟩ ⟨Nat.le_of_ble_eq_true rfl, Nat.le_of_ble_eq_true rfl⟩ (fx_recv (g := 5) (i := 0) (ci := 1) (q := (RX0, TX0, 13)) hX hC (cin rfl) rfl rfl) hl.1 rfl (Nat.le_of_ble_eq_true rfl) hcs dL_law_1190 hC2 hA1 hA2 hJ (fun u H locs hC hC2 => ?_)
    refine W.eq (g2 := F0 m 1193 ls [_]) rfl ?_
    refine lv_aload_n hx hb dL_law_1193 rfl (lv_at hl 1 rfl) ?_
    refine fc_V2 (As := []) (rest := [_]) hx hb hml hown hts hX2 hC2 (m_X13_text_T (show Lt ≤ 120 by omega) (hR.2.2.2.1.trans e0) hq2 hfr.1 hfr.2.2.ok hfr.2.2.wf) (lw_V q1736 q1737 q1738 q124 q1739) hdV_X13_text ⟨rfl, rfl⟩ ⟨Nat.le_of_ble_eq_true rfl, Nat.le_of_ble_eq_true rfl⟩ (fx_recv (g := 0) (i := 0) (ci := 0) (q := (RX13, TX13, 24)) hX2 hC2 (min_ (by decide)) rfl rfl) hl.1 rfl (Nat.le_of_ble_eq_true rfl) hcs dL_law_1194 hC hA2 hA1 hJ.symm (fun u H locs hC2 hC => ?_)
    refine W.eq (g2 := F0 m 1197 ls [_, _]) rfl ?_
    refine lv_icmp_eq (tgt := 1548) hx hb dL_law_1197 (by decide) (fun _ => ?_) (fun z => absurd hfr.2.1 z)
    rw [hfr.2.2.told] at hC2
    exact kn _ _ ⟨_, _, _, _, _, _, _, _, _, _, _, _, _, _, _, _, hC, hC2, ⟨whole_W hR.1 hq, hR.2.1, vin_b rfl, rfl, hR.2.2.2.2.1, hR.2.2.2.2.2⟩⟩
