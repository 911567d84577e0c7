set_option maxRecDepth 100000
theorem cf_X1 : CF RX1 TX1 5 := ⟨in_X1, ⟨tyX1, tyX1_ok⟩, nmX1⟩
theorem cf_X2 : CF RX2 TX2 6 := ⟨in_X2, ⟨tyX2, tyX2_ok⟩, nmX2⟩
theorem cf_X3 : CF RX3 TX3 27 := ⟨in_X3, ⟨tyX3, tyX3_ok⟩, nmX3⟩
theorem cf_X4 : CF RX4 TX4 9 := ⟨in_X4, ⟨tyX4, tyX4_ok⟩, nmX4⟩
theorem cf_X5 : CF RX5 TX5 8 := ⟨in_X5, ⟨tyX5, tyX5_ok⟩, nmX5⟩
theorem cf_X6 : CF RX6 TX6 4 := ⟨in_X6, ⟨tyX6, tyX6_ok⟩, nmX6⟩
theorem cf_X7 : CF RX7 TX7 2 := ⟨in_X7, ⟨tyX7, tyX7_ok⟩, nmX7⟩
theorem cf_X8 : CF RX8 TX8 8 := ⟨in_X8, ⟨tyX8, tyX8_ok⟩, nmX8⟩
theorem cf_X9 : CF RX9 TX9 3 := ⟨in_X9, ⟨tyX9, tyX9_ok⟩, nmX9⟩
theorem cf_J1 : CF RJ1 TJ1 3 := ⟨in_J1, ⟨tyJ1, tyJ1_ok⟩, nmJ1⟩
theorem cf_J3 : CF RJ3 TJ3 3 := ⟨in_J3, ⟨tyJ3, tyJ3_ok⟩, nmJ3⟩
theorem cf_J5 : CF RJ5 TJ5 8 := ⟨in_J5, ⟨tyJ5, tyJ5_ok⟩, nmJ5⟩
theorem cf_J24 : CF RJ24 TJ24 4 := ⟨in_J24, ⟨tyJ24, tyJ24_ok⟩, nmJ24⟩
theorem cf_J6 : CF RJ6 TJ6 4 := ⟨in_J6, ⟨tyJ6, tyJ6_ok⟩, nmJ6⟩
theorem cf_J15 : CF RJ15 TJ15 4 := ⟨in_J15, ⟨tyJ15, tyJ15_ok⟩, nmJ15⟩
theorem cf_J20 : CF RJ20 TJ20 1 := ⟨in_J20, ⟨tyJ20, tyJ20_ok⟩, nmJ20⟩
abbrev MX0_load (fr lo mc ms : Nat) : MT := (yX0_load, cX0_load, 4, (some .int), fr, lo, mc, ms)
abbrev MX0_library (fr lo mc ms : Nat) : MT := (yX0_library, cX0_library, 5, (some .int), fr, lo, mc, ms)
abbrev MX0_offer (fr lo mc ms : Nat) : MT := (yX0_offer, cX0_offer, 5, (some .int), fr, lo, mc, ms)
abbrev MX0_candidates (fr lo mc ms : Nat) : MT := (yX0_candidates, cX0_candidates, 4, (some .int), fr, lo, mc, ms)
abbrev MX0_vote (fr lo mc ms : Nat) : MT := (yX0_vote, cX0_vote, 5, (some .int), fr, lo, mc, ms)
abbrev MX0_support (fr lo mc ms : Nat) : MT := (yX0_support, cX0_support, 5, (some .int), fr, lo, mc, ms)
abbrev MX0_winner (fr lo mc ms : Nat) : MT := (yX0_winner, cX0_winner, 4, (some .int), fr, lo, mc, ms)
abbrev MX0_margin (fr lo mc ms : Nat) : MT := (yX0_margin, cX0_margin, 4, (some .int), fr, lo, mc, ms)
abbrev MX0_binding (fr lo mc ms : Nat) : MT := (yX0_binding, cX0_binding, 5, (some .int), fr, lo, mc, ms)
abbrev MX0_minority (fr lo mc ms : Nat) : MT := (yX0_minority, cX0_minority, 4, (some .int), fr, lo, mc, ms)
abbrev MX0_call (fr lo mc ms : Nat) : MT := (yX0_call, cX0_call, 5, (some .int), fr, lo, mc, ms)
abbrev MX0_steps (fr lo mc ms : Nat) : MT := (yX0_steps, cX0_steps, 5, (some .int), fr, lo, mc, ms)
abbrev MX0_users (fr lo mc ms : Nat) : MT := (yX0_users, cX0_users, 5, (some .int), fr, lo, mc, ms)
abbrev MX0_unload (fr lo mc ms : Nat) : MT := (yX0_unload, cX0_unload, 4, (some .int), fr, lo, mc, ms)
abbrev MX0_reload (fr lo mc ms : Nat) : MT := (yX0_reload, cX0_reload, 4, (some .int), fr, lo, mc, ms)
abbrev MX0_offerValue (fr lo mc ms : Nat) : MT := (yX0_offerValue, cX0_offerValue, 6, (some .int), fr, lo, mc, ms)
abbrev MX0_offerForward (fr lo mc ms : Nat) : MT := (yX0_offerForward, cX0_offerForward, 6, (some .int), fr, lo, mc, ms)
abbrev MX0_withdraw (fr lo mc ms : Nat) : MT := (yX0_withdraw, cX0_withdraw, 5, (some .int), fr, lo, mc, ms)
abbrev MX0_setTrust (fr lo mc ms : Nat) : MT := (yX0_setTrust, cX0_setTrust, 5, (some .int), fr, lo, mc, ms)
abbrev MX0_setKeeps (fr lo mc ms : Nat) : MT := (yX0_setKeeps, cX0_setKeeps, 5, (some .int), fr, lo, mc, ms)
abbrev MX0_setShare (fr lo mc ms : Nat) : MT := (yX0_setShare, cX0_setShare, 4, (some .int), fr, lo, mc, ms)
abbrev MX1_init (fr lo mc ms : Nat) : MT := (yX1_init, cX1_init, 1, none, fr, lo, mc, ms)
abbrev MX1_variable (fr lo mc ms : Nat) : MT := (yX1_variable, cX1_variable, 3, (some (.object "LinkElection$Weight")), fr, lo, mc, ms)
abbrev MX1_lambda_variable_1 (fr lo mc ms : Nat) : MT := (yX1_lambda_variable_1, cX1_lambda_variable_1, 4, (some .long), fr, lo, mc, ms)
abbrev MX1_lambda_variable_2 (fr lo mc ms : Nat) : MT := (yX1_lambda_variable_2, cX1_lambda_variable_2, 4, (some .long), fr, lo, mc, ms)
abbrev MX1_lambda_variable_3 (fr lo mc ms : Nat) : MT := (yX1_lambda_variable_3, cX1_lambda_variable_3, 4, (some .long), fr, lo, mc, ms)
abbrev MX1_lambda_variable_4 (fr lo mc ms : Nat) : MT := (yX1_lambda_variable_4, cX1_lambda_variable_4, 4, (some .long), fr, lo, mc, ms)
abbrev MX1_append (fr lo mc ms : Nat) : MT := (yX1_append, cX1_append, 6, (some .int), fr, lo, mc, ms)
abbrev MX1_put (fr lo mc ms : Nat) : MT := (yX1_put, cX1_put, 3, none, fr, lo, mc, ms)
abbrev MX1_errorOffset (fr lo mc ms : Nat) : MT := (yX1_errorOffset, cX1_errorOffset, 1, (some .int), fr, lo, mc, ms)
abbrev MX1_libraries (fr lo mc ms : Nat) : MT := (yX1_libraries, cX1_libraries, 1, (some .int), fr, lo, mc, ms)
abbrev MX1_names (fr lo mc ms : Nat) : MT := (yX1_names, cX1_names, 1, (some .int), fr, lo, mc, ms)
abbrev MX1_share (fr lo mc ms : Nat) : MT := (yX1_share, cX1_share, 1, (some .int), fr, lo, mc, ms)
abbrev MX1_undo (fr lo mc ms : Nat) : MT := (yX1_undo, cX1_undo, 1, (some .int), fr, lo, mc, ms)
abbrev MX1_checksum (fr lo mc ms : Nat) : MT := (yX1_checksum, cX1_checksum, 7, (some .long), fr, lo, mc, ms)
abbrev MX1_election (fr lo mc ms : Nat) : MT := (yX1_election, cX1_election, 1, (some (.object "LinkElection$Election")), fr, lo, mc, ms)
abbrev MX1_hash (fr lo mc ms : Nat) : MT := (yX1_hash, cX1_hash, 4, (some .long), fr, lo, mc, ms)
abbrev MX1_load (fr lo mc ms : Nat) : MT := (yX1_load, cX1_load, 3, (some .int), fr, lo, mc, ms)
abbrev MX1_isBetween (fr lo mc ms : Nat) : MT := (yX1_isBetween, cX1_isBetween, 6, (some .boolean), fr, lo, mc, ms)
abbrev MX1_requireArgument (fr lo mc ms : Nat) : MT := (yX1_requireArgument, cX1_requireArgument, 1, none, fr, lo, mc, ms)
abbrev MX1_operation (fr lo mc ms : Nat) : MT := (yX1_operation, cX1_operation, 3, (some (.object "LinkElection$Weight")), fr, lo, mc, ms)
abbrev MX1_lambda_operation_0 (fr lo mc ms : Nat) : MT := (yX1_lambda_operation_0, cX1_lambda_operation_0, 13, (some .long), fr, lo, mc, ms)
abbrev MX1_replace (fr lo mc ms : Nat) : MT := (yX1_replace, cX1_replace, 2, none, fr, lo, mc, ms)
abbrev MX1_library (fr lo mc ms : Nat) : MT := (yX1_library, cX1_library, 4, (some .int), fr, lo, mc, ms)
abbrev MX1_libraryAt (fr lo mc ms : Nat) : MT := (yX1_libraryAt, cX1_libraryAt, 2, (some (.object "LinkElection$Library")), fr, lo, mc, ms)
abbrev MX1_requireIndex (fr lo mc ms : Nat) : MT := (yX1_requireIndex, cX1_requireIndex, 2, none, fr, lo, mc, ms)
abbrev MX1_offer (fr lo mc ms : Nat) : MT := (yX1_offer, cX1_offer, 3, (some .int), fr, lo, mc, ms)
abbrev MX1_requireBoth (fr lo mc ms : Nat) : MT := (yX1_requireBoth, cX1_requireBoth, 3, none, fr, lo, mc, ms)
abbrev MX1_requireName (fr lo mc ms : Nat) : MT := (yX1_requireName, cX1_requireName, 2, none, fr, lo, mc, ms)
abbrev MX1_candidates (fr lo mc ms : Nat) : MT := (yX1_candidates, cX1_candidates, 2, (some .int), fr, lo, mc, ms)
abbrev MX1_vote (fr lo mc ms : Nat) : MT := (yX1_vote, cX1_vote, 3, (some .int), fr, lo, mc, ms)
abbrev MX1_support (fr lo mc ms : Nat) : MT := (yX1_support, cX1_support, 4, (some .int), fr, lo, mc, ms)
abbrev MX1_winner (fr lo mc ms : Nat) : MT := (yX1_winner, cX1_winner, 2, (some .int), fr, lo, mc, ms)
abbrev MX1_margin (fr lo mc ms : Nat) : MT := (yX1_margin, cX1_margin, 2, (some .int), fr, lo, mc, ms)
abbrev MX1_binding (fr lo mc ms : Nat) : MT := (yX1_binding, cX1_binding, 3, (some .int), fr, lo, mc, ms)
abbrev MX1_minority (fr lo mc ms : Nat) : MT := (yX1_minority, cX1_minority, 3, (some .int), fr, lo, mc, ms)
abbrev MX1_call (fr lo mc ms : Nat) : MT := (yX1_call, cX1_call, 3, (some .int), fr, lo, mc, ms)
abbrev MX1_steps (fr lo mc ms : Nat) : MT := (yX1_steps, cX1_steps, 3, (some .int), fr, lo, mc, ms)
abbrev MX1_users (fr lo mc ms : Nat) : MT := (yX1_users, cX1_users, 3, (some .int), fr, lo, mc, ms)
abbrev MX1_unload (fr lo mc ms : Nat) : MT := (yX1_unload, cX1_unload, 4, (some .int), fr, lo, mc, ms)
abbrev MX1_requireState (fr lo mc ms : Nat) : MT := (yX1_requireState, cX1_requireState, 1, none, fr, lo, mc, ms)
abbrev MX1_change (fr lo mc ms : Nat) : MT := (yX1_change, cX1_change, 1, (some (.object "LinkElection$House")), fr, lo, mc, ms)
abbrev MX1_reload (fr lo mc ms : Nat) : MT := (yX1_reload, cX1_reload, 4, (some .int), fr, lo, mc, ms)
abbrev MX1_offerValue (fr lo mc ms : Nat) : MT := (yX1_offerValue, cX1_offerValue, 4, (some .int), fr, lo, mc, ms)
abbrev MX1_offers (fr lo mc ms : Nat) : MT := (yX1_offers, cX1_offers, 4, (some .int), fr, lo, mc, ms)
abbrev MX1_offerForward (fr lo mc ms : Nat) : MT := (yX1_offerForward, cX1_offerForward, 4, (some .int), fr, lo, mc, ms)
abbrev MX1_withdraw (fr lo mc ms : Nat) : MT := (yX1_withdraw, cX1_withdraw, 3, (some .int), fr, lo, mc, ms)
abbrev MX1_setTrust (fr lo mc ms : Nat) : MT := (yX1_setTrust, cX1_setTrust, 4, (some .int), fr, lo, mc, ms)
abbrev MX1_setKeeps (fr lo mc ms : Nat) : MT := (yX1_setKeeps, cX1_setKeeps, 5, (some .int), fr, lo, mc, ms)
abbrev MX1_setShare (fr lo mc ms : Nat) : MT := (yX1_setShare, cX1_setShare, 3, (some .int), fr, lo, mc, ms)
abbrev MX2_init (fr lo mc ms : Nat) : MT := (yX2_init, cX2_init, 2, none, fr, lo, mc, ms)
abbrev MX2_rank (fr lo mc ms : Nat) : MT := (yX2_rank, cX2_rank, 3, (some .int), fr, lo, mc, ms)
abbrev MX2_offered (fr lo mc ms : Nat) : MT := (yX2_offered, cX2_offered, 4, (some .int), fr, lo, mc, ms)
abbrev MX2_offer (fr lo mc ms : Nat) : MT := (yX2_offer, cX2_offer, 4, (some .int), fr, lo, mc, ms)
abbrev MX2_friends (fr lo mc ms : Nat) : MT := (yX2_friends, cX2_friends, 4, (some .int), fr, lo, mc, ms)
abbrev MX2_prefers (fr lo mc ms : Nat) : MT := (yX2_prefers, cX2_prefers, 5, (some .boolean), fr, lo, mc, ms)
abbrev MX2_reload (fr lo mc ms : Nat) : MT := (yX2_reload, cX2_reload, 2, none, fr, lo, mc, ms)
abbrev MX2_put (fr lo mc ms : Nat) : MT := (yX2_put, cX2_put, 5, none, fr, lo, mc, ms)
abbrev MX2_copy (fr lo mc ms : Nat) : MT := (yX2_copy, cX2_copy, 4, (some (.object "LinkElection$House")), fr, lo, mc, ms)
abbrev MX2_unload (fr lo mc ms : Nat) : MT := (yX2_unload, cX2_unload, 3, none, fr, lo, mc, ms)
abbrev MX3_init (fr lo mc ms : Nat) : MT := (yX3_init, cX3_init, 1, none, fr, lo, mc, ms)
abbrev MX3_thrown (fr lo mc ms : Nat) : MT := (yX3_thrown, cX3_thrown, 1, (some .int), fr, lo, mc, ms)
abbrev MX3_append (fr lo mc ms : Nat) : MT := (yX3_append, cX3_append, 8, (some .int), fr, lo, mc, ms)
abbrev MX3_load (fr lo mc ms : Nat) : MT := (yX3_load, cX3_load, 3, (some .int), fr, lo, mc, ms)
abbrev MX3_in (fr lo mc ms : Nat) : MT := (yX3_in, cX3_in, 3, (some .boolean), fr, lo, mc, ms)
abbrev MX3_fails (fr lo mc ms : Nat) : MT := (yX3_fails, cX3_fails, 3, (some .boolean), fr, lo, mc, ms)
abbrev MX3_takeWord (fr lo mc ms : Nat) : MT := (yX3_takeWord, cX3_takeWord, 3, (some .boolean), fr, lo, mc, ms)
abbrev MX3_isGood (fr lo mc ms : Nat) : MT := (yX3_isGood, cX3_isGood, 1, (some .boolean), fr, lo, mc, ms)
abbrev MX3_next (fr lo mc ms : Nat) : MT := (yX3_next, cX3_next, 1, (some .int), fr, lo, mc, ms)
abbrev MX3_byteAt (fr lo mc ms : Nat) : MT := (yX3_byteAt, cX3_byteAt, 2, (some .int), fr, lo, mc, ms)
abbrev MX3_report (fr lo mc ms : Nat) : MT := (yX3_report, cX3_report, 3, none, fr, lo, mc, ms)
abbrev MX3_expect (fr lo mc ms : Nat) : MT := (yX3_expect, cX3_expect, 2, none, fr, lo, mc, ms)
abbrev MX3_statement (fr lo mc ms : Nat) : MT := (yX3_statement, cX3_statement, 2, none, fr, lo, mc, ms)
abbrev MX3_readName (fr lo mc ms : Nat) : MT := (yX3_readName, cX3_readName, 4, none, fr, lo, mc, ms)
abbrev MX3_readWord (fr lo mc ms : Nat) : MT := (yX3_readWord, cX3_readWord, 3, (some .long), fr, lo, mc, ms)
abbrev MX3_isFresh (fr lo mc ms : Nat) : MT := (yX3_isFresh, cX3_isFresh, 5, (some .boolean), fr, lo, mc, ms)
abbrev MX3_placeOf (fr lo mc ms : Nat) : MT := (yX3_placeOf, cX3_placeOf, 5, (some .int), fr, lo, mc, ms)
abbrev MX3_readLibrary (fr lo mc ms : Nat) : MT := (yX3_readLibrary, cX3_readLibrary, 7, none, fr, lo, mc, ms)
abbrev MX3_at (fr lo mc ms : Nat) : MT := (yX3_at, cX3_at, 1, (some .int), fr, lo, mc, ms)
abbrev MX3_number (fr lo mc ms : Nat) : MT := (yX3_number, cX3_number, 4, (some .int), fr, lo, mc, ms)
abbrev MX3_isDigit (fr lo mc ms : Nat) : MT := (yX3_isDigit, cX3_isDigit, 1, (some .boolean), fr, lo, mc, ms)
abbrev MX3_min (fr lo mc ms : Nat) : MT := (yX3_min, cX3_min, 2, (some .int), fr, lo, mc, ms)
abbrev MX3_readOffer (fr lo mc ms : Nat) : MT := (yX3_readOffer, cX3_readOffer, 4, none, fr, lo, mc, ms)
abbrev MX3_readKnown (fr lo mc ms : Nat) : MT := (yX3_readKnown, cX3_readKnown, 4, (some .int), fr, lo, mc, ms)
abbrev MX3_readPreference (fr lo mc ms : Nat) : MT := (yX3_readPreference, cX3_readPreference, 3, none, fr, lo, mc, ms)
abbrev MX3_prefers (fr lo mc ms : Nat) : MT := (yX3_prefers, cX3_prefers, 5, (some .boolean), fr, lo, mc, ms)
abbrev MX3_once (fr lo mc ms : Nat) : MT := (yX3_once, cX3_once, 3, none, fr, lo, mc, ms)
abbrev MX3_sum (fr lo mc ms : Nat) : MT := (yX3_sum, cX3_sum, 2, none, fr, lo, mc, ms)
abbrev MX3_term (fr lo mc ms : Nat) : MT := (yX3_term, cX3_term, 2, none, fr, lo, mc, ms)
abbrev MX3_factor (fr lo mc ms : Nat) : MT := (yX3_factor, cX3_factor, 4, none, fr, lo, mc, ms)
abbrev MX3_emit (fr lo mc ms : Nat) : MT := (yX3_emit, cX3_emit, 2, none, fr, lo, mc, ms)
abbrev MX3_remember (fr lo mc ms : Nat) : MT := (yX3_remember, cX3_remember, 2, none, fr, lo, mc, ms)
abbrev MX3_copy (fr lo mc ms : Nat) : MT := (yX3_copy, cX3_copy, 3, none, fr, lo, mc, ms)
abbrev MX3_errorOffset (fr lo mc ms : Nat) : MT := (yX3_errorOffset, cX3_errorOffset, 1, (some .int), fr, lo, mc, ms)
abbrev MX3_libraries (fr lo mc ms : Nat) : MT := (yX3_libraries, cX3_libraries, 1, (some .int), fr, lo, mc, ms)
abbrev MX3_names (fr lo mc ms : Nat) : MT := (yX3_names, cX3_names, 1, (some .int), fr, lo, mc, ms)
abbrev MX3_share (fr lo mc ms : Nat) : MT := (yX3_share, cX3_share, 1, (some .int), fr, lo, mc, ms)
abbrev MX3_library (fr lo mc ms : Nat) : MT := (yX3_library, cX3_library, 3, (some .int), fr, lo, mc, ms)
abbrev MX3_noLibrary (fr lo mc ms : Nat) : MT := (yX3_noLibrary, cX3_noLibrary, 2, (some .boolean), fr, lo, mc, ms)
abbrev MX3_told (fr lo mc ms : Nat) : MT := (yX3_told, cX3_told, 3, (some .int), fr, lo, mc, ms)
abbrev MX3_rankOf (fr lo mc ms : Nat) : MT := (yX3_rankOf, cX3_rankOf, 4, (some .int), fr, lo, mc, ms)
abbrev MX3_isLoaded (fr lo mc ms : Nat) : MT := (yX3_isLoaded, cX3_isLoaded, 2, (some .boolean), fr, lo, mc, ms)
abbrev MX3_offersOf (fr lo mc ms : Nat) : MT := (yX3_offersOf, cX3_offersOf, 4, (some .int), fr, lo, mc, ms)
abbrev MX3_weightOf (fr lo mc ms : Nat) : MT := (yX3_weightOf, cX3_weightOf, 6, (some .int), fr, lo, mc, ms)
abbrev MX3_friendsOf (fr lo mc ms : Nat) : MT := (yX3_friendsOf, cX3_friendsOf, 4, (some .int), fr, lo, mc, ms)
abbrev MX3_operate (fr lo mc ms : Nat) : MT := (yX3_operate, cX3_operate, 5, (some .long), fr, lo, mc, ms)
abbrev MX3_limited (fr lo mc ms : Nat) : MT := (yX3_limited, cX3_limited, 2, (some .long), fr, lo, mc, ms)
abbrev MX3_offer (fr lo mc ms : Nat) : MT := (yX3_offer, cX3_offer, 3, (some .int), fr, lo, mc, ms)
abbrev MX3_noName (fr lo mc ms : Nat) : MT := (yX3_noName, cX3_noName, 2, (some .boolean), fr, lo, mc, ms)
abbrev MX3_candidates (fr lo mc ms : Nat) : MT := (yX3_candidates, cX3_candidates, 4, (some .int), fr, lo, mc, ms)
abbrev MX3_isCandidate (fr lo mc ms : Nat) : MT := (yX3_isCandidate, cX3_isCandidate, 3, (some .boolean), fr, lo, mc, ms)
abbrev MX3_vote (fr lo mc ms : Nat) : MT := (yX3_vote, cX3_vote, 3, (some .int), fr, lo, mc, ms)
abbrev MX3_voteOf (fr lo mc ms : Nat) : MT := (yX3_voteOf, cX3_voteOf, 5, (some .int), fr, lo, mc, ms)
abbrev MX3_support (fr lo mc ms : Nat) : MT := (yX3_support, cX3_support, 3, (some .int), fr, lo, mc, ms)
abbrev MX3_isMissing (fr lo mc ms : Nat) : MT := (yX3_isMissing, cX3_isMissing, 3, (some .boolean), fr, lo, mc, ms)
abbrev MX3_layAll (fr lo mc ms : Nat) : MT := (yX3_layAll, cX3_layAll, 2, none, fr, lo, mc, ms)
abbrev MX3_layName (fr lo mc ms : Nat) : MT := (yX3_layName, cX3_layName, 7, none, fr, lo, mc, ms)
abbrev MX3_winner (fr lo mc ms : Nat) : MT := (yX3_winner, cX3_winner, 2, (some .int), fr, lo, mc, ms)
abbrev MX3_margin (fr lo mc ms : Nat) : MT := (yX3_margin, cX3_margin, 5, (some .int), fr, lo, mc, ms)
abbrev MX3_binding (fr lo mc ms : Nat) : MT := (yX3_binding, cX3_binding, 3, (some .int), fr, lo, mc, ms)
abbrev MX3_minority (fr lo mc ms : Nat) : MT := (yX3_minority, cX3_minority, 4, (some .int), fr, lo, mc, ms)
abbrev MX3_call (fr lo mc ms : Nat) : MT := (yX3_call, cX3_call, 3, (some .int), fr, lo, mc, ms)
abbrev MX3_follow (fr lo mc ms : Nat) : MT := (yX3_follow, cX3_follow, 7, (some .int), fr, lo, mc, ms)
abbrev MX3_steps (fr lo mc ms : Nat) : MT := (yX3_steps, cX3_steps, 4, (some .int), fr, lo, mc, ms)
abbrev MX3_users (fr lo mc ms : Nat) : MT := (yX3_users, cX3_users, 5, (some .int), fr, lo, mc, ms)
abbrev MX3_unload (fr lo mc ms : Nat) : MT := (yX3_unload, cX3_unload, 2, (some .int), fr, lo, mc, ms)
abbrev MX3_keepBindings (fr lo mc ms : Nat) : MT := (yX3_keepBindings, cX3_keepBindings, 3, none, fr, lo, mc, ms)
abbrev MX3_changedBut (fr lo mc ms : Nat) : MT := (yX3_changedBut, cX3_changedBut, 5, (some .int), fr, lo, mc, ms)
abbrev MX3_reload (fr lo mc ms : Nat) : MT := (yX3_reload, cX3_reload, 2, (some .int), fr, lo, mc, ms)
abbrev MX3_offerValue (fr lo mc ms : Nat) : MT := (yX3_offerValue, cX3_offerValue, 4, (some .int), fr, lo, mc, ms)
abbrev MX3_put (fr lo mc ms : Nat) : MT := (yX3_put, cX3_put, 4, (some .int), fr, lo, mc, ms)
abbrev MX3_offerForward (fr lo mc ms : Nat) : MT := (yX3_offerForward, cX3_offerForward, 4, (some .int), fr, lo, mc, ms)
abbrev MX3_withdraw (fr lo mc ms : Nat) : MT := (yX3_withdraw, cX3_withdraw, 3, (some .int), fr, lo, mc, ms)
abbrev MX3_setTrust (fr lo mc ms : Nat) : MT := (yX3_setTrust, cX3_setTrust, 4, (some .int), fr, lo, mc, ms)
abbrev MX3_setKeeps (fr lo mc ms : Nat) : MT := (yX3_setKeeps, cX3_setKeeps, 3, (some .int), fr, lo, mc, ms)
abbrev MX3_setShare (fr lo mc ms : Nat) : MT := (yX3_setShare, cX3_setShare, 2, (some .int), fr, lo, mc, ms)
abbrev MX3_undo (fr lo mc ms : Nat) : MT := (yX3_undo, cX3_undo, 1, (some .int), fr, lo, mc, ms)
abbrev MX3_checksum (fr lo mc ms : Nat) : MT := (yX3_checksum, cX3_checksum, 5, (some .long), fr, lo, mc, ms)
abbrev MX4_init (fr lo mc ms : Nat) : MT := (yX4_init, cX4_init, 3, none, fr, lo, mc, ms)
abbrev MX4_parse (fr lo mc ms : Nat) : MT := (yX4_parse, cX4_parse, 2, (some (.object "LinkElection$House")), fr, lo, mc, ms)
abbrev MX4_word (fr lo mc ms : Nat) : MT := (yX4_word, cX4_word, 3, (some (.object "java/lang/String")), fr, lo, mc, ms)
abbrev MX4_peek (fr lo mc ms : Nat) : MT := (yX4_peek, cX4_peek, 1, (some .int), fr, lo, mc, ms)
abbrev MX4_isLetterAt (fr lo mc ms : Nat) : MT := (yX4_isLetterAt, cX4_isLetterAt, 2, (some .boolean), fr, lo, mc, ms)
abbrev MX4_require (fr lo mc ms : Nat) : MT := (yX4_require, cX4_require, 4, none, fr, lo, mc, ms)
abbrev MX4_expect (fr lo mc ms : Nat) : MT := (yX4_expect, cX4_expect, 3, none, fr, lo, mc, ms)
abbrev MX4_statement (fr lo mc ms : Nat) : MT := (yX4_statement, cX4_statement, 5, none, fr, lo, mc, ms)
abbrev MX4_name (fr lo mc ms : Nat) : MT := (yX4_name, cX4_name, 3, none, fr, lo, mc, ms)
abbrev MX4_toldWord (fr lo mc ms : Nat) : MT := (yX4_toldWord, cX4_toldWord, 2, (some (.object "java/lang/String")), fr, lo, mc, ms)
abbrev MX4_nameOf (fr lo mc ms : Nat) : MT := (yX4_nameOf, cX4_nameOf, 3, (some .int), fr, lo, mc, ms)
abbrev MX4_library (fr lo mc ms : Nat) : MT := (yX4_library, cX4_library, 4, none, fr, lo, mc, ms)
abbrev MX4_libraryOf (fr lo mc ms : Nat) : MT := (yX4_libraryOf, cX4_libraryOf, 3, (some .int), fr, lo, mc, ms)
abbrev MX4_number (fr lo mc ms : Nat) : MT := (yX4_number, cX4_number, 5, (some .int), fr, lo, mc, ms)
abbrev MX4_isDigit (fr lo mc ms : Nat) : MT := (yX4_isDigit, cX4_isDigit, 1, (some .boolean), fr, lo, mc, ms)
abbrev MX4_accept (fr lo mc ms : Nat) : MT := (yX4_accept, cX4_accept, 3, (some .boolean), fr, lo, mc, ms)
abbrev MX4_offer (fr lo mc ms : Nat) : MT := (yX4_offer, cX4_offer, 4, none, fr, lo, mc, ms)
abbrev MX4_known (fr lo mc ms : Nat) : MT := (yX4_known, cX4_known, 2, (some .int), fr, lo, mc, ms)
abbrev MX4_prefer (fr lo mc ms : Nat) : MT := (yX4_prefer, cX4_prefer, 3, none, fr, lo, mc, ms)
abbrev MX4_sum (fr lo mc ms : Nat) : MT := (yX4_sum, cX4_sum, 3, (some (.object "LinkElection$Weight")), fr, lo, mc, ms)
abbrev MX4_term (fr lo mc ms : Nat) : MT := (yX4_term, cX4_term, 3, (some (.object "LinkElection$Weight")), fr, lo, mc, ms)
abbrev MX4_factor (fr lo mc ms : Nat) : MT := (yX4_factor, cX4_factor, 3, (some (.object "LinkElection$Weight")), fr, lo, mc, ms)
abbrev MX4_lambda_factor_0 (fr lo mc ms : Nat) : MT := (yX4_lambda_factor_0, cX4_lambda_factor_0, 6, (some .long), fr, lo, mc, ms)
abbrev MX5_init (fr lo mc ms : Nat) : MT := (yX5_init, cX5_init, 3, none, fr, lo, mc, ms)
abbrev MX6_init (fr lo mc ms : Nat) : MT := (yX6_init, cX6_init, 4, none, fr, lo, mc, ms)
abbrev MX6_init_2 (fr lo mc ms : Nat) : MT := (yX6_init_2, cX6_init_2, 2, none, fr, lo, mc, ms)
abbrev MX7_init (fr lo mc ms : Nat) : MT := (yX7_init, cX7_init, 3, none, fr, lo, mc, ms)
abbrev MX7_hashCode (fr lo mc ms : Nat) : MT := (yX7_hashCode, cX7_hashCode, 1, (some .int), fr, lo, mc, ms)
abbrev MX7_equals (fr lo mc ms : Nat) : MT := (yX7_equals, cX7_equals, 2, (some .boolean), fr, lo, mc, ms)
abbrev MX8_init (fr lo mc ms : Nat) : MT := (yX8_init, cX8_init, 6, none, fr, lo, mc, ms)
abbrev MX8_weight (fr lo mc ms : Nat) : MT := (yX8_weight, cX8_weight, 3, (some .int), fr, lo, mc, ms)
abbrev MX8_hold (fr lo mc ms : Nat) : MT := (yX8_hold, cX8_hold, 4, none, fr, lo, mc, ms)
abbrev MX8_choice (fr lo mc ms : Nat) : MT := (yX8_choice, cX8_choice, 6, (some .int), fr, lo, mc, ms)
abbrev MX8_isLoaded (fr lo mc ms : Nat) : MT := (yX8_isLoaded, cX8_isLoaded, 2, (some .boolean), fr, lo, mc, ms)
abbrev MX8_isCandidate (fr lo mc ms : Nat) : MT := (yX8_isCandidate, cX8_isCandidate, 3, (some .boolean), fr, lo, mc, ms)
abbrev MX8_bound (fr lo mc ms : Nat) : MT := (yX8_bound, cX8_bound, 5, (some .int), fr, lo, mc, ms)
abbrev MX8_candidates (fr lo mc ms : Nat) : MT := (yX8_candidates, cX8_candidates, 4, (some .int), fr, lo, mc, ms)
abbrev MX8_margin (fr lo mc ms : Nat) : MT := (yX8_margin, cX8_margin, 4, (some .int), fr, lo, mc, ms)
abbrev MX8_bound_2 (fr lo mc ms : Nat) : MT := (yX8_bound_2, cX8_bound_2, 6, (some .int), fr, lo, mc, ms)
abbrev MX8_moved (fr lo mc ms : Nat) : MT := (yX8_moved, cX8_moved, 6, (some .int), fr, lo, mc, ms)
abbrev MX9_init (fr lo mc ms : Nat) : MT := (yX9_init, cX9_init, 2, none, fr, lo, mc, ms)
abbrev MX9_go (fr lo mc ms : Nat) : MT := (yX9_go, cX9_go, 7, (some (.object "LinkElection$Call")), fr, lo, mc, ms)
abbrev MJ0_init (fr lo mc ms : Nat) : MT := (yJ0_init, cJ0_init, 1, none, fr, lo, mc, ms)
abbrev MJ1_init (fr lo mc ms : Nat) : MT := (yJ1_init, cJ1_init, 1, none, fr, lo, mc, ms)
abbrev MJ1_isEmpty (fr lo mc ms : Nat) : MT := (yJ1_isEmpty, cJ1_isEmpty, 1, (some .boolean), fr, lo, mc, ms)
abbrev MJ1_removeLast (fr lo mc ms : Nat) : MT := (yJ1_removeLast, cJ1_removeLast, 2, (some (.object "java/lang/Object")), fr, lo, mc, ms)
abbrev MJ1_pollLast (fr lo mc ms : Nat) : MT := (yJ1_pollLast, cJ1_pollLast, 4, (some (.object "java/lang/Object")), fr, lo, mc, ms)
abbrev MJ1_dec (fr lo mc ms : Nat) : MT := (yJ1_dec, cJ1_dec, 2, (some .int), fr, lo, mc, ms)
abbrev MJ1_elementAt (fr lo mc ms : Nat) : MT := (yJ1_elementAt, cJ1_elementAt, 2, (some (.object "java/lang/Object")), fr, lo, mc, ms)
abbrev MJ1_size (fr lo mc ms : Nat) : MT := (yJ1_size, cJ1_size, 1, (some .int), fr, lo, mc, ms)
abbrev MJ1_sub (fr lo mc ms : Nat) : MT := (yJ1_sub, cJ1_sub, 3, (some .int), fr, lo, mc, ms)
abbrev MJ1_removeFirst (fr lo mc ms : Nat) : MT := (yJ1_removeFirst, cJ1_removeFirst, 2, (some (.object "java/lang/Object")), fr, lo, mc, ms)
abbrev MJ1_pollFirst (fr lo mc ms : Nat) : MT := (yJ1_pollFirst, cJ1_pollFirst, 4, (some (.object "java/lang/Object")), fr, lo, mc, ms)
abbrev MJ1_inc (fr lo mc ms : Nat) : MT := (yJ1_inc, cJ1_inc, 2, (some .int), fr, lo, mc, ms)
abbrev MJ1_addLast (fr lo mc ms : Nat) : MT := (yJ1_addLast, cJ1_addLast, 3, none, fr, lo, mc, ms)
abbrev MJ1_grow (fr lo mc ms : Nat) : MT := (yJ1_grow, cJ1_grow, 9, none, fr, lo, mc, ms)
abbrev MJ1_newCapacity (fr lo mc ms : Nat) : MT := (yJ1_newCapacity, cJ1_newCapacity, 5, (some .int), fr, lo, mc, ms)
abbrev MJ10_init (fr lo mc ms : Nat) : MT := (yJ10_init, cJ10_init, 1, none, fr, lo, mc, ms)
abbrev MJ10_init_2 (fr lo mc ms : Nat) : MT := (yJ10_init_2, cJ10_init_2, 2, none, fr, lo, mc, ms)
abbrev MJ10_init_3 (fr lo mc ms : Nat) : MT := (yJ10_init_3, cJ10_init_3, 5, none, fr, lo, mc, ms)
abbrev MJ11_init (fr lo mc ms : Nat) : MT := (yJ11_init, cJ11_init, 2, none, fr, lo, mc, ms)
abbrev MJ11_init_2 (fr lo mc ms : Nat) : MT := (yJ11_init_2, cJ11_init_2, 1, none, fr, lo, mc, ms)
abbrev MJ11_init_3 (fr lo mc ms : Nat) : MT := (yJ11_init_3, cJ11_init_3, 5, none, fr, lo, mc, ms)
abbrev MJ12_init (fr lo mc ms : Nat) : MT := (yJ12_init, cJ12_init, 2, none, fr, lo, mc, ms)
abbrev MJ12_init_2 (fr lo mc ms : Nat) : MT := (yJ12_init_2, cJ12_init_2, 1, none, fr, lo, mc, ms)
abbrev MJ13_init (fr lo mc ms : Nat) : MT := (yJ13_init, cJ13_init, 2, none, fr, lo, mc, ms)
abbrev MJ13_init_2 (fr lo mc ms : Nat) : MT := (yJ13_init_2, cJ13_init_2, 1, none, fr, lo, mc, ms)
abbrev MJ14_init (fr lo mc ms : Nat) : MT := (yJ14_init, cJ14_init, 2, none, fr, lo, mc, ms)
abbrev MJ14_append (fr lo mc ms : Nat) : MT := (yJ14_append, cJ14_append, 3, (some (.object "java/lang/AbstractStringBuilder")), fr, lo, mc, ms)
abbrev MJ14_ensureCapacityInternal (fr lo mc ms : Nat) : MT := (yJ14_ensureCapacityInternal, cJ14_ensureCapacityInternal, 3, none, fr, lo, mc, ms)
abbrev MJ14_newCapacity (fr lo mc ms : Nat) : MT := (yJ14_newCapacity, cJ14_newCapacity, 6, (some .int), fr, lo, mc, ms)
abbrev MJ14_isLatin1 (fr lo mc ms : Nat) : MT := (yJ14_isLatin1, cJ14_isLatin1, 1, (some .boolean), fr, lo, mc, ms)
abbrev MJ14_append_2 (fr lo mc ms : Nat) : MT := (yJ14_append_2, cJ14_append_2, 4, (some (.object "java/lang/AbstractStringBuilder")), fr, lo, mc, ms)
abbrev MJ14_getValue (fr lo mc ms : Nat) : MT := (yJ14_getValue, cJ14_getValue, 1, (some (.array .byte)), fr, lo, mc, ms)
abbrev MJ14_length (fr lo mc ms : Nat) : MT := (yJ14_length, cJ14_length, 1, (some .int), fr, lo, mc, ms)
abbrev MJ14_append_3 (fr lo mc ms : Nat) : MT := (yJ14_append_3, cJ14_append_3, 2, (some (.object "java/lang/AbstractStringBuilder")), fr, lo, mc, ms)
abbrev MJ15_init (fr lo mc ms : Nat) : MT := (yJ15_init, cJ15_init, 1, none, fr, lo, mc, ms)
abbrev MJ15_append (fr lo mc ms : Nat) : MT := (yJ15_append, cJ15_append, 2, (some (.object "java/lang/StringBuilder")), fr, lo, mc, ms)
abbrev MJ15_append_2 (fr lo mc ms : Nat) : MT := (yJ15_append_2, cJ15_append_2, 2, (some (.object "java/lang/StringBuilder")), fr, lo, mc, ms)
abbrev MJ15_toString (fr lo mc ms : Nat) : MT := (yJ15_toString, cJ15_toString, 1, (some (.object "java/lang/String")), fr, lo, mc, ms)
abbrev MJ15_length (fr lo mc ms : Nat) : MT := (yJ15_length, cJ15_length, 1, (some .int), fr, lo, mc, ms)
abbrev MJ15_append_3 (fr lo mc ms : Nat) : MT := (yJ15_append_3, cJ15_append_3, 2, (some (.object "java/lang/StringBuilder")), fr, lo, mc, ms)
abbrev MJ16_max (fr lo mc ms : Nat) : MT := (yJ16_max, cJ16_max, 2, (some .int), fr, lo, mc, ms)
abbrev MJ16_min (fr lo mc ms : Nat) : MT := (yJ16_min, cJ16_min, 2, (some .int), fr, lo, mc, ms)
abbrev MJ16_min_2 (fr lo mc ms : Nat) : MT := (yJ16_min_2, cJ16_min_2, 4, (some .long), fr, lo, mc, ms)
abbrev MJ16_max_2 (fr lo mc ms : Nat) : MT := (yJ16_max_2, cJ16_max_2, 4, (some .long), fr, lo, mc, ms)
abbrev MJ17_copyOf (fr lo mc ms : Nat) : MT := (yJ17_copyOf, cJ17_copyOf, 3, (some (.array .byte)), fr, lo, mc, ms)
abbrev MJ17_copyOfRange (fr lo mc ms : Nat) : MT := (yJ17_copyOfRange, cJ17_copyOfRange, 3, (some (.array .byte)), fr, lo, mc, ms)
abbrev MJ17_copyOfRangeByte (fr lo mc ms : Nat) : MT := (yJ17_copyOfRangeByte, cJ17_copyOfRangeByte, 5, (some (.array .byte)), fr, lo, mc, ms)
abbrev MJ17_checkLength (fr lo mc ms : Nat) : MT := (yJ17_checkLength, cJ17_checkLength, 2, none, fr, lo, mc, ms)
abbrev MJ17_copyOf_2 (fr lo mc ms : Nat) : MT := (yJ17_copyOf_2, cJ17_copyOf_2, 2, (some (.array (.object "java/lang/Object"))), fr, lo, mc, ms)
abbrev MJ17_copyOf_3 (fr lo mc ms : Nat) : MT := (yJ17_copyOf_3, cJ17_copyOf_3, 4, (some (.array (.object "java/lang/Object"))), fr, lo, mc, ms)
abbrev MJ18_checkIndex (fr lo mc ms : Nat) : MT := (yJ18_checkIndex, cJ18_checkIndex, 3, (some .int), fr, lo, mc, ms)
abbrev MJ19_init (fr lo mc ms : Nat) : MT := (yJ19_init, cJ19_init, 1, none, fr, lo, mc, ms)
abbrev MJ2_init (fr lo mc ms : Nat) : MT := (yJ2_init, cJ2_init, 1, none, fr, lo, mc, ms)
abbrev MJ20_intValue (fr lo mc ms : Nat) : MT := (yJ20_intValue, cJ20_intValue, 1, (some .int), fr, lo, mc, ms)
abbrev MJ20_valueOf (fr lo mc ms : Nat) : MT := (yJ20_valueOf, cJ20_valueOf, 1, (some (.object "java/lang/Integer")), fr, lo, mc, ms)
abbrev MJ20_init (fr lo mc ms : Nat) : MT := (yJ20_init, cJ20_init, 2, none, fr, lo, mc, ms)
abbrev MJ21_checkIndex (fr lo mc ms : Nat) : MT := (yJ21_checkIndex, cJ21_checkIndex, 2, (some .int), fr, lo, mc, ms)
abbrev MJ24_init (fr lo mc ms : Nat) : MT := (yJ24_init, cJ24_init, 5, none, fr, lo, mc, ms)
abbrev MJ27_init (fr lo mc ms : Nat) : MT := (yJ27_init, cJ27_init, 2, none, fr, lo, mc, ms)
abbrev MJ27_init_2 (fr lo mc ms : Nat) : MT := (yJ27_init_2, cJ27_init_2, 1, none, fr, lo, mc, ms)
abbrev MJ28_init (fr lo mc ms : Nat) : MT := (yJ28_init, cJ28_init, 2, none, fr, lo, mc, ms)
abbrev MJ28_init_2 (fr lo mc ms : Nat) : MT := (yJ28_init_2, cJ28_init_2, 1, none, fr, lo, mc, ms)
abbrev MJ3_init (fr lo mc ms : Nat) : MT := (yJ3_init, cJ3_init, 1, none, fr, lo, mc, ms)
abbrev MJ3_size (fr lo mc ms : Nat) : MT := (yJ3_size, cJ3_size, 1, (some .int), fr, lo, mc, ms)
abbrev MJ3_get (fr lo mc ms : Nat) : MT := (yJ3_get, cJ3_get, 2, (some (.object "java/lang/Object")), fr, lo, mc, ms)
abbrev MJ3_elementData (fr lo mc ms : Nat) : MT := (yJ3_elementData, cJ3_elementData, 2, (some (.object "java/lang/Object")), fr, lo, mc, ms)
abbrev MJ3_add (fr lo mc ms : Nat) : MT := (yJ3_add, cJ3_add, 2, (some .boolean), fr, lo, mc, ms)
abbrev MJ3_add_2 (fr lo mc ms : Nat) : MT := (yJ3_add_2, cJ3_add_2, 4, none, fr, lo, mc, ms)
abbrev MJ3_grow (fr lo mc ms : Nat) : MT := (yJ3_grow, cJ3_grow, 1, (some (.array (.object "java/lang/Object"))), fr, lo, mc, ms)
abbrev MJ3_grow_2 (fr lo mc ms : Nat) : MT := (yJ3_grow_2, cJ3_grow_2, 4, (some (.array (.object "java/lang/Object"))), fr, lo, mc, ms)
abbrev MJ3_remove (fr lo mc ms : Nat) : MT := (yJ3_remove, cJ3_remove, 4, (some (.object "java/lang/Object")), fr, lo, mc, ms)
abbrev MJ3_fastRemove (fr lo mc ms : Nat) : MT := (yJ3_fastRemove, cJ3_fastRemove, 4, none, fr, lo, mc, ms)
abbrev MJ30_init (fr lo mc ms : Nat) : MT := (yJ30_init, cJ30_init, 1, none, fr, lo, mc, ms)
abbrev MJ30_equals (fr lo mc ms : Nat) : MT := (yJ30_equals, cJ30_equals, 2, (some .boolean), fr, lo, mc, ms)
abbrev MJ4_init (fr lo mc ms : Nat) : MT := (yJ4_init, cJ4_init, 1, none, fr, lo, mc, ms)
abbrev MJ5_init (fr lo mc ms : Nat) : MT := (yJ5_init, cJ5_init, 1, none, fr, lo, mc, ms)
abbrev MJ5_get (fr lo mc ms : Nat) : MT := (yJ5_get, cJ5_get, 3, (some (.object "java/lang/Object")), fr, lo, mc, ms)
abbrev MJ5_getNode (fr lo mc ms : Nat) : MT := (yJ5_getNode, cJ5_getNode, 8, (some (.object "java/util/HashMap$Node")), fr, lo, mc, ms)
abbrev MJ5_hash (fr lo mc ms : Nat) : MT := (yJ5_hash, cJ5_hash, 2, (some .int), fr, lo, mc, ms)
abbrev MJ5_remove (fr lo mc ms : Nat) : MT := (yJ5_remove, cJ5_remove, 3, (some (.object "java/lang/Object")), fr, lo, mc, ms)
abbrev MJ5_removeNode (fr lo mc ms : Nat) : MT := (yJ5_removeNode, cJ5_removeNode, 14, (some (.object "java/util/HashMap$Node")), fr, lo, mc, ms)
abbrev MJ5_afterNodeRemoval (fr lo mc ms : Nat) : MT := (yJ5_afterNodeRemoval, cJ5_afterNodeRemoval, 2, none, fr, lo, mc, ms)
abbrev MJ5_put (fr lo mc ms : Nat) : MT := (yJ5_put, cJ5_put, 3, (some (.object "java/lang/Object")), fr, lo, mc, ms)
abbrev MJ5_putVal (fr lo mc ms : Nat) : MT := (yJ5_putVal, cJ5_putVal, 13, (some (.object "java/lang/Object")), fr, lo, mc, ms)
abbrev MJ5_resize (fr lo mc ms : Nat) : MT := (yJ5_resize, cJ5_resize, 14, (some (.array (.object "java/util/HashMap$Node"))), fr, lo, mc, ms)
abbrev MJ5_newNode (fr lo mc ms : Nat) : MT := (yJ5_newNode, cJ5_newNode, 5, (some (.object "java/util/HashMap$Node")), fr, lo, mc, ms)
abbrev MJ5_afterNodeAccess (fr lo mc ms : Nat) : MT := (yJ5_afterNodeAccess, cJ5_afterNodeAccess, 2, none, fr, lo, mc, ms)
abbrev MJ5_afterNodeInsertion (fr lo mc ms : Nat) : MT := (yJ5_afterNodeInsertion, cJ5_afterNodeInsertion, 2, none, fr, lo, mc, ms)
abbrev MJ6_hashCode (fr lo mc ms : Nat) : MT := (yJ6_hashCode, cJ6_hashCode, 2, (some .int), fr, lo, mc, ms)
abbrev MJ6_isLatin1 (fr lo mc ms : Nat) : MT := (yJ6_isLatin1, cJ6_isLatin1, 1, (some .boolean), fr, lo, mc, ms)
abbrev MJ6_length (fr lo mc ms : Nat) : MT := (yJ6_length, cJ6_length, 1, (some .int), fr, lo, mc, ms)
abbrev MJ6_coder (fr lo mc ms : Nat) : MT := (yJ6_coder, cJ6_coder, 1, (some .byte), fr, lo, mc, ms)
abbrev MJ6_init (fr lo mc ms : Nat) : MT := (yJ6_init, cJ6_init, 2, none, fr, lo, mc, ms)
abbrev MJ6_init_2 (fr lo mc ms : Nat) : MT := (yJ6_init_2, cJ6_init_2, 5, none, fr, lo, mc, ms)
abbrev MJ6_equals (fr lo mc ms : Nat) : MT := (yJ6_equals, cJ6_equals, 3, (some .boolean), fr, lo, mc, ms)
abbrev MJ6_checkIndex (fr lo mc ms : Nat) : MT := (yJ6_checkIndex, cJ6_checkIndex, 2, none, fr, lo, mc, ms)
abbrev MJ6_charAt (fr lo mc ms : Nat) : MT := (yJ6_charAt, cJ6_charAt, 2, (some .char), fr, lo, mc, ms)
abbrev MJ7_hashCode (fr lo mc ms : Nat) : MT := (yJ7_hashCode, cJ7_hashCode, 1, (some .int), fr, lo, mc, ms)
abbrev MJ7_equals (fr lo mc ms : Nat) : MT := (yJ7_equals, cJ7_equals, 3, (some .boolean), fr, lo, mc, ms)
abbrev MJ7_canEncode (fr lo mc ms : Nat) : MT := (yJ7_canEncode, cJ7_canEncode, 1, (some .boolean), fr, lo, mc, ms)
abbrev MJ7_charAt (fr lo mc ms : Nat) : MT := (yJ7_charAt, cJ7_charAt, 2, (some .char), fr, lo, mc, ms)
abbrev MJ8_vectorizedHashCode (fr lo mc ms : Nat) : MT := (yJ8_vectorizedHashCode, cJ8_vectorizedHashCode, 5, (some .int), fr, lo, mc, ms)
abbrev MJ8_signedHashCode (fr lo mc ms : Nat) : MT := (yJ8_signedHashCode, cJ8_signedHashCode, 6, (some .int), fr, lo, mc, ms)
abbrev MJ8_hashCode (fr lo mc ms : Nat) : MT := (yJ8_hashCode, cJ8_hashCode, 6, (some .int), fr, lo, mc, ms)
abbrev MJ8_hashCode_2 (fr lo mc ms : Nat) : MT := (yJ8_hashCode_2, cJ8_hashCode_2, 6, (some .int), fr, lo, mc, ms)
abbrev MJ8_hashCode_3 (fr lo mc ms : Nat) : MT := (yJ8_hashCode_3, cJ8_hashCode_3, 6, (some .int), fr, lo, mc, ms)
abbrev MJ8_hashCode_4 (fr lo mc ms : Nat) : MT := (yJ8_hashCode_4, cJ8_hashCode_4, 6, (some .int), fr, lo, mc, ms)
abbrev MJ8_newLength (fr lo mc ms : Nat) : MT := (yJ8_newLength, cJ8_newLength, 4, (some .int), fr, lo, mc, ms)
abbrev MJ8_hugeLength (fr lo mc ms : Nat) : MT := (yJ8_hugeLength, cJ8_hugeLength, 3, (some .int), fr, lo, mc, ms)
theorem sv_X0_15 : SV RX0 15 yX1_library cX1_library 4 (some .int) 2 := ⟨q1786, q1787, q1788, q80, q1789, ⟨by decide +kernel, by decide +kernel, by decide +kernel⟩⟩
theorem sv_X0_21 : SV RX0 21 yX1_offer cX1_offer 3 (some .int) 2 := ⟨q1816, q1817, q1818, q80, q1819, ⟨by decide +kernel, by decide +kernel, by decide +kernel⟩⟩
theorem sv_X0_24 : SV RX0 24 yX1_candidates cX1_candidates 2 (some .int) 1 := ⟨q1832, q1833, q1834, q80, q1835, ⟨by decide +kernel, by decide +kernel, by decide +kernel⟩⟩
theorem sv_X0_27 : SV RX0 27 yX1_vote cX1_vote 3 (some .int) 2 := ⟨q1843, q1844, q1845, q80, q1846, ⟨by decide +kernel, by decide +kernel, by decide +kernel⟩⟩
theorem sv_X0_30 : SV RX0 30 yX1_support cX1_support 4 (some .int) 2 := ⟨q1850, q1851, q1852, q80, q1853, ⟨by decide +kernel, by decide +kernel, by decide +kernel⟩⟩
theorem sv_X0_33 : SV RX0 33 yX1_winner cX1_winner 2 (some .int) 1 := ⟨q1858, q1859, q1860, q80, q1861, ⟨by decide +kernel, by decide +kernel, by decide +kernel⟩⟩
theorem sv_X0_36 : SV RX0 36 yX1_margin cX1_margin 2 (some .int) 1 := ⟨q1865, q1866, q1867, q80, q1868, ⟨by decide +kernel, by decide +kernel, by decide +kernel⟩⟩
theorem sv_X0_39 : SV RX0 39 yX1_binding cX1_binding 3 (some .int) 2 := ⟨q1877, q1878, q1879, q80, q1880, ⟨by decide +kernel, by decide +kernel, by decide +kernel⟩⟩
theorem sv_X0_42 : SV RX0 42 yX1_minority cX1_minority 3 (some .int) 1 := ⟨q1884, q1885, q1886, q80, q1887, ⟨by decide +kernel, by decide +kernel, by decide +kernel⟩⟩
theorem sv_X0_45 : SV RX0 45 yX1_call cX1_call 3 (some .int) 2 := ⟨q1895, q1896, q1897, q80, q1898, ⟨by decide +kernel, by decide +kernel, by decide +kernel⟩⟩
theorem sv_X0_48 : SV RX0 48 yX1_steps cX1_steps 3 (some .int) 2 := ⟨q1902, q1903, q1904, q80, q1905, ⟨by decide +kernel, by decide +kernel, by decide +kernel⟩⟩
theorem sv_X0_51 : SV RX0 51 yX1_users cX1_users 3 (some .int) 2 := ⟨q1909, q1910, q1911, q80, q1912, ⟨by decide +kernel, by decide +kernel, by decide +kernel⟩⟩
theorem sv_X0_54 : SV RX0 54 yX1_unload cX1_unload 4 (some .int) 1 := ⟨q1917, q1918, q1919, q80, q1920, ⟨by decide +kernel, by decide +kernel, by decide +kernel⟩⟩
theorem sv_X0_59 : SV RX0 59 yX1_reload cX1_reload 4 (some .int) 1 := ⟨q1969, q1970, q1971, q80, q1972, ⟨by decide +kernel, by decide +kernel, by decide +kernel⟩⟩
theorem sv_X0_62 : SV RX0 62 yX1_offerValue cX1_offerValue 4 (some .int) 3 := ⟨q1977, q1978, q1979, q80, q1980, ⟨by decide +kernel, by decide +kernel, by decide +kernel⟩⟩
theorem sv_X0_66 : SV RX0 66 yX1_offerForward cX1_offerForward 4 (some .int) 3 := ⟨q1990, q1991, q1992, q80, q1993, ⟨by decide +kernel, by decide +kernel, by decide +kernel⟩⟩
theorem sv_X0_69 : SV RX0 69 yX1_withdraw cX1_withdraw 3 (some .int) 2 := ⟨q1997, q1998, q1999, q80, q2000, ⟨by decide +kernel, by decide +kernel, by decide +kernel⟩⟩
theorem sv_X0_72 : SV RX0 72 yX1_setTrust cX1_setTrust 4 (some .int) 2 := ⟨q2005, q2006, q2007, q80, q2008, ⟨by decide +kernel, by decide +kernel, by decide +kernel⟩⟩
theorem sv_X0_75 : SV RX0 75 yX1_setKeeps cX1_setKeeps 5 (some .int) 2 := ⟨q2013, q2014, q2015, q80, q2016, ⟨by decide +kernel, by decide +kernel, by decide +kernel⟩⟩
theorem sv_X0_79 : SV RX0 79 yX1_setShare cX1_setShare 3 (some .int) 1 := ⟨q2020, q2021, q2022, q80, q2023, ⟨by decide +kernel, by decide +kernel, by decide +kernel⟩⟩
theorem pf_X1_37 : GF RX1 37 0 0 (.array .byte) true := ⟨RX1, TX1, 5, "LinkElection", rfl, by decide, cf_X1, Or.inl rfl, Or.inl q638, rfl, rfl, fun _ => rfl⟩
theorem nw_X1_41 : NW RX1 41 9 3 [.null, .int 0, .int 0] := ⟨RJ1, TJ1, tyJ1, rfl, in_J1, tyJ1_ok, q130, q131, q82, by decide⟩
theorem si_X1_43 : SI RX1 43 yJ1_init cJ1_init 1 0 := ⟨q132, q133, q82, q134, rfl, ⟨by decide +kernel, by decide +kernel, by decide +kernel⟩⟩
theorem pf_X1_44 : GF RX1 44 0 1 (.object "java/util/ArrayDeque") true := ⟨RX1, TX1, 5, "LinkElection", rfl, by decide, cf_X1, Or.inl rfl, Or.inl q639, rfl, rfl, fun _ => rfl⟩
theorem nw_X1_48 : NW RX1 48 1 6 [.null, .null, .null, .null, .null, .int 0] := ⟨RX2, TX2, tyX2, rfl, in_X2, tyX2_ok, q152, q153, q83, by decide⟩
theorem nw_X1_50 : NW RX1 50 10 3 [.int 0, .null, .int 0] := ⟨RJ3, TJ3, tyJ3, rfl, in_J3, tyJ3_ok, q154, q155, q85, by decide⟩
theorem si_X1_52 : SI RX1 52 yJ3_init cJ3_init 1 0 := ⟨q156, q157, q85, q158, rfl, ⟨by decide +kernel, by decide +kernel, by decide +kernel⟩⟩
theorem si_X1_53 : SI RX1 53 yX2_init cX2_init 2 1 := ⟨q177, q178, q83, q179, rfl, ⟨by decide +kernel, by decide +kernel, by decide +kernel⟩⟩
theorem pf_X1_56 : GF RX1 56 0 2 (.object "LinkElection$House") false := ⟨RX1, TX1, 5, "LinkElection", rfl, by decide, cf_X1, Or.inl rfl, Or.inl q640, rfl, rfl, fun h => by cases h⟩
theorem pf_X1_60 : GF RX1 60 0 4 .int false := ⟨RX1, TX1, 5, "LinkElection", rfl, by decide, cf_X1, Or.inl rfl, Or.inl q642, rfl, rfl, fun h => by cases h⟩
theorem sv_X1_5 : SV RX1 5 yJ6_hashCode cJ6_hashCode 2 (some .int) 0 := ⟨q219, q220, q221, q88, q222, ⟨by decide +kernel, by decide +kernel, by decide +kernel⟩⟩
theorem sv_X1_13 : SV RX1 13 yJ6_equals cJ6_equals 3 (some .boolean) 1 := ⟨q588, q589, q590, q88, q591, ⟨by decide +kernel, by decide +kernel, by decide +kernel⟩⟩
theorem gf_X1_125 : GF0 RX1 125 0 3 := ⟨RX1, TX1, 5, "LinkElection", rfl, by decide, cf_X1, Or.inl rfl, Or.inl q641⟩
theorem sv_X1_128 : SV RX1 128 yX1_put cX1_put 3 none 1 := ⟨q658, q660, qs1, q80, q661, ⟨by decide +kernel, by decide +kernel, by decide +kernel⟩⟩
theorem gf_X1_37 : GF0 RX1 37 0 0 := ⟨RX1, TX1, 5, "LinkElection", rfl, by decide, cf_X1, Or.inl rfl, Or.inl q638⟩
theorem pf_X1_125 : GF RX1 125 0 3 .int false := ⟨RX1, TX1, 5, "LinkElection", rfl, by decide, cf_X1, Or.inl rfl, Or.inl q641, rfl, rfl, fun h => by cases h⟩
theorem gf_X1_60 : GF0 RX1 60 0 4 := ⟨RX1, TX1, 5, "LinkElection", rfl, by decide, cf_X1, Or.inl rfl, Or.inl q642⟩
theorem gf_X1_56 : GF0 RX1 56 0 2 := ⟨RX1, TX1, 5, "LinkElection", rfl, by decide, cf_X1, Or.inl rfl, Or.inl q640⟩
theorem gf_X1_84 : GF0 RX1 84 1 1 := ⟨RX2, TX2, 6, "LinkElection$House", rfl, by decide, cf_X2, Or.inl rfl, Or.inr ⟨_, q612⟩⟩
theorem sf_X1_151 : SF RX1 151 RJ3 ⟨"java/util/List", "size", "()I"⟩ yJ3_size cJ3_size 1 (some .int) 0 := ⟨⟨q671, q675, q677, q85, q679⟩, ⟨q673, q672, q678, q676, q674⟩, by decide +kernel, by decide +kernel, by decide +kernel⟩
theorem gf_X1_152 : GF0 RX1 152 1 0 := ⟨RX2, TX2, 6, "LinkElection$House", rfl, by decide, cf_X2, Or.inl rfl, Or.inr ⟨_, q609⟩⟩
theorem gf_X1_154 : GF0 RX1 154 1 5 := ⟨RX2, TX2, 6, "LinkElection$House", rfl, by decide, cf_X2, Or.inl rfl, Or.inr ⟨_, q622⟩⟩
theorem gf_X1_44 : GF0 RX1 44 0 1 := ⟨RX1, TX1, 5, "LinkElection", rfl, by decide, cf_X1, Or.inl rfl, Or.inl q639⟩
theorem sv_X1_264 : SV RX1 264 yJ1_isEmpty cJ1_isEmpty 1 (some .boolean) 0 := ⟨q692, q693, q694, q82, q695, ⟨by decide +kernel, by decide +kernel, by decide +kernel⟩⟩
theorem sv_X1_268 : SV RX1 268 yJ1_removeLast cJ1_removeLast 2 (some (.object "java/lang/Object")) 0 := ⟨q696, q697, q698, q82, q699, ⟨by decide +kernel, by decide +kernel, by decide +kernel⟩⟩
theorem sv_X1_107 : SV RX1 107 yJ1_size cJ1_size 1 (some .int) 0 := ⟨q710, q711, q712, q82, q713, ⟨by decide +kernel, by decide +kernel, by decide +kernel⟩⟩
theorem sv_X1_178 : SV RX1 178 yX1_election cX1_election 1 (some (.object "LinkElection$Election")) 0 := ⟨q721, q723, qs2, q80, q724, ⟨by decide +kernel, by decide +kernel, by decide +kernel⟩⟩
theorem sv_X1_273 : SV RX1 273 yX1_share cX1_share 1 (some .int) 0 := ⟨q1187, q685, q686, q80, q687, ⟨by decide +kernel, by decide +kernel, by decide +kernel⟩⟩
theorem sv_X1_77 : SV RX1 77 yX1_libraries cX1_libraries 1 (some .int) 0 := ⟨q1188, q667, q668, q80, q669, ⟨by decide +kernel, by decide +kernel, by decide +kernel⟩⟩
theorem sf_X1_87 : SF RX1 87 RJ3 ⟨"java/util/List", "get", "(I)Ljava/lang/Object;"⟩ yJ3_get cJ3_get 2 (some (.object "java/lang/Object")) 1 := ⟨⟨q1190, q749, q751, q85, q753⟩, ⟨q748, q747, q752, q750, q674⟩, by decide +kernel, by decide +kernel, by decide +kernel⟩
theorem gf_X1_163 : GF0 RX1 163 5 2 := ⟨RX6, TX6, 4, "LinkElection$Library", rfl, by decide, cf_X6, Or.inl rfl, Or.inr ⟨_, q1474⟩⟩
theorem ss_X1_275 : SS RX1 275 yX1_hash cX1_hash 4 (some .long) 2 := ⟨q1192, q1193, q80, q1194, ⟨by decide +kernel, by decide +kernel, by decide +kernel⟩⟩
theorem gf_X1_165 : GF0 RX1 165 5 3 := ⟨RX6, TX6, 4, "LinkElection$Library", rfl, by decide, cf_X6, Or.inl rfl, Or.inr ⟨_, q1477⟩⟩
theorem sv_X1_169 : SV RX1 169 yX2_rank cX2_rank 3 (some .int) 1 := ⟨q1196, q740, q741, q83, q742, ⟨by decide +kernel, by decide +kernel, by decide +kernel⟩⟩
theorem sv_X1_172 : SV RX1 172 yX2_offered cX2_offered 4 (some .int) 1 := ⟨q1197, q774, q775, q83, q776, ⟨by decide +kernel, by decide +kernel, by decide +kernel⟩⟩
theorem gf_X1_175 : GF0 RX1 175 5 1 := ⟨RX6, TX6, 4, "LinkElection$Library", rfl, by decide, cf_X6, Or.inl rfl, Or.inr ⟨_, q1471⟩⟩
theorem gf_X1_182 : GF0 RX1 182 7 1 := ⟨RX8, TX8, 8, "LinkElection$Election", rfl, by decide, cf_X8, Or.inl rfl, Or.inr ⟨_, q1155⟩⟩
theorem sv_X1_95 : SV RX1 95 yX1_names cX1_names 1 (some .int) 0 := ⟨q1198, q681, q682, q80, q683, ⟨by decide +kernel, by decide +kernel, by decide +kernel⟩⟩
theorem gf_X1_279 : GF0 RX1 279 7 4 := ⟨RX8, TX8, 8, "LinkElection$Election", rfl, by decide, cf_X8, Or.inl rfl, Or.inr ⟨_, q1162⟩⟩
theorem gf_X1_213 : GF0 RX1 213 7 7 := ⟨RX8, TX8, 8, "LinkElection$Election", rfl, by decide, cf_X8, Or.inl rfl, Or.inr ⟨_, q1169⟩⟩
theorem nw_X1_220 : NW RX1 220 8 3 [.null, .int 0, .int 0] := ⟨RX9, TX9, tyX9, rfl, in_X9, tyX9_ok, q1199, q1200, q121, by decide⟩
theorem si_X1_222 : SI RX1 222 yX9_init cX9_init 2 1 := ⟨q1201, q1202, q121, q1203, rfl, ⟨by decide +kernel, by decide +kernel, by decide +kernel⟩⟩
theorem sv_X1_225 : SV RX1 225 yX9_go cX9_go 7 (some (.object "LinkElection$Call")) 2 := ⟨q1217, q1218, q1219, q121, q1220, ⟨by decide +kernel, by decide +kernel, by decide +kernel⟩⟩
theorem gf_X1_229 : GF0 RX1 229 8 2 := ⟨RX9, TX9, 3, "LinkElection$Call", rfl, by decide, cf_X9, Or.inl rfl, Or.inr ⟨_, q1209⟩⟩
theorem nw_X1_102 : NW RX1 102 7 8 [.null, .null, .null, .null, .null, .null, .null, .null] := ⟨RX8, TX8, tyX8, rfl, in_X8, tyX8_ok, q725, q726, q120, by decide⟩
theorem si_X1_104 : SI RX1 104 yX8_init cX8_init 6 1 := ⟨q727, q728, q120, q729, rfl, ⟨by decide +kernel, by decide +kernel, by decide +kernel⟩⟩
theorem ss_X1_64 : SS RX1 64 yX1_isBetween cX1_isBetween 6 (some .boolean) 3 := ⟨q1234, q1235, q80, q1236, ⟨by decide +kernel, by decide +kernel, by decide +kernel⟩⟩
theorem ss_X1_131 : SS RX1 131 yX1_requireArgument cX1_requireArgument 1 none 1 := ⟨q1237, q1238, q80, q1239, ⟨by decide +kernel, by decide +kernel, by decide +kernel⟩⟩
theorem nw_X1_135 : NW RX1 135 3 9 [.int 0, .null, .null, .int 0, .int 0, .int 0, .int 0, .int 0, .null] := ⟨RX4, TX4, tyX4, rfl, in_X4, tyX4_ok, q1251, q1252, q105, by decide⟩
theorem si_X1_137 : SI RX1 137 yX4_init cX4_init 3 2 := ⟨q1253, q1254, q105, q1255, rfl, ⟨by decide +kernel, by decide +kernel, by decide +kernel⟩⟩
theorem sv_X1_140 : SV RX1 140 yX4_parse cX4_parse 2 (some (.object "LinkElection$House")) 0 := ⟨q1289, q1290, q1291, q105, q1292, ⟨by decide +kernel, by decide +kernel, by decide +kernel⟩⟩
theorem sv_X1_122 : SV RX1 122 yX1_replace cX1_replace 2 none 1 := ⟨q1717, q1719, qs30, q80, q1720, ⟨by decide +kernel, by decide +kernel, by decide +kernel⟩⟩
theorem gf_X1_145 : GF0 RX1 145 4 7 := ⟨RX5, TX5, 8, "LinkElection$SetupException", rfl, by decide, cf_X5, Or.inl rfl, Or.inr ⟨_, q1358⟩⟩
theorem gf_X1_148 : GF0 RX1 148 4 6 := ⟨RX5, TX5, 8, "LinkElection$SetupException", rfl, by decide, cf_X5, Or.inl rfl, Or.inr ⟨_, q1356⟩⟩
theorem si_X1_73 : SI RX1 73 yJ13_init_2 cJ13_init_2 1 0 := ⟨q1241, q1242, q95, q1243, rfl, ⟨by decide +kernel, by decide +kernel, by decide +kernel⟩⟩
theorem ss_X1_290 : SS RX1 290 yJ16_min_2 cJ16_min_2 4 (some .long) 2 := ⟨q1715, q1124, q98, q1125, ⟨by decide +kernel, by decide +kernel, by decide +kernel⟩⟩
theorem ss_X1_295 : SS RX1 295 yJ16_max_2 cJ16_max_2 4 (some .long) 2 := ⟨q1716, q1127, q98, q1128, ⟨by decide +kernel, by decide +kernel, by decide +kernel⟩⟩
theorem sv_X1_110 : SV RX1 110 yJ1_removeFirst cJ1_removeFirst 2 (some (.object "java/lang/Object")) 0 := ⟨q1721, q1722, q1723, q82, q1724, ⟨by decide +kernel, by decide +kernel, by decide +kernel⟩⟩
theorem sv_X1_114 : SV RX1 114 yJ1_addLast cJ1_addLast 3 none 1 := ⟨q1732, q1733, q1734, q82, q1735, ⟨by decide +kernel, by decide +kernel, by decide +kernel⟩⟩
theorem sv_X1_157 : SV RX1 157 yX1_libraryAt cX1_libraryAt 2 (some (.object "LinkElection$Library")) 1 := ⟨q1790, q1792, qs33, q80, q1793, ⟨by decide +kernel, by decide +kernel, by decide +kernel⟩⟩
theorem ss_X1_80 : SS RX1 80 yX1_requireIndex cX1_requireIndex 2 none 2 := ⟨q1794, q1795, q80, q1796, ⟨by decide +kernel, by decide +kernel, by decide +kernel⟩⟩
theorem si_X1_70 : SI RX1 70 yJ28_init_2 cJ28_init_2 1 0 := ⟨q1806, q1807, q118, q1808, rfl, ⟨by decide +kernel, by decide +kernel, by decide +kernel⟩⟩
theorem sv_X1_186 : SV RX1 186 yX1_requireBoth cX1_requireBoth 3 none 2 := ⟨q1820, q1822, qs34, q80, q1823, ⟨by decide +kernel, by decide +kernel, by decide +kernel⟩⟩
theorem sv_X1_189 : SV RX1 189 yX2_offer cX2_offer 4 (some .int) 2 := ⟨q1828, q778, q779, q83, q780, ⟨by decide +kernel, by decide +kernel, by decide +kernel⟩⟩
theorem sv_X1_98 : SV RX1 98 yX1_requireName cX1_requireName 2 none 1 := ⟨q1824, q1826, qs35, q80, q1827, ⟨by decide +kernel, by decide +kernel, by decide +kernel⟩⟩
theorem sv_X1_193 : SV RX1 193 yX8_candidates cX8_candidates 4 (some .int) 1 := ⟨q1836, q1837, q1838, q120, q1839, ⟨by decide +kernel, by decide +kernel, by decide +kernel⟩⟩
theorem gf_X1_196 : GF0 RX1 196 7 5 := ⟨RX8, TX8, 8, "LinkElection$Election", rfl, by decide, cf_X8, Or.inl rfl, Or.inr ⟨_, q1164⟩⟩
theorem sv_X1_200 : SV RX1 200 yX8_isCandidate cX8_isCandidate 3 (some .boolean) 2 := ⟨q1854, q1143, q1144, q120, q1145, ⟨by decide +kernel, by decide +kernel, by decide +kernel⟩⟩
theorem gf_X1_204 : GF0 RX1 204 7 6 := ⟨RX8, TX8, 8, "LinkElection$Election", rfl, by decide, cf_X8, Or.inl rfl, Or.inr ⟨_, q1166⟩⟩
theorem gf_X1_207 : GF0 RX1 207 7 2 := ⟨RX8, TX8, 8, "LinkElection$Election", rfl, by decide, cf_X8, Or.inl rfl, Or.inr ⟨_, q1158⟩⟩
theorem sv_X1_210 : SV RX1 210 yX8_margin cX8_margin 4 (some .int) 1 := ⟨q1869, q1870, q1871, q120, q1872, ⟨by decide +kernel, by decide +kernel, by decide +kernel⟩⟩
theorem sv_X1_216 : SV RX1 216 yX8_bound_2 cX8_bound_2 6 (some .int) 3 := ⟨q1888, q1889, q1890, q120, q1891, ⟨by decide +kernel, by decide +kernel, by decide +kernel⟩⟩
theorem gf_X1_232 : GF0 RX1 232 8 1 := ⟨RX9, TX9, 3, "LinkElection$Call", rfl, by decide, cf_X9, Or.inl rfl, Or.inr ⟨_, q1207⟩⟩
theorem ss_X1_235 : SS RX1 235 yX1_requireState cX1_requireState 1 none 1 := ⟨q1921, q1922, q80, q1923, ⟨by decide +kernel, by decide +kernel, by decide +kernel⟩⟩
theorem sv_X1_238 : SV RX1 238 yX1_change cX1_change 1 (some (.object "LinkElection$House")) 0 := ⟨q1929, q1931, qs36, q80, q1932, ⟨by decide +kernel, by decide +kernel, by decide +kernel⟩⟩
theorem sv_X1_241 : SV RX1 241 yX2_unload cX2_unload 3 none 1 := ⟨q1943, q1944, q1945, q83, q1946, ⟨by decide +kernel, by decide +kernel, by decide +kernel⟩⟩
theorem sv_X1_244 : SV RX1 244 yX8_moved cX8_moved 6 (some .int) 2 := ⟨q1962, q1963, q1964, q120, q1965, ⟨by decide +kernel, by decide +kernel, by decide +kernel⟩⟩
theorem si_X1_76 : SI RX1 76 yJ27_init_2 cJ27_init_2 1 0 := ⟨q1925, q1926, q117, q1927, rfl, ⟨by decide +kernel, by decide +kernel, by decide +kernel⟩⟩
theorem sv_X1_118 : SV RX1 118 yX2_copy cX2_copy 4 (some (.object "LinkElection$House")) 0 := ⟨q1933, q1934, q1935, q83, q1936, ⟨by decide +kernel, by decide +kernel, by decide +kernel⟩⟩
theorem sv_X1_248 : SV RX1 248 yX2_reload cX2_reload 2 none 1 := ⟨q1973, q1488, q1489, q83, q1490, ⟨by decide +kernel, by decide +kernel, by decide +kernel⟩⟩
theorem sv_X1_256 : SV RX1 256 yX1_offers cX1_offers 4 (some .int) 3 := ⟨q1982, q1984, qs38, q80, q1985, ⟨by decide +kernel, by decide +kernel, by decide +kernel⟩⟩
theorem sv_X1_251 : SV RX1 251 yX2_put cX2_put 5 none 3 := ⟨q1986, q1522, q1523, q83, q1524, ⟨by decide +kernel, by decide +kernel, by decide +kernel⟩⟩
theorem sv_X1_259 : SV RX1 259 yX1_offer cX1_offer 3 (some .int) 2 := ⟨q2001, q1817, q1818, q80, q1819, ⟨by decide +kernel, by decide +kernel, by decide +kernel⟩⟩
theorem pf_X1_163 : GF RX1 163 5 2 .int false := ⟨RX6, TX6, 4, "LinkElection$Library", rfl, by decide, cf_X6, Or.inl rfl, Or.inr ⟨_, q1474⟩, rfl, rfl, fun h => by cases h⟩
theorem pf_X1_165 : GF RX1 165 5 3 .boolean false := ⟨RX6, TX6, 4, "LinkElection$Library", rfl, by decide, cf_X6, Or.inl rfl, Or.inr ⟨_, q1477⟩, rfl, rfl, fun h => by cases h⟩
theorem pf_X1_154 : GF RX1 154 1 5 .int false := ⟨RX2, TX2, 6, "LinkElection$House", rfl, by decide, cf_X2, Or.inl rfl, Or.inr ⟨_, q622⟩, rfl, rfl, fun h => by cases h⟩
theorem nw_X2_9 : NW RX2 9 10 3 [.int 0, .null, .int 0] := ⟨RJ3, TJ3, tyJ3, rfl, in_J3, tyJ3_ok, q181, q155, q85, by decide⟩
theorem si_X2_11 : SI RX2 11 yJ3_init cJ3_init 1 0 := ⟨q182, q157, q85, q158, rfl, ⟨by decide +kernel, by decide +kernel, by decide +kernel⟩⟩
theorem pf_X2_12 : GF RX2 12 1 1 (.object "java/util/List") true := ⟨RX2, TX2, 6, "LinkElection$House", rfl, by decide, cf_X2, Or.inl rfl, Or.inl q611, rfl, rfl, fun _ => rfl⟩
theorem nw_X2_18 : NW RX2 18 11 8 [.null, .null, .null, .null, .int 0, .int 0, .int 0, .float 0] := ⟨RJ5, TJ5, tyJ5, rfl, in_J5, tyJ5_ok, q183, q184, q87, by decide⟩
theorem si_X2_20 : SI RX2 20 yJ5_init cJ5_init 1 0 := ⟨q185, q186, q87, q187, rfl, ⟨by decide +kernel, by decide +kernel, by decide +kernel⟩⟩
theorem pf_X2_21 : GF RX2 21 1 2 (.object "java/util/HashMap") true := ⟨RX2, TX2, 6, "LinkElection$House", rfl, by decide, cf_X2, Or.inl rfl, Or.inl q614, rfl, rfl, fun _ => rfl⟩
theorem pf_X2_25 : GF RX2 25 1 3 (.object "java/util/List") true := ⟨RX2, TX2, 6, "LinkElection$House", rfl, by decide, cf_X2, Or.inl rfl, Or.inl q615, rfl, rfl, fun _ => rfl⟩
theorem ss_X2_30 : SSN RX2 30 yX1_variable cX1_variable 3 (some (.object "LinkElection$Weight")) 1 := ⟨⟨_, q216⟩, q217, q80, q218, ⟨by decide +kernel, by decide +kernel, by decide +kernel⟩⟩
theorem pf_X2_34 : GF RX2 34 1 4 (.object "LinkElection$Weight") false := ⟨RX2, TX2, 6, "LinkElection$House", rfl, by decide, cf_X2, Or.inl rfl, Or.inl q617, rfl, rfl, fun h => by cases h⟩
theorem pf_X2_38 : GF RX2 38 1 5 .int false := ⟨RX2, TX2, 6, "LinkElection$House", rfl, by decide, cf_X2, Or.inl rfl, Or.inl q620, rfl, rfl, fun h => by cases h⟩
theorem pf_X2_42 : GF RX2 42 1 0 (.object "java/util/List") true := ⟨RX2, TX2, 6, "LinkElection$House", rfl, by decide, cf_X2, Or.inl rfl, Or.inl q608, rfl, rfl, fun _ => rfl⟩
theorem gf_X2_25 : GF0 RX2 25 1 3 := ⟨RX2, TX2, 6, "LinkElection$House", rfl, by decide, cf_X2, Or.inl rfl, Or.inl q615⟩
theorem sf_X2_48 : SF RX2 48 RJ3 ⟨"java/util/List", "size", "()I"⟩ yJ3_size cJ3_size 1 (some .int) 0 := ⟨⟨q744, q675, q677, q85, q679⟩, ⟨q673, q672, q678, q676, q674⟩, by decide +kernel, by decide +kernel, by decide +kernel⟩
theorem sf_X2_56 : SF RX2 56 RJ3 ⟨"java/util/List", "get", "(I)Ljava/lang/Object;"⟩ yJ3_get cJ3_get 2 (some (.object "java/lang/Object")) 1 := ⟨⟨q746, q749, q751, q85, q753⟩, ⟨q748, q747, q752, q750, q674⟩, by decide +kernel, by decide +kernel, by decide +kernel⟩
theorem sv_X2_85 : SV RX2 85 yJ20_intValue cJ20_intValue 1 (some .int) 0 := ⟨q765, q766, q767, q103, q768, ⟨by decide +kernel, by decide +kernel, by decide +kernel⟩⟩
theorem gf_X2_42 : GF0 RX2 42 1 0 := ⟨RX2, TX2, 6, "LinkElection$House", rfl, by decide, cf_X2, Or.inl rfl, Or.inl q608⟩
theorem sv_X2_67 : SV RX2 67 yX2_offer cX2_offer 4 (some .int) 2 := ⟨q777, q778, q779, q83, q780, ⟨by decide +kernel, by decide +kernel, by decide +kernel⟩⟩
theorem gf_X2_21 : GF0 RX2 21 1 2 := ⟨RX2, TX2, 6, "LinkElection$House", rfl, by decide, cf_X2, Or.inl rfl, Or.inl q614⟩
theorem nw_X2_77 : NW RX2 77 6 2 [.int 0, .int 0] := ⟨RX7, TX7, tyX7, rfl, in_X7, tyX7_ok, q781, q782, q110, by decide⟩
theorem si_X2_79 : SI RX2 79 yX7_init cX7_init 3 2 := ⟨q783, q784, q110, q785, rfl, ⟨by decide +kernel, by decide +kernel, by decide +kernel⟩⟩
theorem sv_X2_82 : SV RX2 82 yJ5_get cJ5_get 3 (some (.object "java/lang/Object")) 1 := ⟨q795, q796, q797, q87, q798, ⟨by decide +kernel, by decide +kernel, by decide +kernel⟩⟩
theorem sv_X2_101 : SV RX2 101 yX2_prefers cX2_prefers 5 (some .boolean) 2 := ⟨q1114, q1115, q1116, q83, q1117, ⟨by decide +kernel, by decide +kernel, by decide +kernel⟩⟩
theorem gf_X2_12 : GF0 RX2 12 1 1 := ⟨RX2, TX2, 6, "LinkElection$House", rfl, by decide, cf_X2, Or.inl rfl, Or.inl q611⟩
theorem gf_X2_98 : GF0 RX2 98 5 1 := ⟨RX6, TX6, 4, "LinkElection$Library", rfl, by decide, cf_X6, Or.inl rfl, Or.inr ⟨_, q1469⟩⟩
theorem ss_X2_91 : SS RX2 91 yJ20_valueOf cJ20_valueOf 1 (some (.object "java/lang/Integer")) 1 := ⟨q1491, q1492, q103, q1493, ⟨by decide +kernel, by decide +kernel, by decide +kernel⟩⟩
theorem sf_X2_63 : SF RX2 63 RJ3 ⟨"java/util/List", "add", "(Ljava/lang/Object;)Z"⟩ yJ3_add cJ3_add 2 (some .boolean) 1 := ⟨⟨q1511, q1403, q1405, q85, q1407⟩, ⟨q1402, q1401, q1406, q1404, q674⟩, by decide +kernel, by decide +kernel, by decide +kernel⟩
theorem sv_X2_88 : SV RX2 88 yJ5_remove cJ5_remove 3 (some (.object "java/lang/Object")) 1 := ⟨q1525, q1526, q1527, q87, q1528, ⟨by decide +kernel, by decide +kernel, by decide +kernel⟩⟩
theorem sv_X2_95 : SV RX2 95 yJ5_put cJ5_put 3 (some (.object "java/lang/Object")) 2 := ⟨q1595, q1596, q1597, q87, q1598, ⟨by decide +kernel, by decide +kernel, by decide +kernel⟩⟩
theorem nw_X2_13 : NW RX2 13 1 6 [.null, .null, .null, .null, .null, .int 0] := ⟨RX2, TX2, tyX2, rfl, in_X2, tyX2_ok, q1937, q153, q83, by decide⟩
theorem si_X2_45 : SI RX2 45 yX2_init cX2_init 2 1 := ⟨q1938, q178, q83, q179, rfl, ⟨by decide +kernel, by decide +kernel, by decide +kernel⟩⟩
theorem nw_X2_54 : NW RX2 54 5 4 [.null, .null, .int 0, .int 0] := ⟨RX6, TX6, tyX6, rfl, in_X6, tyX6_ok, q1118, q1453, q108, by decide⟩
theorem si_X2_60 : SI RX2 60 yX6_init_2 cX6_init_2 2 1 := ⟨q1939, q1940, q108, q1941, rfl, ⟨by decide +kernel, by decide +kernel, by decide +kernel⟩⟩
theorem sv_X2_71 : SV RX2 71 yX2_put cX2_put 5 none 3 := ⟨q1942, q1522, q1523, q83, q1524, ⟨by decide +kernel, by decide +kernel, by decide +kernel⟩⟩
theorem gf_X2_34 : GF0 RX2 34 1 4 := ⟨RX2, TX2, 6, "LinkElection$House", rfl, by decide, cf_X2, Or.inl rfl, Or.inl q617⟩
theorem gf_X2_38 : GF0 RX2 38 1 5 := ⟨RX2, TX2, 6, "LinkElection$House", rfl, by decide, cf_X2, Or.inl rfl, Or.inl q620⟩
theorem sv_X2_105 : SV RX2 105 yX2_rank cX2_rank 3 (some .int) 1 := ⟨q1947, q740, q741, q83, q742, ⟨by decide +kernel, by decide +kernel, by decide +kernel⟩⟩
theorem sf_X2_109 : SF RX2 109 RJ3 ⟨"java/util/List", "remove", "(I)Ljava/lang/Object;"⟩ yJ3_remove cJ3_remove 4 (some (.object "java/lang/Object")) 1 := ⟨⟨q1949, q1952, q1954, q85, q1956⟩, ⟨q1951, q1950, q1955, q1953, q674⟩, by decide +kernel, by decide +kernel, by decide +kernel⟩
theorem pf_X3_9 : GF RX3 9 2 1 (.array .int) true := ⟨RX3, TX3, 27, "LinkElectionModel", rfl, by decide, cf_X3, Or.inl rfl, Or.inl q2033, rfl, rfl, fun _ => rfl⟩
theorem pf_X3_13 : GF RX3 13 2 7 .int false := ⟨RX3, TX3, 27, "LinkElectionModel", rfl, by decide, cf_X3, Or.inl rfl, Or.inl q2039, rfl, rfl, fun h => by cases h⟩
theorem pf_X3_17 : GF RX3 17 2 8 (.array .int) true := ⟨RX3, TX3, 27, "LinkElectionModel", rfl, by decide, cf_X3, Or.inl rfl, Or.inl q2040, rfl, rfl, fun _ => rfl⟩
theorem pf_X3_20 : GF RX3 20 2 9 (.array .int) true := ⟨RX3, TX3, 27, "LinkElectionModel", rfl, by decide, cf_X3, Or.inl rfl, Or.inl q2041, rfl, rfl, fun _ => rfl⟩
theorem pf_X3_25 : GF RX3 25 2 10 (.array (.array .int)) true := ⟨RX3, TX3, 27, "LinkElectionModel", rfl, by decide, cf_X3, Or.inl rfl, Or.inl q2042, rfl, rfl, fun _ => rfl⟩
theorem pf_X3_28 : GF RX3 28 2 15 (.array .long) true := ⟨RX3, TX3, 27, "LinkElectionModel", rfl, by decide, cf_X3, Or.inl rfl, Or.inl q2047, rfl, rfl, fun _ => rfl⟩
theorem pf_X3_32 : GF RX3 32 2 16 (.array .long) true := ⟨RX3, TX3, 27, "LinkElectionModel", rfl, by decide, cf_X3, Or.inl rfl, Or.inl q2048, rfl, rfl, fun _ => rfl⟩
theorem pf_X3_35 : GF RX3 35 2 18 (.array .long) true := ⟨RX3, TX3, 27, "LinkElectionModel", rfl, by decide, cf_X3, Or.inl rfl, Or.inl q2050, rfl, rfl, fun _ => rfl⟩
theorem pf_X3_38 : GF RX3 38 2 19 (.array .int) true := ⟨RX3, TX3, 27, "LinkElectionModel", rfl, by decide, cf_X3, Or.inl rfl, Or.inl q2051, rfl, rfl, fun _ => rfl⟩
theorem pf_X3_41 : GF RX3 41 2 20 (.array .int) true := ⟨RX3, TX3, 27, "LinkElectionModel", rfl, by decide, cf_X3, Or.inl rfl, Or.inl q2052, rfl, rfl, fun _ => rfl⟩
theorem pf_X3_44 : GF RX3 44 2 21 (.array .int) true := ⟨RX3, TX3, 27, "LinkElectionModel", rfl, by decide, cf_X3, Or.inl rfl, Or.inl q2053, rfl, rfl, fun _ => rfl⟩
theorem pf_X3_47 : GF RX3 47 2 22 (.array (.array .int)) true := ⟨RX3, TX3, 27, "LinkElectionModel", rfl, by decide, cf_X3, Or.inl rfl, Or.inl q2054, rfl, rfl, fun _ => rfl⟩
theorem pf_X3_50 : GF RX3 50 2 23 (.array (.array .int)) true := ⟨RX3, TX3, 27, "LinkElectionModel", rfl, by decide, cf_X3, Or.inl rfl, Or.inl q2055, rfl, rfl, fun _ => rfl⟩
theorem pf_X3_53 : GF RX3 53 2 24 (.array (.array .int)) true := ⟨RX3, TX3, 27, "LinkElectionModel", rfl, by decide, cf_X3, Or.inl rfl, Or.inl q2056, rfl, rfl, fun _ => rfl⟩
theorem pf_X3_56 : GF RX3 56 2 25 (.array .int) true := ⟨RX3, TX3, 27, "LinkElectionModel", rfl, by decide, cf_X3, Or.inl rfl, Or.inl q2057, rfl, rfl, fun _ => rfl⟩
theorem gf_X3_17 : GF0 RX3 17 2 8 := ⟨RX3, TX3, 27, "LinkElectionModel", rfl, by decide, cf_X3, Or.inl rfl, Or.inl q2040⟩
theorem gf_X3_59 : GF0 RX3 59 2 0 := ⟨RX3, TX3, 27, "LinkElectionModel", rfl, by decide, cf_X3, Or.inl rfl, Or.inl q2032⟩
theorem pf_X3_59 : GF RX3 59 2 0 .int false := ⟨RX3, TX3, 27, "LinkElectionModel", rfl, by decide, cf_X3, Or.inl rfl, Or.inl q2032, rfl, rfl, fun h => by cases h⟩
theorem gf_X3_62 : GF0 RX3 62 2 2 := ⟨RX3, TX3, 27, "LinkElectionModel", rfl, by decide, cf_X3, Or.inl rfl, Or.inl q2034⟩
theorem gf_X3_9 : GF0 RX3 9 2 1 := ⟨RX3, TX3, 27, "LinkElectionModel", rfl, by decide, cf_X3, Or.inl rfl, Or.inl q2033⟩
theorem pf_X3_62 : GF RX3 62 2 2 .int false := ⟨RX3, TX3, 27, "LinkElectionModel", rfl, by decide, cf_X3, Or.inl rfl, Or.inl q2034, rfl, rfl, fun h => by cases h⟩
theorem ss_X3_81 : SS RX3 81 yX3_in cX3_in 3 (some .boolean) 3 := ⟨q2127, q2128, q104, q2129, ⟨by decide +kernel, by decide +kernel, by decide +kernel⟩⟩
theorem sv_X3_216 : SV RX3 216 yX3_fails cX3_fails 3 (some .boolean) 2 := ⟨q2130, q2132, qs39, q104, q2133, ⟨by decide +kernel, by decide +kernel, by decide +kernel⟩⟩
theorem pf_X3_65 : GF RX3 65 2 3 .int false := ⟨RX3, TX3, 27, "LinkElectionModel", rfl, by decide, cf_X3, Or.inl rfl, Or.inl q2035, rfl, rfl, fun h => by cases h⟩
theorem pf_X3_68 : GF RX3 68 2 4 .int false := ⟨RX3, TX3, 27, "LinkElectionModel", rfl, by decide, cf_X3, Or.inl rfl, Or.inl q2036, rfl, rfl, fun h => by cases h⟩
theorem pf_X3_75 : GF RX3 75 2 5 .int false := ⟨RX3, TX3, 27, "LinkElectionModel", rfl, by decide, cf_X3, Or.inl rfl, Or.inl q2037, rfl, rfl, fun h => by cases h⟩
theorem pf_X3_78 : GF RX3 78 2 6 .int false := ⟨RX3, TX3, 27, "LinkElectionModel", rfl, by decide, cf_X3, Or.inl rfl, Or.inl q2038, rfl, rfl, fun h => by cases h⟩
theorem pf_X3_118 : GF RX3 118 2 13 .int false := ⟨RX3, TX3, 27, "LinkElectionModel", rfl, by decide, cf_X3, Or.inl rfl, Or.inl q2045, rfl, rfl, fun h => by cases h⟩
theorem pf_X3_152 : GF RX3 152 2 14 .int false := ⟨RX3, TX3, 27, "LinkElectionModel", rfl, by decide, cf_X3, Or.inl rfl, Or.inl q2046, rfl, rfl, fun h => by cases h⟩
theorem gf_X3_20 : GF0 RX3 20 2 9 := ⟨RX3, TX3, 27, "LinkElectionModel", rfl, by decide, cf_X3, Or.inl rfl, Or.inl q2041⟩
theorem sv_X3_130 : SV RX3 130 yX3_takeWord cX3_takeWord 3 (some .boolean) 1 := ⟨q2135, q2137, qs40, q104, q2138, ⟨by decide +kernel, by decide +kernel, by decide +kernel⟩⟩
theorem gf_X3_68 : GF0 RX3 68 2 4 := ⟨RX3, TX3, 27, "LinkElectionModel", rfl, by decide, cf_X3, Or.inl rfl, Or.inl q2036⟩
theorem sv_X3_102 : SV RX3 102 yX3_report cX3_report 3 none 2 := ⟨q2163, q2165, qs44, q104, q2166, ⟨by decide +kernel, by decide +kernel, by decide +kernel⟩⟩
theorem sv_X3_124 : SV RX3 124 yX3_expect cX3_expect 2 none 1 := ⟨q2167, q2169, qs45, q104, q2170, ⟨by decide +kernel, by decide +kernel, by decide +kernel⟩⟩
theorem sv_X3_85 : SV RX3 85 yX3_isGood cX3_isGood 1 (some .boolean) 0 := ⟨q2139, q2141, qs41, q104, q2142, ⟨by decide +kernel, by decide +kernel, by decide +kernel⟩⟩
theorem sv_X3_89 : SV RX3 89 yX3_next cX3_next 1 (some .int) 0 := ⟨q2143, q2145, qs42, q104, q2146, ⟨by decide +kernel, by decide +kernel, by decide +kernel⟩⟩
theorem sv_X3_222 : SV RX3 222 yX3_statement cX3_statement 2 none 0 := ⟨q2171, q2173, qs46, q104, q2174, ⟨by decide +kernel, by decide +kernel, by decide +kernel⟩⟩
theorem gf_X3_78 : GF0 RX3 78 2 6 := ⟨RX3, TX3, 27, "LinkElectionModel", rfl, by decide, cf_X3, Or.inl rfl, Or.inl q2038⟩
theorem gf_X3_75 : GF0 RX3 75 2 5 := ⟨RX3, TX3, 27, "LinkElectionModel", rfl, by decide, cf_X3, Or.inl rfl, Or.inl q2037⟩
theorem sv_X3_225 : SV RX3 225 yX3_remember cX3_remember 2 none 0 := ⟨q2258, q2260, qs61, q104, q2261, ⟨by decide +kernel, by decide +kernel, by decide +kernel⟩⟩
theorem ss_X3_228 : SS RX3 228 yX3_copy cX3_copy 3 none 2 := ⟨q2262, q2263, q104, q2264, ⟨by decide +kernel, by decide +kernel, by decide +kernel⟩⟩
theorem sv_X3_93 : SV RX3 93 yJ6_length cJ6_length 1 (some .int) 0 := ⟨q2151, q424, q425, q88, q426, ⟨by decide +kernel, by decide +kernel, by decide +kernel⟩⟩
theorem sv_X3_71 : SV RX3 71 yX3_byteAt cX3_byteAt 2 (some .int) 1 := ⟨q2147, q2149, qs43, q104, q2150, ⟨by decide +kernel, by decide +kernel, by decide +kernel⟩⟩
theorem sv_X3_98 : SV RX3 98 yJ6_charAt cJ6_charAt 2 (some .char) 1 := ⟨q2152, q2153, q2154, q88, q2155, ⟨by decide +kernel, by decide +kernel, by decide +kernel⟩⟩
theorem gf_X3_65 : GF0 RX3 65 2 3 := ⟨RX3, TX3, 27, "LinkElectionModel", rfl, by decide, cf_X3, Or.inl rfl, Or.inl q2035⟩
theorem sv_X3_191 : SV RX3 191 yX3_readName cX3_readName 4 none 1 := ⟨q2176, q2178, qs47, q104, q2179, ⟨by decide +kernel, by decide +kernel, by decide +kernel⟩⟩
theorem sv_X3_196 : SV RX3 196 yX3_readLibrary cX3_readLibrary 7 none 1 := ⟨q2194, q2196, qs50, q104, q2197, ⟨by decide +kernel, by decide +kernel, by decide +kernel⟩⟩
theorem sv_X3_201 : SV RX3 201 yX3_readOffer cX3_readOffer 4 none 0 := ⟨q2214, q2216, qs52, q104, q2217, ⟨by decide +kernel, by decide +kernel, by decide +kernel⟩⟩
theorem sv_X3_206 : SV RX3 206 yX3_readPreference cX3_readPreference 3 none 0 := ⟨q2224, q2226, qs54, q104, q2227, ⟨by decide +kernel, by decide +kernel, by decide +kernel⟩⟩
theorem sv_X3_211 : SV RX3 211 yX3_once cX3_once 3 none 2 := ⟨q2233, q2235, qs56, q104, q2236, ⟨by decide +kernel, by decide +kernel, by decide +kernel⟩⟩
theorem sv_X3_140 : SV RX3 140 yX3_number cX3_number 4 (some .int) 2 := ⟨q2201, q2203, qs51, q104, q2204, ⟨by decide +kernel, by decide +kernel, by decide +kernel⟩⟩
theorem sv_X3_121 : SV RX3 121 yX3_sum cX3_sum 2 none 0 := ⟨q2238, q2240, qs57, q104, q2241, ⟨by decide +kernel, by decide +kernel, by decide +kernel⟩⟩
theorem sv_X3_162 : SV RX3 162 yX3_readWord cX3_readWord 3 (some .long) 0 := ⟨q2180, q2182, qs48, q104, q2183, ⟨by decide +kernel, by decide +kernel, by decide +kernel⟩⟩
theorem gf_X3_32 : GF0 RX3 32 2 16 := ⟨RX3, TX3, 27, "LinkElectionModel", rfl, by decide, cf_X3, Or.inl rfl, Or.inl q2048⟩
theorem sv_X3_170 : SV RX3 170 yX3_isFresh cX3_isFresh 5 (some .boolean) 3 := ⟨q2186, q2188, qs49, q104, q2189, ⟨by decide +kernel, by decide +kernel, by decide +kernel⟩⟩
theorem pf_X3_155 : GF RX3 155 2 17 .int false := ⟨RX3, TX3, 27, "LinkElectionModel", rfl, by decide, cf_X3, Or.inl rfl, Or.inl q2049, rfl, rfl, fun h => by cases h⟩
theorem gf_X3_155 : GF0 RX3 155 2 17 := ⟨RX3, TX3, 27, "LinkElectionModel", rfl, by decide, cf_X3, Or.inl rfl, Or.inl q2049⟩
theorem ss_X3_166 : SS RX3 166 yX3_placeOf cX3_placeOf 5 (some .int) 3 := ⟨q2190, q2191, q104, q2192, ⟨by decide +kernel, by decide +kernel, by decide +kernel⟩⟩
theorem gf_X3_28 : GF0 RX3 28 2 15 := ⟨RX3, TX3, 27, "LinkElectionModel", rfl, by decide, cf_X3, Or.inl rfl, Or.inl q2047⟩
theorem ss_X3_174 : SS RX3 174 yX3_at cX3_at 1 (some .int) 1 := ⟨q2198, q2199, q104, q2200, ⟨by decide +kernel, by decide +kernel, by decide +kernel⟩⟩
theorem ss_X3_106 : SS RX3 106 yX3_isDigit cX3_isDigit 1 (some .boolean) 1 := ⟨q2205, q2206, q104, q2207, ⟨by decide +kernel, by decide +kernel, by decide +kernel⟩⟩
theorem pf_X3_110 : GF RX3 110 2 12 .int false := ⟨RX3, TX3, 27, "LinkElectionModel", rfl, by decide, cf_X3, Or.inl rfl, Or.inl q2044, rfl, rfl, fun h => by cases h⟩
theorem ss_X3_114 : SS RX3 114 yX3_min cX3_min 2 (some .int) 2 := ⟨q2209, q2210, q104, q2211, ⟨by decide +kernel, by decide +kernel, by decide +kernel⟩⟩
theorem gf_X3_110 : GF0 RX3 110 2 12 := ⟨RX3, TX3, 27, "LinkElectionModel", rfl, by decide, cf_X3, Or.inl rfl, Or.inl q2044⟩
theorem sv_X3_179 : SV RX3 179 yX3_readKnown cX3_readKnown 4 (some .int) 2 := ⟨q2218, q2220, qs53, q104, q2221, ⟨by decide +kernel, by decide +kernel, by decide +kernel⟩⟩
theorem sv_X3_185 : SV RX3 185 yX3_prefers cX3_prefers 5 (some .boolean) 3 := ⟨q2228, q2230, qs55, q104, q2231, ⟨by decide +kernel, by decide +kernel, by decide +kernel⟩⟩
theorem gf_X3_152 : GF0 RX3 152 2 14 := ⟨RX3, TX3, 27, "LinkElectionModel", rfl, by decide, cf_X3, Or.inl rfl, Or.inl q2046⟩
theorem sv_X3_149 : SV RX3 149 yX3_term cX3_term 2 none 0 := ⟨q2242, q2244, qs58, q104, q2245, ⟨by decide +kernel, by decide +kernel, by decide +kernel⟩⟩
theorem sv_X3_143 : SV RX3 143 yX3_emit cX3_emit 2 none 1 := ⟨q2254, q2256, qs60, q104, q2257, ⟨by decide +kernel, by decide +kernel, by decide +kernel⟩⟩
theorem sv_X3_146 : SV RX3 146 yX3_factor cX3_factor 4 none 0 := ⟨q2246, q2248, qs59, q104, q2249, ⟨by decide +kernel, by decide +kernel, by decide +kernel⟩⟩
theorem gf_X3_118 : GF0 RX3 118 2 13 := ⟨RX3, TX3, 27, "LinkElectionModel", rfl, by decide, cf_X3, Or.inl rfl, Or.inl q2045⟩
theorem gf_X3_292 : GF0 RX3 292 2 11 := ⟨RX3, TX3, 27, "LinkElectionModel", rfl, by decide, cf_X3, Or.inl rfl, Or.inl q2043⟩
theorem gf_X3_25 : GF0 RX3 25 2 10 := ⟨RX3, TX3, 27, "LinkElectionModel", rfl, by decide, cf_X3, Or.inl rfl, Or.inl q2042⟩
theorem pf_X3_292 : GF RX3 292 2 11 .int false := ⟨RX3, TX3, 27, "LinkElectionModel", rfl, by decide, cf_X3, Or.inl rfl, Or.inl q2043, rfl, rfl, fun h => by cases h⟩
theorem gf_X3_13 : GF0 RX3 13 2 7 := ⟨RX3, TX3, 27, "LinkElectionModel", rfl, by decide, cf_X3, Or.inl rfl, Or.inl q2039⟩
theorem sv_X3_277 : SV RX3 277 yX3_noLibrary cX3_noLibrary 2 (some .boolean) 1 := ⟨q2285, q2287, qs62, q104, q2288, ⟨by decide +kernel, by decide +kernel, by decide +kernel⟩⟩
theorem sv_X3_283 : SV RX3 283 yX3_told cX3_told 3 (some .int) 2 := ⟨q2289, q2291, qs63, q104, q2292, ⟨by decide +kernel, by decide +kernel, by decide +kernel⟩⟩
theorem sv_X3_243 : SV RX3 243 yX3_rankOf cX3_rankOf 4 (some .int) 1 := ⟨q2293, q2295, qs64, q104, q2296, ⟨by decide +kernel, by decide +kernel, by decide +kernel⟩⟩
theorem sv_X3_246 : SV RX3 246 yX3_offersOf cX3_offersOf 4 (some .int) 1 := ⟨q2301, q2303, qs66, q104, q2304, ⟨by decide +kernel, by decide +kernel, by decide +kernel⟩⟩
theorem sv_X3_265 : SV RX3 265 yX3_weightOf cX3_weightOf 6 (some .int) 1 := ⟨q2305, q2307, qs67, q104, q2308, ⟨by decide +kernel, by decide +kernel, by decide +kernel⟩⟩
theorem sv_X3_232 : SV RX3 232 yX3_isLoaded cX3_isLoaded 2 (some .boolean) 1 := ⟨q2297, q2299, qs65, q104, q2300, ⟨by decide +kernel, by decide +kernel, by decide +kernel⟩⟩
theorem gf_X3_35 : GF0 RX3 35 2 18 := ⟨RX3, TX3, 27, "LinkElectionModel", rfl, by decide, cf_X3, Or.inl rfl, Or.inl q2050⟩
theorem sv_X3_249 : SV RX3 249 yX3_friendsOf cX3_friendsOf 4 (some .int) 1 := ⟨q2309, q2311, qs68, q104, q2312, ⟨by decide +kernel, by decide +kernel, by decide +kernel⟩⟩
theorem ss_X3_252 : SS RX3 252 yX3_operate cX3_operate 5 (some .long) 3 := ⟨q2313, q2314, q104, q2315, ⟨by decide +kernel, by decide +kernel, by decide +kernel⟩⟩
theorem ss_X3_239 : SS RX3 239 yX3_limited cX3_limited 2 (some .long) 1 := ⟨q2316, q2317, q104, q2318, ⟨by decide +kernel, by decide +kernel, by decide +kernel⟩⟩
theorem sv_X3_280 : SV RX3 280 yX3_noName cX3_noName 2 (some .boolean) 1 := ⟨q2326, q2328, qs69, q104, q2329, ⟨by decide +kernel, by decide +kernel, by decide +kernel⟩⟩
theorem sv_X3_258 : SV RX3 258 yX3_isCandidate cX3_isCandidate 3 (some .boolean) 2 := ⟨q2334, q2336, qs70, q104, q2337, ⟨by decide +kernel, by decide +kernel, by decide +kernel⟩⟩
theorem sv_X3_262 : SV RX3 262 yX3_voteOf cX3_voteOf 5 (some .int) 2 := ⟨q2342, q2344, qs71, q104, q2345, ⟨by decide +kernel, by decide +kernel, by decide +kernel⟩⟩
theorem sv_X3_286 : SV RX3 286 yX3_isMissing cX3_isMissing 3 (some .boolean) 2 := ⟨q2350, q2352, qs72, q104, q2353, ⟨by decide +kernel, by decide +kernel, by decide +kernel⟩⟩
theorem gf_X3_47 : GF0 RX3 47 2 22 := ⟨RX3, TX3, 27, "LinkElectionModel", rfl, by decide, cf_X3, Or.inl rfl, Or.inl q2054⟩
theorem sv_X3_271 : SV RX3 271 yX3_layAll cX3_layAll 2 none 0 := ⟨q2354, q2356, qs73, q104, q2357, ⟨by decide +kernel, by decide +kernel, by decide +kernel⟩⟩
theorem gf_X3_38 : GF0 RX3 38 2 19 := ⟨RX3, TX3, 27, "LinkElectionModel", rfl, by decide, cf_X3, Or.inl rfl, Or.inl q2051⟩
theorem gf_X3_41 : GF0 RX3 41 2 20 := ⟨RX3, TX3, 27, "LinkElectionModel", rfl, by decide, cf_X3, Or.inl rfl, Or.inl q2052⟩
theorem sv_X3_268 : SV RX3 268 yX3_layName cX3_layName 7 none 1 := ⟨q2358, q2360, qs74, q104, q2361, ⟨by decide +kernel, by decide +kernel, by decide +kernel⟩⟩
theorem gf_X3_44 : GF0 RX3 44 2 21 := ⟨RX3, TX3, 27, "LinkElectionModel", rfl, by decide, cf_X3, Or.inl rfl, Or.inl q2053⟩
theorem gf_X3_50 : GF0 RX3 50 2 23 := ⟨RX3, TX3, 27, "LinkElectionModel", rfl, by decide, cf_X3, Or.inl rfl, Or.inl q2055⟩
theorem sv_X3_289 : SV RX3 289 yX3_follow cX3_follow 7 (some .int) 2 := ⟨q2382, q2384, qs75, q104, q2385, ⟨by decide +kernel, by decide +kernel, by decide +kernel⟩⟩
theorem pf_X3_274 : GF RX3 274 2 26 .int false := ⟨RX3, TX3, 27, "LinkElectionModel", rfl, by decide, cf_X3, Or.inl rfl, Or.inl q2058, rfl, rfl, fun h => by cases h⟩
theorem gf_X3_56 : GF0 RX3 56 2 25 := ⟨RX3, TX3, 27, "LinkElectionModel", rfl, by decide, cf_X3, Or.inl rfl, Or.inl q2057⟩
theorem gf_X3_274 : GF0 RX3 274 2 26 := ⟨RX3, TX3, 27, "LinkElectionModel", rfl, by decide, cf_X3, Or.inl rfl, Or.inl q2058⟩
theorem sv_X3_295 : SV RX3 295 yX3_keepBindings cX3_keepBindings 3 none 0 := ⟨q2398, q2400, qs76, q104, q2401, ⟨by decide +kernel, by decide +kernel, by decide +kernel⟩⟩
theorem sv_X3_298 : SV RX3 298 yX3_changedBut cX3_changedBut 5 (some .int) 1 := ⟨q2402, q2404, qs77, q104, q2405, ⟨by decide +kernel, by decide +kernel, by decide +kernel⟩⟩
theorem gf_X3_53 : GF0 RX3 53 2 24 := ⟨RX3, TX3, 27, "LinkElectionModel", rfl, by decide, cf_X3, Or.inl rfl, Or.inl q2056⟩
theorem sv_X3_301 : SV RX3 301 yX3_put cX3_put 4 (some .int) 3 := ⟨q2414, q2416, qs78, q104, q2417, ⟨by decide +kernel, by decide +kernel, by decide +kernel⟩⟩
theorem pf_X4_3 : GF RX4 3 3 8 (.object "LinkElection") true := ⟨RX4, TX4, 9, "LinkElection$Parser", rfl, by decide, cf_X4, Or.inl rfl, Or.inl q1269, rfl, rfl, fun _ => rfl⟩
theorem nw_X4_15 : NW RX4 15 10 3 [.int 0, .null, .int 0] := ⟨RJ3, TJ3, tyJ3, rfl, in_J3, tyJ3_ok, q1257, q155, q85, by decide⟩
theorem si_X4_17 : SI RX4 17 yJ3_init cJ3_init 1 0 := ⟨q1258, q157, q85, q158, rfl, ⟨by decide +kernel, by decide +kernel, by decide +kernel⟩⟩
theorem pf_X4_18 : GF RX4 18 3 1 (.object "java/util/List") true := ⟨RX4, TX4, 9, "LinkElection$Parser", rfl, by decide, cf_X4, Or.inl rfl, Or.inl q1262, rfl, rfl, fun _ => rfl⟩
theorem nw_X4_22 : NW RX4 22 1 6 [.null, .null, .null, .null, .null, .int 0] := ⟨RX2, TX2, tyX2, rfl, in_X2, tyX2_ok, q1259, q153, q83, by decide⟩
theorem gf_X4_18 : GF0 RX4 18 3 1 := ⟨RX4, TX4, 9, "LinkElection$Parser", rfl, by decide, cf_X4, Or.inl rfl, Or.inl q1262⟩
theorem si_X4_24 : SI RX4 24 yX2_init cX2_init 2 1 := ⟨q1260, q178, q83, q179, rfl, ⟨by decide +kernel, by decide +kernel, by decide +kernel⟩⟩
theorem pf_X4_27 : GF RX4 27 3 2 (.object "LinkElection$House") true := ⟨RX4, TX4, 9, "LinkElection$Parser", rfl, by decide, cf_X4, Or.inl rfl, Or.inl q1263, rfl, rfl, fun _ => rfl⟩
theorem pf_X4_31 : GF RX4 31 3 0 .int true := ⟨RX4, TX4, 9, "LinkElection$Parser", rfl, by decide, cf_X4, Or.inl rfl, Or.inl q1261, rfl, rfl, fun _ => rfl⟩
theorem sv_X4_124 : SV RX4 124 yX4_word cX4_word 3 (some (.object "java/lang/String")) 0 := ⟨q1293, q1295, qs7, q105, q1296, ⟨by decide +kernel, by decide +kernel, by decide +kernel⟩⟩
theorem sv_X4_146 : SV RX4 146 yJ6_equals cJ6_equals 3 (some .boolean) 1 := ⟨q1332, q589, q590, q88, q591, ⟨by decide +kernel, by decide +kernel, by decide +kernel⟩⟩
theorem gf_X4_35 : GF0 RX4 35 3 3 := ⟨RX4, TX4, 9, "LinkElection$Parser", rfl, by decide, cf_X4, Or.inl rfl, Or.inl q1264⟩
theorem sv_X4_59 : SV RX4 59 yX4_require cX4_require 4 none 3 := ⟨q1333, q1335, qs10, q105, q1336, ⟨by decide +kernel, by decide +kernel, by decide +kernel⟩⟩
theorem pf_X4_35 : GF RX4 35 3 3 .int false := ⟨RX4, TX4, 9, "LinkElection$Parser", rfl, by decide, cf_X4, Or.inl rfl, Or.inl q1264, rfl, rfl, fun h => by cases h⟩
theorem sv_X4_113 : SV RX4 113 yX4_expect cX4_expect 3 none 1 := ⟨q1365, q1367, qs11, q105, q1368, ⟨by decide +kernel, by decide +kernel, by decide +kernel⟩⟩
theorem sv_X4_55 : SV RX4 55 yX4_peek cX4_peek 1 (some .int) 0 := ⟨q1297, q1299, qs8, q105, q1300, ⟨by decide +kernel, by decide +kernel, by decide +kernel⟩⟩
theorem sv_X4_245 : SV RX4 245 yX4_statement cX4_statement 5 none 0 := ⟨q1369, q1371, qs12, q105, q1372, ⟨by decide +kernel, by decide +kernel, by decide +kernel⟩⟩
theorem gf_X4_27 : GF0 RX4 27 3 2 := ⟨RX4, TX4, 9, "LinkElection$Parser", rfl, by decide, cf_X4, Or.inl rfl, Or.inl q1263⟩
theorem nw_X4_63 : NW RX4 63 14 4 [.null, .int 0, .int 0, .int 0] := ⟨RJ15, TJ15, tyJ15, rfl, in_J15, tyJ15_ok, q1301, q325, q97, by decide⟩
theorem si_X4_65 : SI RX4 65 yJ15_init cJ15_init 1 0 := ⟨q1302, q327, q97, q328, rfl, ⟨by decide +kernel, by decide +kernel, by decide +kernel⟩⟩
theorem sv_X4_66 : SV RX4 66 yX4_isLetterAt cX4_isLetterAt 2 (some .boolean) 1 := ⟨q1303, q1305, qs9, q105, q1306, ⟨by decide +kernel, by decide +kernel, by decide +kernel⟩⟩
theorem gf_X4_3 : GF0 RX4 3 3 8 := ⟨RX4, TX4, 9, "LinkElection$Parser", rfl, by decide, cf_X4, Or.inl rfl, Or.inl q1269⟩
theorem gf_X4_38 : GF0 RX4 38 0 0 := ⟨RX1, TX1, 5, "LinkElection", rfl, by decide, cf_X1, Or.inl rfl, Or.inr ⟨_, q637⟩⟩
theorem sv_X4_70 : SV RX4 70 yJ15_append_3 cJ15_append_3 2 (some (.object "java/lang/StringBuilder")) 1 := ⟨q1310, q1311, q1312, q97, q1313, ⟨by decide +kernel, by decide +kernel, by decide +kernel⟩⟩
theorem sv_X4_74 : SV RX4 74 yJ15_toString cJ15_toString 1 (some (.object "java/lang/String")) 0 := ⟨q1330, q491, q492, q97, q493, ⟨by decide +kernel, by decide +kernel, by decide +kernel⟩⟩
theorem gf_X4_31 : GF0 RX4 31 3 0 := ⟨RX4, TX4, 9, "LinkElection$Parser", rfl, by decide, cf_X4, Or.inl rfl, Or.inl q1261⟩
theorem ss_X4_46 : SSN RX4 46 yX1_isBetween cX1_isBetween 6 (some .boolean) 3 := ⟨⟨_, q1309⟩, q1235, q80, q1236, ⟨by decide +kernel, by decide +kernel, by decide +kernel⟩⟩
theorem nw_X4_50 : NW RX4 50 4 8 [.null, .null, .null, .null, .null, .int 0, .int 0, .int 0] := ⟨RX5, TX5, tyX5, rfl, in_X5, tyX5_ok, q1337, q1338, q106, by decide⟩
theorem si_X4_52 : SI RX4 52 yX5_init cX5_init 3 2 := ⟨q1346, q1347, q106, q1348, rfl, ⟨by decide +kernel, by decide +kernel, by decide +kernel⟩⟩
theorem sv_X4_131 : SV RX4 131 yJ6_length cJ6_length 1 (some .int) 0 := ⟨q1373, q424, q425, q88, q426, ⟨by decide +kernel, by decide +kernel, by decide +kernel⟩⟩
theorem sv_X4_209 : SV RX4 209 yJ6_hashCode cJ6_hashCode 2 (some .int) 0 := ⟨q1374, q220, q221, q88, q222, ⟨by decide +kernel, by decide +kernel, by decide +kernel⟩⟩
theorem sv_X4_223 : SV RX4 223 yX4_name cX4_name 3 none 1 := ⟨q1381, q1383, qs13, q105, q1384, ⟨by decide +kernel, by decide +kernel, by decide +kernel⟩⟩
theorem sv_X4_225 : SV RX4 225 yX4_library cX4_library 4 none 1 := ⟨q1432, q1434, qs19, q105, q1435, ⟨by decide +kernel, by decide +kernel, by decide +kernel⟩⟩
theorem sv_X4_227 : SV RX4 227 yX4_offer cX4_offer 4 none 0 := ⟨q1512, q1514, qs24, q105, q1515, ⟨by decide +kernel, by decide +kernel, by decide +kernel⟩⟩
theorem sv_X4_229 : SV RX4 229 yX4_prefer cX4_prefer 3 none 0 := ⟨q1685, q1687, qs26, q105, q1688, ⟨by decide +kernel, by decide +kernel, by decide +kernel⟩⟩
theorem gf_X4_231 : GF0 RX4 231 3 6 := ⟨RX4, TX4, 9, "LinkElection$Parser", rfl, by decide, cf_X4, Or.inl rfl, Or.inl q1267⟩
theorem pf_X4_231 : GF RX4 231 3 6 .boolean false := ⟨RX4, TX4, 9, "LinkElection$Parser", rfl, by decide, cf_X4, Or.inl rfl, Or.inl q1267, rfl, rfl, fun h => by cases h⟩
theorem sv_X4_117 : SV RX4 117 yX4_number cX4_number 5 (some .int) 2 := ⟨q1441, q1443, qs21, q105, q1444, ⟨by decide +kernel, by decide +kernel, by decide +kernel⟩⟩
theorem pf_X4_235 : GF RX4 235 1 5 .int false := ⟨RX2, TX2, 6, "LinkElection$House", rfl, by decide, cf_X2, Or.inl rfl, Or.inr ⟨_, q623⟩, rfl, rfl, fun h => by cases h⟩
theorem gf_X4_237 : GF0 RX4 237 3 7 := ⟨RX4, TX4, 9, "LinkElection$Parser", rfl, by decide, cf_X4, Or.inl rfl, Or.inl q1268⟩
theorem pf_X4_237 : GF RX4 237 3 7 .boolean false := ⟨RX4, TX4, 9, "LinkElection$Parser", rfl, by decide, cf_X4, Or.inl rfl, Or.inl q1268, rfl, rfl, fun h => by cases h⟩
theorem sv_X4_110 : SV RX4 110 yX4_sum cX4_sum 3 (some (.object "LinkElection$Weight")) 0 := ⟨q1691, q1693, qs27, q105, q1694, ⟨by decide +kernel, by decide +kernel, by decide +kernel⟩⟩
theorem pf_X4_240 : GF RX4 240 1 4 (.object "LinkElection$Weight") false := ⟨RX2, TX2, 6, "LinkElection$House", rfl, by decide, cf_X2, Or.inl rfl, Or.inr ⟨_, q619⟩, rfl, rfl, fun h => by cases h⟩
theorem sf_X4_137 : SF RX4 137 RJ3 ⟨"java/util/List", "size", "()I"⟩ yJ3_size cJ3_size 1 (some .int) 0 := ⟨⟨q1386, q675, q677, q85, q679⟩, ⟨q673, q672, q678, q676, q674⟩, by decide +kernel, by decide +kernel, by decide +kernel⟩
theorem sv_X4_158 : SV RX4 158 yX4_toldWord cX4_toldWord 2 (some (.object "java/lang/String")) 0 := ⟨q1387, q1389, qs14, q105, q1390, ⟨by decide +kernel, by decide +kernel, by decide +kernel⟩⟩
theorem sv_X4_161 : SV RX4 161 yX4_nameOf cX4_nameOf 3 (some .int) 1 := ⟨q1392, q1394, qs15, q105, q1395, ⟨by decide +kernel, by decide +kernel, by decide +kernel⟩⟩
theorem gf_X4_86 : GF0 RX4 86 3 4 := ⟨RX4, TX4, 9, "LinkElection$Parser", rfl, by decide, cf_X4, Or.inl rfl, Or.inl q1265⟩
theorem sf_X4_165 : SF RX4 165 RJ3 ⟨"java/util/List", "add", "(Ljava/lang/Object;)Z"⟩ yJ3_add cJ3_add 2 (some .boolean) 1 := ⟨⟨q1400, q1403, q1405, q85, q1407⟩, ⟨q1402, q1401, q1406, q1404, q674⟩, by decide +kernel, by decide +kernel, by decide +kernel⟩
theorem pf_X4_86 : GF RX4 86 3 4 .int false := ⟨RX4, TX4, 9, "LinkElection$Parser", rfl, by decide, cf_X4, Or.inl rfl, Or.inl q1265, rfl, rfl, fun h => by cases h⟩
theorem sf_X4_142 : SF RX4 142 RJ3 ⟨"java/util/List", "get", "(I)Ljava/lang/Object;"⟩ yJ3_get cJ3_get 2 (some (.object "java/lang/Object")) 1 := ⟨⟨q1397, q749, q751, q85, q753⟩, ⟨q748, q747, q752, q750, q674⟩, by decide +kernel, by decide +kernel, by decide +kernel⟩
theorem gf_X4_150 : GF0 RX4 150 1 1 := ⟨RX2, TX2, 6, "LinkElection$House", rfl, by decide, cf_X2, Or.inl rfl, Or.inr ⟨_, q613⟩⟩
theorem sv_X4_168 : SV RX4 168 yX4_libraryOf cX4_libraryOf 3 (some .int) 1 := ⟨q1436, q1438, qs20, q105, q1439, ⟨by decide +kernel, by decide +kernel, by decide +kernel⟩⟩
theorem nw_X4_153 : NW RX4 153 5 4 [.null, .null, .int 0, .int 0] := ⟨RX6, TX6, tyX6, rfl, in_X6, tyX6_ok, q1440, q1453, q108, by decide⟩
theorem sv_X4_173 : SV RX4 173 yX4_accept cX4_accept 3 (some .boolean) 1 := ⟨q1455, q1457, qs23, q105, q1458, ⟨by decide +kernel, by decide +kernel, by decide +kernel⟩⟩
theorem si_X4_177 : SI RX4 177 yX6_init cX6_init 4 3 := ⟨q1459, q1460, q108, q1461, rfl, ⟨by decide +kernel, by decide +kernel, by decide +kernel⟩⟩
theorem sv_X4_180 : SV RX4 180 yX2_reload cX2_reload 2 none 1 := ⟨q1487, q1488, q1489, q83, q1490, ⟨by decide +kernel, by decide +kernel, by decide +kernel⟩⟩
theorem gf_X4_155 : GF0 RX4 155 5 0 := ⟨RX6, TX6, 4, "LinkElection$Library", rfl, by decide, cf_X6, Or.inl rfl, Or.inr ⟨_, q1466⟩⟩
theorem sv_X4_82 : SV RX4 82 yX4_isDigit cX4_isDigit 1 (some .boolean) 0 := ⟨q1445, q1447, qs22, q105, q1448, ⟨by decide +kernel, by decide +kernel, by decide +kernel⟩⟩
theorem ss_X4_90 : SS RX4 90 yJ16_min cJ16_min 2 (some .int) 2 := ⟨q1452, q396, q98, q397, ⟨by decide +kernel, by decide +kernel, by decide +kernel⟩⟩
theorem sv_X4_183 : SV RX4 183 yX4_known cX4_known 2 (some .int) 1 := ⟨q1516, q1518, qs25, q105, q1519, ⟨by decide +kernel, by decide +kernel, by decide +kernel⟩⟩
theorem sv_X4_187 : SV RX4 187 yX2_offer cX2_offer 4 (some .int) 2 := ⟨q1520, q778, q779, q83, q780, ⟨by decide +kernel, by decide +kernel, by decide +kernel⟩⟩
theorem sv_X4_190 : SV RX4 190 yX2_put cX2_put 5 none 3 := ⟨q1521, q1522, q1523, q83, q1524, ⟨by decide +kernel, by decide +kernel, by decide +kernel⟩⟩
theorem sv_X4_196 : SV RX4 196 yX2_prefers cX2_prefers 5 (some .boolean) 2 := ⟨q1689, q1115, q1116, q83, q1117, ⟨by decide +kernel, by decide +kernel, by decide +kernel⟩⟩
theorem gf_X4_200 : GF0 RX4 200 5 1 := ⟨RX6, TX6, 4, "LinkElection$Library", rfl, by decide, cf_X6, Or.inl rfl, Or.inr ⟨_, q1470⟩⟩
theorem ss_X4_203 : SS RX4 203 yJ20_valueOf cJ20_valueOf 1 (some (.object "java/lang/Integer")) 1 := ⟨q1690, q1492, q103, q1493, ⟨by decide +kernel, by decide +kernel, by decide +kernel⟩⟩
theorem sv_X4_96 : SV RX4 96 yX4_term cX4_term 3 (some (.object "LinkElection$Weight")) 0 := ⟨q1695, q1697, qs28, q105, q1698, ⟨by decide +kernel, by decide +kernel, by decide +kernel⟩⟩
theorem ss_X4_100 : SSN RX4 100 yX1_operation cX1_operation 3 (some (.object "LinkElection$Weight")) 3 := ⟨⟨_, q1706⟩, q1707, q80, q1708, ⟨by decide +kernel, by decide +kernel, by decide +kernel⟩⟩
theorem sv_X4_104 : SV RX4 104 yX4_factor cX4_factor 3 (some (.object "LinkElection$Weight")) 0 := ⟨q1699, q1701, qs29, q105, q1702, ⟨by decide +kernel, by decide +kernel, by decide +kernel⟩⟩
theorem gf_X4_107 : GF0 RX4 107 3 5 := ⟨RX4, TX4, 9, "LinkElection$Parser", rfl, by decide, cf_X4, Or.inl rfl, Or.inl q1266⟩
theorem pf_X4_107 : GF RX4 107 3 5 .int false := ⟨RX4, TX4, 9, "LinkElection$Parser", rfl, by decide, cf_X4, Or.inl rfl, Or.inl q1266, rfl, rfl, fun h => by cases h⟩
theorem ss_X4_127 : SSN RX4 127 yX1_variable cX1_variable 3 (some (.object "LinkElection$Weight")) 1 := ⟨⟨_, q1705⟩, q217, q80, q218, ⟨by decide +kernel, by decide +kernel, by decide +kernel⟩⟩
theorem si_X5_1 : SI RX5 1 yJ11_init_3 cJ11_init_3 5 4 := ⟨q1349, q1350, q93, q1351, rfl, ⟨by decide +kernel, by decide +kernel, by decide +kernel⟩⟩
theorem pf_X5_7 : GF RX5 7 4 6 .int true := ⟨RX5, TX5, 8, "LinkElection$SetupException", rfl, by decide, cf_X5, Or.inl rfl, Or.inl q1355, rfl, rfl, fun _ => rfl⟩
theorem pf_X5_13 : GF RX5 13 4 7 .int true := ⟨RX5, TX5, 8, "LinkElection$SetupException", rfl, by decide, cf_X5, Or.inl rfl, Or.inl q1357, rfl, rfl, fun _ => rfl⟩
theorem pf_X6_7 : GF RX6 7 5 0 (.object "java/lang/String") true := ⟨RX6, TX6, 4, "LinkElection$Library", rfl, by decide, cf_X6, Or.inl rfl, Or.inl q1465, rfl, rfl, fun _ => rfl⟩
theorem pf_X6_13 : GF RX6 13 5 2 .int false := ⟨RX6, TX6, 4, "LinkElection$Library", rfl, by decide, cf_X6, Or.inl rfl, Or.inl q1472, rfl, rfl, fun h => by cases h⟩
theorem pf_X6_17 : GF RX6 17 5 3 .boolean false := ⟨RX6, TX6, 4, "LinkElection$Library", rfl, by decide, cf_X6, Or.inl rfl, Or.inl q1475, rfl, rfl, fun h => by cases h⟩
theorem nw_X6_21 : NW RX6 21 10 3 [.int 0, .null, .int 0] := ⟨RJ3, TJ3, tyJ3, rfl, in_J3, tyJ3_ok, q1463, q155, q85, by decide⟩
theorem si_X6_23 : SI RX6 23 yJ3_init cJ3_init 1 0 := ⟨q1464, q157, q85, q158, rfl, ⟨by decide +kernel, by decide +kernel, by decide +kernel⟩⟩
theorem pf_X6_24 : GF RX6 24 5 1 (.object "java/util/List") true := ⟨RX6, TX6, 4, "LinkElection$Library", rfl, by decide, cf_X6, Or.inl rfl, Or.inl q1467, rfl, rfl, fun _ => rfl⟩
theorem gf_X6_7 : GF0 RX6 7 5 0 := ⟨RX6, TX6, 4, "LinkElection$Library", rfl, by decide, cf_X6, Or.inl rfl, Or.inl q1465⟩
theorem gf_X6_24 : GF0 RX6 24 5 1 := ⟨RX6, TX6, 4, "LinkElection$Library", rfl, by decide, cf_X6, Or.inl rfl, Or.inl q1467⟩
theorem gf_X6_13 : GF0 RX6 13 5 2 := ⟨RX6, TX6, 4, "LinkElection$Library", rfl, by decide, cf_X6, Or.inl rfl, Or.inl q1472⟩
theorem gf_X6_17 : GF0 RX6 17 5 3 := ⟨RX6, TX6, 4, "LinkElection$Library", rfl, by decide, cf_X6, Or.inl rfl, Or.inl q1475⟩
theorem pf_X7_7 : GF RX7 7 6 0 .int true := ⟨RX7, TX7, 2, "LinkElection$Key", rfl, by decide, cf_X7, Or.inl rfl, Or.inl q787, rfl, rfl, fun _ => rfl⟩
theorem pf_X7_13 : GF RX7 13 6 1 .int true := ⟨RX7, TX7, 2, "LinkElection$Key", rfl, by decide, cf_X7, Or.inl rfl, Or.inl q788, rfl, rfl, fun _ => rfl⟩
theorem gf_X7_7 : GF0 RX7 7 6 0 := ⟨RX7, TX7, 2, "LinkElection$Key", rfl, by decide, cf_X7, Or.inl rfl, Or.inl q787⟩
theorem gf_X7_13 : GF0 RX7 13 6 1 := ⟨RX7, TX7, 2, "LinkElection$Key", rfl, by decide, cf_X7, Or.inl rfl, Or.inl q788⟩
theorem pf_X8_9 : GF RX8 9 7 0 (.object "LinkElection$House") true := ⟨RX8, TX8, 8, "LinkElection$Election", rfl, by decide, cf_X8, Or.inl rfl, Or.inl q1152, rfl, rfl, fun _ => rfl⟩
theorem gf_X8_15 : GF0 RX8 15 1 1 := ⟨RX2, TX2, 6, "LinkElection$House", rfl, by decide, cf_X2, Or.inl rfl, Or.inr ⟨_, q610⟩⟩
theorem sf_X8_21 : SF RX8 21 RJ3 ⟨"java/util/List", "size", "()I"⟩ yJ3_size cJ3_size 1 (some .int) 0 := ⟨⟨q732, q675, q677, q85, q679⟩, ⟨q673, q672, q678, q676, q674⟩, by decide +kernel, by decide +kernel, by decide +kernel⟩
theorem gf_X8_27 : GF0 RX8 27 1 0 := ⟨RX2, TX2, 6, "LinkElection$House", rfl, by decide, cf_X2, Or.inl rfl, Or.inr ⟨_, q607⟩⟩
theorem pf_X8_30 : GF RX8 30 7 1 (.array .int) true := ⟨RX8, TX8, 8, "LinkElection$Election", rfl, by decide, cf_X8, Or.inl rfl, Or.inl q1153, rfl, rfl, fun _ => rfl⟩
theorem pf_X8_34 : GF RX8 34 7 2 (.array .int) true := ⟨RX8, TX8, 8, "LinkElection$Election", rfl, by decide, cf_X8, Or.inl rfl, Or.inl q1156, rfl, rfl, fun _ => rfl⟩
theorem pf_X8_37 : GF RX8 37 7 3 (.array .int) true := ⟨RX8, TX8, 8, "LinkElection$Election", rfl, by decide, cf_X8, Or.inl rfl, Or.inl q1159, rfl, rfl, fun _ => rfl⟩
theorem pf_X8_42 : GF RX8 42 7 4 (.array (.array .int)) true := ⟨RX8, TX8, 8, "LinkElection$Election", rfl, by decide, cf_X8, Or.inl rfl, Or.inl q1160, rfl, rfl, fun _ => rfl⟩
theorem pf_X8_45 : GF RX8 45 7 5 (.array (.array .int)) true := ⟨RX8, TX8, 8, "LinkElection$Election", rfl, by decide, cf_X8, Or.inl rfl, Or.inl q1163, rfl, rfl, fun _ => rfl⟩
theorem pf_X8_48 : GF RX8 48 7 6 (.array (.array .int)) true := ⟨RX8, TX8, 8, "LinkElection$Election", rfl, by decide, cf_X8, Or.inl rfl, Or.inl q1165, rfl, rfl, fun _ => rfl⟩
theorem pf_X8_51 : GF RX8 51 7 7 (.array (.array .int)) true := ⟨RX8, TX8, 8, "LinkElection$Election", rfl, by decide, cf_X8, Or.inl rfl, Or.inl q1167, rfl, rfl, fun _ => rfl⟩
theorem gf_X8_30 : GF0 RX8 30 7 1 := ⟨RX8, TX8, 8, "LinkElection$Election", rfl, by decide, cf_X8, Or.inl rfl, Or.inl q1153⟩
theorem sv_X8_54 : SV RX8 54 yX8_weight cX8_weight 3 (some .int) 1 := ⟨q735, q737, qs3, q120, q738, ⟨by decide +kernel, by decide +kernel, by decide +kernel⟩⟩
theorem gf_X8_42 : GF0 RX8 42 7 4 := ⟨RX8, TX8, 8, "LinkElection$Election", rfl, by decide, cf_X8, Or.inl rfl, Or.inl q1160⟩
theorem sv_X8_58 : SV RX8 58 yX2_offer cX2_offer 4 (some .int) 2 := ⟨q1129, q778, q779, q83, q780, ⟨by decide +kernel, by decide +kernel, by decide +kernel⟩⟩
theorem sv_X8_62 : SV RX8 62 yX8_hold cX8_hold 4 none 1 := ⟨q1130, q1132, qs4, q120, q1133, ⟨by decide +kernel, by decide +kernel, by decide +kernel⟩⟩
theorem gf_X8_9 : GF0 RX8 9 7 0 := ⟨RX8, TX8, 8, "LinkElection$Election", rfl, by decide, cf_X8, Or.inl rfl, Or.inl q1152⟩
theorem sv_X8_66 : SV RX8 66 yX2_rank cX2_rank 3 (some .int) 1 := ⟨q739, q740, q741, q83, q742, ⟨by decide +kernel, by decide +kernel, by decide +kernel⟩⟩
theorem gf_X8_71 : GF0 RX8 71 1 4 := ⟨RX2, TX2, 6, "LinkElection$House", rfl, by decide, cf_X2, Or.inl rfl, Or.inr ⟨_, q618⟩⟩
theorem sf_X8_74 : SF RX8 74 RJ3 ⟨"java/util/List", "get", "(I)Ljava/lang/Object;"⟩ yJ3_get cJ3_get 2 (some (.object "java/lang/Object")) 1 := ⟨⟨q771, q749, q751, q85, q753⟩, ⟨q748, q747, q752, q750, q674⟩, by decide +kernel, by decide +kernel, by decide +kernel⟩
theorem gf_X8_80 : GF0 RX8 80 5 2 := ⟨RX6, TX6, 4, "LinkElection$Library", rfl, by decide, cf_X6, Or.inl rfl, Or.inr ⟨_, q1473⟩⟩
theorem sv_X8_84 : SV RX8 84 yX2_offered cX2_offered 4 (some .int) 1 := ⟨q773, q774, q775, q83, q776, ⟨by decide +kernel, by decide +kernel, by decide +kernel⟩⟩
theorem sv_X8_87 : SV RX8 87 yX2_friends cX2_friends 4 (some .int) 1 := ⟨q1110, q1111, q1112, q83, q1113, ⟨by decide +kernel, by decide +kernel, by decide +kernel⟩⟩
theorem ss_X8_96 : SS RX8 96 yJ16_min_2 cJ16_min_2 4 (some .long) 2 := ⟨q1123, q1124, q98, q1125, ⟨by decide +kernel, by decide +kernel, by decide +kernel⟩⟩
theorem ss_X8_102 : SS RX8 102 yJ16_max_2 cJ16_max_2 4 (some .long) 2 := ⟨q1126, q1127, q98, q1128, ⟨by decide +kernel, by decide +kernel, by decide +kernel⟩⟩
theorem sv_X8_121 : SV RX8 121 yX8_choice cX8_choice 6 (some .int) 2 := ⟨q1134, q1136, qs5, q120, q1137, ⟨by decide +kernel, by decide +kernel, by decide +kernel⟩⟩
theorem gf_X8_45 : GF0 RX8 45 7 5 := ⟨RX8, TX8, 8, "LinkElection$Election", rfl, by decide, cf_X8, Or.inl rfl, Or.inl q1163⟩
theorem gf_X8_48 : GF0 RX8 48 7 6 := ⟨RX8, TX8, 8, "LinkElection$Election", rfl, by decide, cf_X8, Or.inl rfl, Or.inl q1165⟩
theorem gf_X8_37 : GF0 RX8 37 7 3 := ⟨RX8, TX8, 8, "LinkElection$Election", rfl, by decide, cf_X8, Or.inl rfl, Or.inl q1159⟩
theorem gf_X8_34 : GF0 RX8 34 7 2 := ⟨RX8, TX8, 8, "LinkElection$Election", rfl, by decide, cf_X8, Or.inl rfl, Or.inl q1156⟩
theorem gf_X8_124 : GF0 RX8 124 1 3 := ⟨RX2, TX2, 6, "LinkElection$House", rfl, by decide, cf_X2, Or.inl rfl, Or.inr ⟨_, q616⟩⟩
theorem sv_X8_118 : SV RX8 118 yJ20_intValue cJ20_intValue 1 (some .int) 0 := ⟨q1147, q766, q767, q103, q768, ⟨by decide +kernel, by decide +kernel, by decide +kernel⟩⟩
theorem sv_X8_109 : SV RX8 109 yX8_isCandidate cX8_isCandidate 3 (some .boolean) 2 := ⟨q1142, q1143, q1144, q120, q1145, ⟨by decide +kernel, by decide +kernel, by decide +kernel⟩⟩
theorem gf_X8_51 : GF0 RX8 51 7 7 := ⟨RX8, TX8, 8, "LinkElection$Election", rfl, by decide, cf_X8, Or.inl rfl, Or.inl q1167⟩
theorem sv_X8_127 : SV RX8 127 yX8_bound cX8_bound 5 (some .int) 2 := ⟨q1148, q1150, qs6, q120, q1151, ⟨by decide +kernel, by decide +kernel, by decide +kernel⟩⟩
theorem sv_X8_105 : SV RX8 105 yX8_isLoaded cX8_isLoaded 2 (some .boolean) 1 := ⟨q1138, q1139, q1140, q120, q1141, ⟨by decide +kernel, by decide +kernel, by decide +kernel⟩⟩
theorem gf_X8_113 : GF0 RX8 113 5 1 := ⟨RX6, TX6, 4, "LinkElection$Library", rfl, by decide, cf_X6, Or.inl rfl, Or.inr ⟨_, q1468⟩⟩
theorem gf_X8_130 : GF0 RX8 130 1 5 := ⟨RX2, TX2, 6, "LinkElection$House", rfl, by decide, cf_X2, Or.inl rfl, Or.inr ⟨_, q621⟩⟩
theorem gf_X8_133 : GF0 RX8 133 5 3 := ⟨RX6, TX6, 4, "LinkElection$Library", rfl, by decide, cf_X6, Or.inl rfl, Or.inr ⟨_, q1476⟩⟩
theorem ss_X8_137 : SS RX8 137 yJ16_max cJ16_max 2 (some .int) 2 := ⟨q1873, q378, q98, q379, ⟨by decide +kernel, by decide +kernel, by decide +kernel⟩⟩
theorem pf_X9_9 : GF RX9 9 8 2 .int false := ⟨RX9, TX9, 3, "LinkElection$Call", rfl, by decide, cf_X9, Or.inl rfl, Or.inl q1208, rfl, rfl, fun h => by cases h⟩
theorem pf_X9_15 : GF RX9 15 8 0 (.object "LinkElection$Election") true := ⟨RX9, TX9, 3, "LinkElection$Call", rfl, by decide, cf_X9, Or.inl rfl, Or.inl q1205, rfl, rfl, fun _ => rfl⟩
theorem gf_X9_15 : GF0 RX9 15 8 0 := ⟨RX9, TX9, 3, "LinkElection$Call", rfl, by decide, cf_X9, Or.inl rfl, Or.inl q1205⟩
theorem gf_X9_19 : GF0 RX9 19 7 1 := ⟨RX8, TX8, 8, "LinkElection$Election", rfl, by decide, cf_X8, Or.inl rfl, Or.inr ⟨_, q1154⟩⟩
theorem gf_X9_25 : GF0 RX9 25 7 2 := ⟨RX8, TX8, 8, "LinkElection$Election", rfl, by decide, cf_X8, Or.inl rfl, Or.inr ⟨_, q1157⟩⟩
theorem sv_X9_30 : SV RX9 30 yX8_isLoaded cX8_isLoaded 2 (some .boolean) 1 := ⟨q1223, q1139, q1140, q120, q1141, ⟨by decide +kernel, by decide +kernel, by decide +kernel⟩⟩
theorem gf_X9_34 : GF0 RX9 34 7 7 := ⟨RX8, TX8, 8, "LinkElection$Election", rfl, by decide, cf_X8, Or.inl rfl, Or.inr ⟨_, q1168⟩⟩
theorem gf_X9_38 : GF0 RX9 38 8 1 := ⟨RX9, TX9, 3, "LinkElection$Call", rfl, by decide, cf_X9, Or.inl rfl, Or.inl q1206⟩
theorem pf_X9_38 : GF RX9 38 8 1 .int false := ⟨RX9, TX9, 3, "LinkElection$Call", rfl, by decide, cf_X9, Or.inl rfl, Or.inl q1206, rfl, rfl, fun h => by cases h⟩
theorem gf_X9_41 : GF0 RX9 41 7 4 := ⟨RX8, TX8, 8, "LinkElection$Election", rfl, by decide, cf_X8, Or.inl rfl, Or.inr ⟨_, q1161⟩⟩
theorem si_J1_42 : SI RJ1 42 yJ0_init cJ0_init 1 0 := ⟨q135, q136, q81, q137, rfl, ⟨by decide +kernel, by decide +kernel, by decide +kernel⟩⟩
theorem pf_J1_3 : GF RJ1 3 9 0 (.array (.object "java/lang/Object")) false := ⟨RJ1, TJ1, 3, "java/util/ArrayDeque", rfl, by decide, cf_J1, Or.inl rfl, Or.inl q141, rfl, rfl, fun h => by cases h⟩
theorem gf_J1_24 : GF0 RJ1 24 9 1 := ⟨RJ1, TJ1, 3, "java/util/ArrayDeque", rfl, by decide, cf_J1, Or.inl rfl, Or.inl q142⟩
theorem gf_J1_20 : GF0 RJ1 20 9 2 := ⟨RJ1, TJ1, 3, "java/util/ArrayDeque", rfl, by decide, cf_J1, Or.inl rfl, Or.inl q143⟩
theorem sv_J1_100 : SV RJ1 100 yJ1_pollLast cJ1_pollLast 4 (some (.object "java/lang/Object")) 0 := ⟨q700, q701, q702, q82, q703, ⟨by decide +kernel, by decide +kernel, by decide +kernel⟩⟩
theorem gf_J1_3 : GF0 RJ1 3 9 0 := ⟨RJ1, TJ1, 3, "java/util/ArrayDeque", rfl, by decide, cf_J1, Or.inl rfl, Or.inl q141⟩
theorem ss_J1_68 : SS RJ1 68 yJ1_dec cJ1_dec 2 (some .int) 2 := ⟨q704, q705, q82, q706, ⟨by decide +kernel, by decide +kernel, by decide +kernel⟩⟩
theorem ss_J1_103 : SS RJ1 103 yJ1_elementAt cJ1_elementAt 2 (some (.object "java/lang/Object")) 2 := ⟨q707, q708, q82, q709, ⟨by decide +kernel, by decide +kernel, by decide +kernel⟩⟩
theorem pf_J1_20 : GF RJ1 20 9 2 .int false := ⟨RJ1, TJ1, 3, "java/util/ArrayDeque", rfl, by decide, cf_J1, Or.inl rfl, Or.inl q143, rfl, rfl, fun h => by cases h⟩
theorem ss_J1_127 : SS RJ1 127 yJ1_sub cJ1_sub 3 (some .int) 3 := ⟨q714, q715, q82, q716, ⟨by decide +kernel, by decide +kernel, by decide +kernel⟩⟩
theorem sv_J1_93 : SV RJ1 93 yJ1_pollFirst cJ1_pollFirst 4 (some (.object "java/lang/Object")) 0 := ⟨q1725, q1726, q1727, q82, q1728, ⟨by decide +kernel, by decide +kernel, by decide +kernel⟩⟩
theorem ss_J1_74 : SS RJ1 74 yJ1_inc cJ1_inc 2 (some .int) 2 := ⟨q1729, q1730, q82, q1731, ⟨by decide +kernel, by decide +kernel, by decide +kernel⟩⟩
theorem pf_J1_24 : GF RJ1 24 9 1 .int false := ⟨RJ1, TJ1, 3, "java/util/ArrayDeque", rfl, by decide, cf_J1, Or.inl rfl, Or.inl q142, rfl, rfl, fun h => by cases h⟩
theorem sv_J1_71 : SV RJ1 71 yJ1_grow cJ1_grow 9 none 1 := ⟨q1736, q1738, qs31, q82, q1739, ⟨by decide +kernel, by decide +kernel, by decide +kernel⟩⟩
theorem sv_J1_10 : SV RJ1 10 yJ1_newCapacity cJ1_newCapacity 5 (some .int) 2 := ⟨q1741, q1743, qs32, q82, q1744, ⟨by decide +kernel, by decide +kernel, by decide +kernel⟩⟩
theorem ss_J1_14 : SS RJ1 14 yJ17_copyOf_2 cJ17_copyOf_2 2 (some (.array (.object "java/lang/Object"))) 2 := ⟨q1762, q1422, q99, q1423, ⟨by decide +kernel, by decide +kernel, by decide +kernel⟩⟩
theorem si_J1_37 : SI RJ1 37 yJ27_init cJ27_init 2 1 := ⟨q1755, q1756, q117, q1757, rfl, ⟨by decide +kernel, by decide +kernel, by decide +kernel⟩⟩
theorem pf_J10_7 : GF RJ10 7 4 0 (.object "java/lang/Throwable") false := ⟨RX5, TX5, 8, "java/lang/Throwable", rfl, by decide, cf_X5, Or.inl rfl, Or.inl q547, rfl, rfl, fun h => by cases h⟩
theorem pf_J10_17 : GF RJ10 17 4 1 (.array (.object "java/lang/StackTraceElement")) false := ⟨RX5, TX5, 8, "java/lang/Throwable", rfl, by decide, cf_X5, Or.inl rfl, Or.inl q548, rfl, rfl, fun h => by cases h⟩
theorem pf_J10_24 : GF RJ10 24 4 2 (.object "java/util/List") false := ⟨RX5, TX5, 8, "java/lang/Throwable", rfl, by decide, cf_X5, Or.inl rfl, Or.inl q549, rfl, rfl, fun h => by cases h⟩
theorem pf_J10_31 : GF RJ10 31 4 3 (.object "java/lang/String") false := ⟨RX5, TX5, 8, "java/lang/Throwable", rfl, by decide, cf_X5, Or.inl rfl, Or.inl q546, rfl, rfl, fun h => by cases h⟩
theorem si_J11_7 : SI RJ11 7 yJ10_init_2 cJ10_init_2 2 1 := ⟨q542, q543, q92, q544, rfl, ⟨by decide +kernel, by decide +kernel, by decide +kernel⟩⟩
theorem si_J11_1 : SI RJ11 1 yJ10_init cJ10_init 1 0 := ⟨q1250, q304, q92, q305, rfl, ⟨by decide +kernel, by decide +kernel, by decide +kernel⟩⟩
theorem si_J11_16 : SI RJ11 16 yJ10_init_3 cJ10_init_3 5 4 := ⟨q1352, q1353, q92, q1354, rfl, ⟨by decide +kernel, by decide +kernel, by decide +kernel⟩⟩
theorem si_J12_7 : SI RJ12 7 yJ11_init cJ11_init 2 1 := ⟨q539, q540, q93, q541, rfl, ⟨by decide +kernel, by decide +kernel, by decide +kernel⟩⟩
theorem si_J12_1 : SI RJ12 1 yJ11_init_2 cJ11_init_2 1 0 := ⟨q1247, q1248, q93, q1249, rfl, ⟨by decide +kernel, by decide +kernel, by decide +kernel⟩⟩
theorem si_J13_7 : SI RJ13 7 yJ12_init cJ12_init 2 1 := ⟨q536, q537, q94, q538, rfl, ⟨by decide +kernel, by decide +kernel, by decide +kernel⟩⟩
theorem si_J13_1 : SI RJ13 1 yJ12_init_2 cJ12_init_2 1 0 := ⟨q1244, q1245, q94, q1246, rfl, ⟨by decide +kernel, by decide +kernel, by decide +kernel⟩⟩
theorem pf_J14_15 : GF RJ14 15 14 0 (.array .byte) false := ⟨RJ15, TJ15, 4, "java/lang/AbstractStringBuilder", rfl, by decide, cf_J15, Or.inl rfl, Or.inl q341, rfl, rfl, fun h => by cases h⟩
theorem pf_J14_22 : GF RJ14 22 14 1 .byte false := ⟨RJ15, TJ15, 4, "java/lang/AbstractStringBuilder", rfl, by decide, cf_J15, Or.inl rfl, Or.inl q342, rfl, rfl, fun h => by cases h⟩
theorem sv_J14_32 : SV RJ14 32 yJ6_length cJ6_length 1 (some .int) 0 := ⟨q423, q424, q425, q88, q426, ⟨by decide +kernel, by decide +kernel, by decide +kernel⟩⟩
theorem gf_J14_79 : GF0 RJ14 79 14 3 := ⟨RJ15, TJ15, 4, "java/lang/AbstractStringBuilder", rfl, by decide, cf_J15, Or.inl rfl, Or.inl q344⟩
theorem pf_J14_79 : GF RJ14 79 14 3 .int false := ⟨RJ15, TJ15, 4, "java/lang/AbstractStringBuilder", rfl, by decide, cf_J15, Or.inl rfl, Or.inl q344, rfl, rfl, fun h => by cases h⟩
theorem gf_J14_15 : GF0 RJ14 15 14 0 := ⟨RJ15, TJ15, 4, "java/lang/AbstractStringBuilder", rfl, by decide, cf_J15, Or.inl rfl, Or.inl q341⟩
theorem gf_J14_22 : GF0 RJ14 22 14 1 := ⟨RJ15, TJ15, 4, "java/lang/AbstractStringBuilder", rfl, by decide, cf_J15, Or.inl rfl, Or.inl q342⟩
theorem ss_J14_108 : SS RJ14 108 yJ17_copyOf cJ17_copyOf 3 (some (.array .byte)) 2 := ⟨q385, q386, q99, q387, ⟨by decide +kernel, by decide +kernel, by decide +kernel⟩⟩
theorem ss_J14_114 : SS RJ14 114 yJ8_newLength cJ8_newLength 4 (some .int) 3 := ⟨q374, q375, q90, q376, ⟨by decide +kernel, by decide +kernel, by decide +kernel⟩⟩
theorem ss_J14_191 : SS RJ14 191 yJ7_canEncode cJ7_canEncode 1 (some .boolean) 1 := ⟨q1317, q1318, q89, q1319, ⟨by decide +kernel, by decide +kernel, by decide +kernel⟩⟩
theorem si_J15_1 : SI RJ15 1 yJ14_init cJ14_init 2 1 := ⟨q329, q330, q96, q331, rfl, ⟨by decide +kernel, by decide +kernel, by decide +kernel⟩⟩
theorem nw_J15_18 : NW RJ15 18 13 4 [.null, .int 0, .int 0, .int 0] := ⟨RJ6, TJ6, tyJ6, rfl, in_J6, tyJ6_ok, q494, q495, q88, by decide⟩
theorem si_J15_137 : SI RJ15 137 yJ6_init cJ6_init 2 1 := ⟨q496, q497, q88, q498, rfl, ⟨by decide +kernel, by decide +kernel, by decide +kernel⟩⟩
theorem ss_J17_304 : SS RJ17 304 yJ16_min cJ16_min 2 (some .int) 2 := ⟨q395, q396, q98, q397, ⟨by decide +kernel, by decide +kernel, by decide +kernel⟩⟩
theorem ss_J17_339 : SS RJ17 339 yJ17_copyOfRangeByte cJ17_copyOfRangeByte 5 (some (.array .byte)) 3 := ⟨q520, q521, q99, q522, ⟨by decide +kernel, by decide +kernel, by decide +kernel⟩⟩
theorem ss_J17_343 : SS RJ17 343 yJ17_checkLength cJ17_checkLength 2 none 2 := ⟨q523, q524, q99, q525, ⟨by decide +kernel, by decide +kernel, by decide +kernel⟩⟩
theorem nw_J17_45 : NW RJ17 45 14 4 [.null, .int 0, .int 0, .int 0] := ⟨RJ15, TJ15, tyJ15, rfl, in_J15, tyJ15_ok, q527, q325, q97, by decide⟩
theorem si_J17_47 : SI RJ17 47 yJ15_init cJ15_init 1 0 := ⟨q528, q327, q97, q328, rfl, ⟨by decide +kernel, by decide +kernel, by decide +kernel⟩⟩
theorem sv_J17_54 : SV RJ17 54 yJ15_append_2 cJ15_append_2 2 (some (.object "java/lang/StringBuilder")) 1 := ⟨q529, q466, q467, q97, q468, ⟨by decide +kernel, by decide +kernel, by decide +kernel⟩⟩
theorem sv_J17_50 : SV RJ17 50 yJ15_append cJ15_append 2 (some (.object "java/lang/StringBuilder")) 1 := ⟨q531, q356, q357, q97, q358, ⟨by decide +kernel, by decide +kernel, by decide +kernel⟩⟩
theorem sv_J17_61 : SV RJ17 61 yJ15_toString cJ15_toString 1 (some (.object "java/lang/String")) 0 := ⟨q532, q491, q492, q97, q493, ⟨by decide +kernel, by decide +kernel, by decide +kernel⟩⟩
theorem si_J17_65 : SI RJ17 65 yJ13_init cJ13_init 2 1 := ⟨q533, q534, q95, q535, rfl, ⟨by decide +kernel, by decide +kernel, by decide +kernel⟩⟩
theorem ss_J17_300 : SS RJ17 300 yJ17_copyOf_3 cJ17_copyOf_3 4 (some (.array (.object "java/lang/Object"))) 3 := ⟨q1425, q1426, q99, q1427, ⟨by decide +kernel, by decide +kernel, by decide +kernel⟩⟩
theorem si_J2_1 : SI RJ2 1 yJ0_init cJ0_init 1 0 := ⟨q162, q136, q81, q137, rfl, ⟨by decide +kernel, by decide +kernel, by decide +kernel⟩⟩
theorem pf_J2_7 : GF RJ2 7 10 0 .int false := ⟨RJ3, TJ3, 3, "java/util/AbstractList", rfl, by decide, cf_J3, Or.inl rfl, Or.inl q167, rfl, rfl, fun h => by cases h⟩
theorem gf_J20_205 : GF0 RJ20 205 15 0 := ⟨RJ20, TJ20, 1, "java/lang/Integer", rfl, by decide, cf_J20, Or.inl rfl, Or.inl q1506⟩
theorem nw_J20_1 : NW RJ20 1 15 1 [.int 0] := ⟨RJ20, TJ20, tyJ20, rfl, in_J20, tyJ20_ok, q859, q1498, q103, by decide⟩
theorem si_J20_199 : SI RJ20 199 yJ20_init cJ20_init 2 1 := ⟨q1499, q1500, q103, q1501, rfl, ⟨by decide +kernel, by decide +kernel, by decide +kernel⟩⟩
theorem si_J20_202 : SI RJ20 202 yJ19_init cJ19_init 1 0 := ⟨q1502, q1503, q102, q1504, rfl, ⟨by decide +kernel, by decide +kernel, by decide +kernel⟩⟩
theorem pf_J20_205 : GF RJ20 205 15 0 .int true := ⟨RJ20, TJ20, 1, "java/lang/Integer", rfl, by decide, cf_J20, Or.inl rfl, Or.inl q1506, rfl, rfl, fun _ => rfl⟩
theorem ss_J21_105 : SS RJ21 105 yJ18_checkIndex cJ18_checkIndex 3 (some .int) 3 := ⟨q757, q758, q101, q759, ⟨by decide +kernel, by decide +kernel, by decide +kernel⟩⟩
theorem pf_J24_7 : GF RJ24 7 12 0 .int true := ⟨RJ24, TJ24, 4, "java/util/HashMap$Node", rfl, by decide, cf_J24, Or.inl rfl, Or.inl q1552, rfl, rfl, fun _ => rfl⟩
theorem pf_J24_13 : GF RJ24 13 12 1 (.object "java/lang/Object") true := ⟨RJ24, TJ24, 4, "java/util/HashMap$Node", rfl, by decide, cf_J24, Or.inl rfl, Or.inl q1556, rfl, rfl, fun _ => rfl⟩
theorem pf_J24_17 : GF RJ24 17 12 2 (.object "java/lang/Object") false := ⟨RJ24, TJ24, 4, "java/util/HashMap$Node", rfl, by decide, cf_J24, Or.inl rfl, Or.inl q1560, rfl, rfl, fun h => by cases h⟩
theorem pf_J24_20 : GF RJ24 20 12 3 (.object "java/util/HashMap$Node") false := ⟨RJ24, TJ24, 4, "java/util/HashMap$Node", rfl, by decide, cf_J24, Or.inl rfl, Or.inl q1562, rfl, rfl, fun h => by cases h⟩
theorem si_J27_7 : SI RJ27 7 yJ12_init cJ12_init 2 1 := ⟨q1758, q537, q94, q538, rfl, ⟨by decide +kernel, by decide +kernel, by decide +kernel⟩⟩
theorem si_J27_1 : SI RJ27 1 yJ12_init_2 cJ12_init_2 1 0 := ⟨q1928, q1245, q94, q1246, rfl, ⟨by decide +kernel, by decide +kernel, by decide +kernel⟩⟩
theorem si_J28_7 : SI RJ28 7 yJ12_init cJ12_init 2 1 := ⟨q1774, q537, q94, q538, rfl, ⟨by decide +kernel, by decide +kernel, by decide +kernel⟩⟩
theorem si_J28_1 : SI RJ28 1 yJ12_init_2 cJ12_init_2 1 0 := ⟨q1809, q1245, q94, q1246, rfl, ⟨by decide +kernel, by decide +kernel, by decide +kernel⟩⟩
theorem si_J3_1 : SI RJ3 1 yJ2_init cJ2_init 1 0 := ⟨q159, q160, q84, q161, rfl, ⟨by decide +kernel, by decide +kernel, by decide +kernel⟩⟩
theorem pf_J3_9 : GF RJ3 9 10 1 (.array (.object "java/lang/Object")) false := ⟨RJ3, TJ3, 3, "java/util/ArrayList", rfl, by decide, cf_J3, Or.inl rfl, Or.inl q165, rfl, rfl, fun h => by cases h⟩
theorem gf_J3_48 : GF0 RJ3 48 10 2 := ⟨RJ3, TJ3, 3, "java/util/ArrayList", rfl, by decide, cf_J3, Or.inl rfl, Or.inl q166⟩
theorem ss_J3_118 : SS RJ3 118 yJ21_checkIndex cJ21_checkIndex 2 (some .int) 2 := ⟨q754, q755, q107, q756, ⟨by decide +kernel, by decide +kernel, by decide +kernel⟩⟩
theorem sv_J3_123 : SV RJ3 123 yJ3_elementData cJ3_elementData 2 (some (.object "java/lang/Object")) 1 := ⟨q760, q761, q762, q85, q763, ⟨by decide +kernel, by decide +kernel, by decide +kernel⟩⟩
theorem gf_J3_9 : GF0 RJ3 9 10 1 := ⟨RJ3, TJ3, 3, "java/util/ArrayList", rfl, by decide, cf_J3, Or.inl rfl, Or.inl q165⟩
theorem gf_J3_63 : GF0 RJ3 63 10 0 := ⟨RJ3, TJ3, 3, "java/util/ArrayList", rfl, by decide, cf_J3, Or.inr q169, Or.inl q168⟩
theorem pf_J3_63 : GF RJ3 63 10 0 .int false := ⟨RJ3, TJ3, 3, "java/util/ArrayList", rfl, by decide, cf_J3, Or.inr q169, Or.inl q168, rfl, rfl, fun h => by cases h⟩
theorem sv_J3_131 : SV RJ3 131 yJ3_add_2 cJ3_add_2 4 none 3 := ⟨q1408, q1410, qs16, q85, q1411, ⟨by decide +kernel, by decide +kernel, by decide +kernel⟩⟩
theorem sv_J3_129 : SV RJ3 129 yJ3_grow cJ3_grow 1 (some (.array (.object "java/lang/Object"))) 0 := ⟨q1412, q1414, qs17, q85, q1415, ⟨by decide +kernel, by decide +kernel, by decide +kernel⟩⟩
theorem pf_J3_48 : GF RJ3 48 10 2 .int false := ⟨RJ3, TJ3, 3, "java/util/ArrayList", rfl, by decide, cf_J3, Or.inl rfl, Or.inl q166, rfl, rfl, fun h => by cases h⟩
theorem sv_J3_69 : SV RJ3 69 yJ3_grow_2 cJ3_grow_2 4 (some (.array (.object "java/lang/Object"))) 1 := ⟨q1416, q1418, qs18, q85, q1419, ⟨by decide +kernel, by decide +kernel, by decide +kernel⟩⟩
theorem ss_J3_73 : SS RJ3 73 yJ8_newLength cJ8_newLength 4 (some .int) 3 := ⟨q1420, q375, q90, q376, ⟨by decide +kernel, by decide +kernel, by decide +kernel⟩⟩
theorem ss_J3_66 : SS RJ3 66 yJ17_copyOf_2 cJ17_copyOf_2 2 (some (.array (.object "java/lang/Object"))) 2 := ⟨q1421, q1422, q99, q1423, ⟨by decide +kernel, by decide +kernel, by decide +kernel⟩⟩
theorem ss_J3_79 : SS RJ3 79 yJ16_max cJ16_max 2 (some .int) 2 := ⟨q1430, q378, q98, q379, ⟨by decide +kernel, by decide +kernel, by decide +kernel⟩⟩
theorem sv_J3_144 : SV RJ3 144 yJ3_fastRemove cJ3_fastRemove 4 none 2 := ⟨q1957, q1959, qs37, q85, q1960, ⟨by decide +kernel, by decide +kernel, by decide +kernel⟩⟩
theorem si_J5_43 : SI RJ5 43 yJ4_init cJ4_init 1 0 := ⟨q188, q189, q86, q190, rfl, ⟨by decide +kernel, by decide +kernel, by decide +kernel⟩⟩
theorem pf_J5_81 : GF RJ5 81 11 7 .float true := ⟨RJ5, TJ5, 8, "java/util/HashMap", rfl, by decide, cf_J5, Or.inl rfl, Or.inl q197, rfl, rfl, fun _ => rfl⟩
theorem sv_J5_158 : SV RJ5 158 yJ5_getNode cJ5_getNode 8 (some (.object "java/util/HashMap$Node")) 1 := ⟨q799, q800, q801, q87, q802, ⟨by decide +kernel, by decide +kernel, by decide +kernel⟩⟩
theorem gf_J5_162 : GF0 RJ5 162 12 2 := ⟨RJ24, TJ24, 4, "java/util/HashMap$Node", rfl, by decide, cf_J24, Or.inl rfl, Or.inl q1561⟩
theorem gf_J5_105 : GF0 RJ5 105 11 2 := ⟨RJ5, TJ5, 8, "java/util/HashMap", rfl, by decide, cf_J5, Or.inl rfl, Or.inl q193⟩
theorem ss_J5_149 : SS RJ5 149 yJ5_hash cJ5_hash 2 (some .int) 1 := ⟨q803, q804, q87, q805, ⟨by decide +kernel, by decide +kernel, by decide +kernel⟩⟩
theorem gf_J5_168 : GF0 RJ5 168 12 0 := ⟨RJ24, TJ24, 4, "java/util/HashMap$Node", rfl, by decide, cf_J24, Or.inl rfl, Or.inl q1555⟩
theorem gf_J5_170 : GF0 RJ5 170 12 1 := ⟨RJ24, TJ24, 4, "java/util/HashMap$Node", rfl, by decide, cf_J24, Or.inl rfl, Or.inl q1559⟩
theorem gf_J5_177 : GF0 RJ5 177 12 3 := ⟨RJ24, TJ24, 4, "java/util/HashMap$Node", rfl, by decide, cf_J24, Or.inl rfl, Or.inl q1566⟩
theorem sv_J5_228 : SV RJ5 228 yJ5_removeNode cJ5_removeNode 14 (some (.object "java/util/HashMap$Node")) 5 := ⟨q1529, q1530, q1531, q87, q1532, ⟨by decide +kernel, by decide +kernel, by decide +kernel⟩⟩
theorem pf_J5_177 : GF RJ5 177 12 3 (.object "java/util/HashMap$Node") false := ⟨RJ24, TJ24, 4, "java/util/HashMap$Node", rfl, by decide, cf_J24, Or.inl rfl, Or.inl q1566, rfl, rfl, fun h => by cases h⟩
theorem gf_J5_202 : GF0 RJ5 202 11 5 := ⟨RJ5, TJ5, 8, "java/util/HashMap", rfl, by decide, cf_J5, Or.inl rfl, Or.inl q195⟩
theorem pf_J5_202 : GF RJ5 202 11 5 .int false := ⟨RJ5, TJ5, 8, "java/util/HashMap", rfl, by decide, cf_J5, Or.inl rfl, Or.inl q195, rfl, rfl, fun h => by cases h⟩
theorem gf_J5_156 : GF0 RJ5 156 11 4 := ⟨RJ5, TJ5, 8, "java/util/HashMap", rfl, by decide, cf_J5, Or.inl rfl, Or.inl q194⟩
theorem pf_J5_156 : GF RJ5 156 11 4 .int false := ⟨RJ5, TJ5, 8, "java/util/HashMap", rfl, by decide, cf_J5, Or.inl rfl, Or.inl q194, rfl, rfl, fun h => by cases h⟩
theorem sv_J5_236 : SV RJ5 236 yJ5_afterNodeRemoval cJ5_afterNodeRemoval 2 none 1 := ⟨q1591, q1592, q1593, q87, q1594, ⟨by decide +kernel, by decide +kernel, by decide +kernel⟩⟩
theorem sv_J5_152 : SV RJ5 152 yJ5_putVal cJ5_putVal 13 (some (.object "java/lang/Object")) 5 := ⟨q1599, q1600, q1601, q87, q1602, ⟨by decide +kernel, by decide +kernel, by decide +kernel⟩⟩
theorem sv_J5_117 : SV RJ5 117 yJ5_resize cJ5_resize 14 (some (.array (.object "java/util/HashMap$Node"))) 0 := ⟨q1603, q1604, q1605, q87, q1606, ⟨by decide +kernel, by decide +kernel, by decide +kernel⟩⟩
theorem sv_J5_186 : SV RJ5 186 yJ5_newNode cJ5_newNode 5 (some (.object "java/util/HashMap$Node")) 4 := ⟨q1622, q1623, q1624, q87, q1625, ⟨by decide +kernel, by decide +kernel, by decide +kernel⟩⟩
theorem pf_J5_162 : GF RJ5 162 12 2 (.object "java/lang/Object") false := ⟨RJ24, TJ24, 4, "java/util/HashMap$Node", rfl, by decide, cf_J24, Or.inl rfl, Or.inl q1561, rfl, rfl, fun h => by cases h⟩
theorem sv_J5_198 : SV RJ5 198 yJ5_afterNodeAccess cJ5_afterNodeAccess 2 none 1 := ⟨q1676, q1677, q1678, q87, q1679, ⟨by decide +kernel, by decide +kernel, by decide +kernel⟩⟩
theorem gf_J5_88 : GF0 RJ5 88 11 6 := ⟨RJ5, TJ5, 8, "java/util/HashMap", rfl, by decide, cf_J5, Or.inl rfl, Or.inl q196⟩
theorem sv_J5_205 : SV RJ5 205 yJ5_afterNodeInsertion cJ5_afterNodeInsertion 2 none 1 := ⟨q1680, q1681, q1682, q87, q1683, ⟨by decide +kernel, by decide +kernel, by decide +kernel⟩⟩
theorem pf_J5_88 : GF RJ5 88 11 6 .int false := ⟨RJ5, TJ5, 8, "java/util/HashMap", rfl, by decide, cf_J5, Or.inl rfl, Or.inl q196, rfl, rfl, fun h => by cases h⟩
theorem gf_J5_81 : GF0 RJ5 81 11 7 := ⟨RJ5, TJ5, 8, "java/util/HashMap", rfl, by decide, cf_J5, Or.inl rfl, Or.inl q197⟩
theorem pf_J5_105 : GF RJ5 105 11 2 (.array (.object "java/util/HashMap$Node")) false := ⟨RJ5, TJ5, 8, "java/util/HashMap", rfl, by decide, cf_J5, Or.inl rfl, Or.inl q193, rfl, rfl, fun h => by cases h⟩
theorem nw_J5_163 : NW RJ5 163 12 4 [.int 0, .null, .null, .null] := ⟨RJ24, TJ24, tyJ24, rfl, in_J24, tyJ24_ok, q1546, q1547, q114, by decide⟩
theorem si_J5_375 : SI RJ5 375 yJ24_init cJ24_init 5 4 := ⟨q1548, q1549, q114, q1550, rfl, ⟨by decide +kernel, by decide +kernel, by decide +kernel⟩⟩
theorem gf_J6_19 : GF0 RJ6 19 13 2 := ⟨RJ6, TJ6, 4, "java/lang/String", rfl, by decide, cf_J6, Or.inl rfl, Or.inl q571⟩
theorem gf_J6_23 : GF0 RJ6 23 13 3 := ⟨RJ6, TJ6, 4, "java/lang/String", rfl, by decide, cf_J6, Or.inl rfl, Or.inl q572⟩
theorem sv_J6_492 : SV RJ6 492 yJ6_isLatin1 cJ6_isLatin1 1 (some .boolean) 0 := ⟨q223, q224, q225, q88, q226, ⟨by decide +kernel, by decide +kernel, by decide +kernel⟩⟩
theorem gf_J6_9 : GF0 RJ6 9 13 0 := ⟨RJ6, TJ6, 4, "java/lang/String", rfl, by decide, cf_J6, Or.inl rfl, Or.inl q569⟩
theorem ss_J6_628 : SS RJ6 628 yJ7_hashCode cJ7_hashCode 1 (some .int) 1 := ⟨q229, q230, q89, q231, ⟨by decide +kernel, by decide +kernel, by decide +kernel⟩⟩
theorem pf_J6_23 : GF RJ6 23 13 3 .boolean false := ⟨RJ6, TJ6, 4, "java/lang/String", rfl, by decide, cf_J6, Or.inl rfl, Or.inl q572, rfl, rfl, fun h => by cases h⟩
theorem pf_J6_19 : GF RJ6 19 13 2 .int false := ⟨RJ6, TJ6, 4, "java/lang/String", rfl, by decide, cf_J6, Or.inl rfl, Or.inl q571, rfl, rfl, fun h => by cases h⟩
theorem gf_J6_15 : GF0 RJ6 15 13 1 := ⟨RJ6, TJ6, 4, "java/lang/String", rfl, by decide, cf_J6, Or.inl rfl, Or.inl q570⟩
theorem sv_J6_335 : SV RJ6 335 yJ6_coder cJ6_coder 1 (some .byte) 0 := ⟨q427, q428, q429, q88, q430, ⟨by decide +kernel, by decide +kernel, by decide +kernel⟩⟩
theorem si_J6_489 : SI RJ6 489 yJ6_init_2 cJ6_init_2 5 2 := ⟨q499, q500, q88, q501, rfl, ⟨by decide +kernel, by decide +kernel, by decide +kernel⟩⟩
theorem pf_J6_15 : GF RJ6 15 13 1 .byte true := ⟨RJ6, TJ6, 4, "java/lang/String", rfl, by decide, cf_J6, Or.inl rfl, Or.inl q570, rfl, rfl, fun _ => rfl⟩
theorem ss_J6_54 : SS RJ6 54 yJ17_copyOfRange cJ17_copyOfRange 3 (some (.array .byte)) 3 := ⟨q517, q518, q99, q519, ⟨by decide +kernel, by decide +kernel, by decide +kernel⟩⟩
theorem pf_J6_9 : GF RJ6 9 13 0 (.array .byte) true := ⟨RJ6, TJ6, 4, "java/lang/String", rfl, by decide, cf_J6, Or.inl rfl, Or.inl q569, rfl, rfl, fun _ => rfl⟩
theorem gf_J6_1048 : GF0 RJ6 1048 14 2 := ⟨RJ15, TJ15, 4, "java/lang/AbstractStringBuilder", rfl, by decide, cf_J15, Or.inl rfl, Or.inl q343⟩
theorem ss_J6_541 : SS RJ6 541 yJ7_equals cJ7_equals 3 (some .boolean) 2 := ⟨q593, q594, q89, q595, ⟨by decide +kernel, by decide +kernel, by decide +kernel⟩⟩
theorem ss_J6_1059 : SS RJ6 1059 yJ18_checkIndex cJ18_checkIndex 3 (some .int) 3 := ⟨q1329, q758, q101, q759, ⟨by decide +kernel, by decide +kernel, by decide +kernel⟩⟩
theorem ss_J6_495 : SS RJ6 495 yJ7_charAt cJ7_charAt 2 (some .char) 2 := ⟨q2156, q2157, q89, q2158, ⟨by decide +kernel, by decide +kernel, by decide +kernel⟩⟩
theorem ss_J7_84 : SS RJ7 84 yJ8_vectorizedHashCode cJ8_vectorizedHashCode 5 (some .int) 5 := ⟨q232, q233, q90, q234, ⟨by decide +kernel, by decide +kernel, by decide +kernel⟩⟩
theorem ss_J7_9 : SS RJ7 9 yJ6_checkIndex cJ6_checkIndex 2 none 2 := ⟨q2159, q1327, q88, q1328, ⟨by decide +kernel, by decide +kernel, by decide +kernel⟩⟩
theorem ss_J8_62 : SS RJ8 62 yJ8_signedHashCode cJ8_signedHashCode 6 (some .int) 4 := ⟨q236, q237, q90, q238, ⟨by decide +kernel, by decide +kernel, by decide +kernel⟩⟩
theorem ss_J8_71 : SS RJ8 71 yJ8_hashCode cJ8_hashCode 6 (some .int) 4 := ⟨q267, q268, q90, q269, ⟨by decide +kernel, by decide +kernel, by decide +kernel⟩⟩
theorem ss_J8_75 : SS RJ8 75 yJ8_hashCode_2 cJ8_hashCode_2 6 (some .int) 4 := ⟨q270, q271, q90, q272, ⟨by decide +kernel, by decide +kernel, by decide +kernel⟩⟩
theorem ss_J8_79 : SS RJ8 79 yJ8_hashCode_3 cJ8_hashCode_3 6 (some .int) 4 := ⟨q274, q275, q90, q276, ⟨by decide +kernel, by decide +kernel, by decide +kernel⟩⟩
theorem ss_J8_84 : SS RJ8 84 yJ8_hashCode_4 cJ8_hashCode_4 6 (some .int) 4 := ⟨q278, q279, q90, q280, ⟨by decide +kernel, by decide +kernel, by decide +kernel⟩⟩
theorem nw_J8_89 : NW RJ8 89 14 4 [.null, .int 0, .int 0, .int 0] := ⟨RJ15, TJ15, tyJ15, rfl, in_J15, tyJ15_ok, q324, q325, q97, by decide⟩
theorem si_J8_91 : SI RJ8 91 yJ15_init cJ15_init 1 0 := ⟨q326, q327, q97, q328, rfl, ⟨by decide +kernel, by decide +kernel, by decide +kernel⟩⟩
theorem sv_J8_94 : SV RJ8 94 yJ15_append cJ15_append 2 (some (.object "java/lang/StringBuilder")) 1 := ⟨q355, q356, q357, q97, q358, ⟨by decide +kernel, by decide +kernel, by decide +kernel⟩⟩
theorem sv_J8_98 : SV RJ8 98 yJ15_append_2 cJ15_append_2 2 (some (.object "java/lang/StringBuilder")) 1 := ⟨q465, q466, q467, q97, q468, ⟨by decide +kernel, by decide +kernel, by decide +kernel⟩⟩
theorem sv_J8_101 : SV RJ8 101 yJ15_toString cJ15_toString 1 (some (.object "java/lang/String")) 0 := ⟨q490, q491, q492, q97, q493, ⟨by decide +kernel, by decide +kernel, by decide +kernel⟩⟩
theorem si_J8_105 : SI RJ8 105 yJ13_init cJ13_init 2 1 := ⟨q582, q534, q95, q535, rfl, ⟨by decide +kernel, by decide +kernel, by decide +kernel⟩⟩
theorem ss_J8_194 : SS RJ8 194 yJ16_max cJ16_max 2 (some .int) 2 := ⟨q377, q378, q98, q379, ⟨by decide +kernel, by decide +kernel, by decide +kernel⟩⟩
theorem ss_J8_201 : SS RJ8 201 yJ8_hugeLength cJ8_hugeLength 3 (some .int) 2 := ⟨q381, q382, q90, q383, ⟨by decide +kernel, by decide +kernel, by decide +kernel⟩⟩
