set_option maxRecDepth 100000
abbrev zi0 : ZInf := (cX0_row, yX0_row, 4, (Option.some Jvm.ClassFile.FieldType.int), [])
abbrev zi1 : ZInf := (cX0_isSlot, yX0_isSlot, 1, (Option.some Jvm.ClassFile.FieldType.boolean), [])
abbrev zi2 : ZInf := (cX0_in, yX0_in, 6, (Option.some Jvm.ClassFile.FieldType.boolean), [])
abbrev zi3 : ZInf := (cX0_write, yX0_write, 5, (Option.some Jvm.ClassFile.FieldType.int), [])
abbrev zi4 : ZInf := (cX0_paste, yX0_paste, 6, (Option.some Jvm.ClassFile.FieldType.int), [])
abbrev zi5 : ZInf := (cX0_init, yX0_init, 2, (Option.none : Option Jvm.ClassFile.FieldType), [])
abbrev zi6 : ZInf := (cX0_feed, yX0_feed, 6, (Option.some Jvm.ClassFile.FieldType.int), [])
abbrev zi7 : ZInf := (cX0_puts, yX0_puts, 3, (Option.none : Option Jvm.ClassFile.FieldType), [])
abbrev zi8 : ZInf := (cX0_end, yX0_end, 2, (Option.some Jvm.ClassFile.FieldType.int), [])
abbrev zi9 : ZInf := (cX0_town, yX0_town, 4, (Option.some Jvm.ClassFile.FieldType.int), [((0 : Nat), (46 : Nat), (53 : Nat), (126 : Nat)), ((0 : Nat), (46 : Nat), (80 : Nat), (0 : Nat)), ((53 : Nat), (73 : Nat), (80 : Nat), (0 : Nat))])
abbrev zi10 : ZInf := (cX0_fault, yX0_fault, 2, (Option.some Jvm.ClassFile.FieldType.int), [])
abbrev zi11 : ZInf := (cX0_days, yX0_days, 2, (Option.some Jvm.ClassFile.FieldType.int), [])
abbrev zi12 : ZInf := (cX0_bars, yX0_bars, 4, (Option.some Jvm.ClassFile.FieldType.int), [])
abbrev zi13 : ZInf := (cX0_areTwo, yX0_areTwo, 3, (Option.some Jvm.ClassFile.FieldType.boolean), [])
abbrev zi14 : ZInf := (cX0_isHouse, yX0_isHouse, 2, (Option.some Jvm.ClassFile.FieldType.boolean), [])
abbrev zi15 : ZInf := (cX0_barsOf, yX0_barsOf, 4, (Option.some Jvm.ClassFile.FieldType.int), [])
abbrev zi16 : ZInf := (cX0_mayKnow, yX0_mayKnow, 3, (Option.some Jvm.ClassFile.FieldType.boolean), [])
abbrev zi17 : ZInf := (cX0_at, yX0_at, 2, (Option.some (Jvm.ClassFile.FieldType.object "CardBowl$House")), [])
abbrev zi18 : ZInf := (cX0_has, yX0_has, 2, (Option.some Jvm.ClassFile.FieldType.boolean), [])
abbrev zi19 : ZInf := (cX0_isNew, yX0_isNew, 2, (Option.some Jvm.ClassFile.FieldType.boolean), [])
abbrev zi20 : ZInf := (cX0_does, yX0_does, 4, (Option.some Jvm.ClassFile.FieldType.int), [])
abbrev zi21 : ZInf := (cX0_meet, yX0_meet, 4, (Option.some Jvm.ClassFile.FieldType.int), [])
abbrev zi22 : ZInf := (cX0_done, yX0_done, 9, (Option.some Jvm.ClassFile.FieldType.int), [])
abbrev zi23 : ZInf := (cX0_known, yX0_known, 3, (Option.some Jvm.ClassFile.FieldType.int), [])
abbrev zi24 : ZInf := (cX0_debts, yX0_debts, 2, (Option.some Jvm.ClassFile.FieldType.int), [])
abbrev zi25 : ZInf := (cX0_debt, yX0_debt, 5, (Option.some Jvm.ClassFile.FieldType.int), [])
abbrev zi26 : ZInf := (cX0_slights, yX0_slights, 2, (Option.some Jvm.ClassFile.FieldType.int), [])
abbrev zi27 : ZInf := (cX0_slightsOf, yX0_slightsOf, 4, (Option.some Jvm.ClassFile.FieldType.int), [])
abbrev zi28 : ZInf := (cX0_first, yX0_first, 5, (Option.some Jvm.ClassFile.FieldType.int), [])
abbrev zi29 : ZInf := (cX0_owes, yX0_owes, 5, (Option.some Jvm.ClassFile.FieldType.int), [])
abbrev zi30 : ZInf := (cX0_worth, yX0_worth, 3, (Option.some Jvm.ClassFile.FieldType.int), [])
abbrev zi31 : ZInf := (cX0_isRound, yX0_isRound, 3, (Option.some Jvm.ClassFile.FieldType.boolean), [])
abbrev zi32 : ZInf := (cX0_isDay, yX0_isDay, 2, (Option.some Jvm.ClassFile.FieldType.boolean), [])
abbrev zi33 : ZInf := (cX0_over, yX0_over, 3, (Option.some Jvm.ClassFile.FieldType.int), [])
abbrev zi34 : ZInf := (cX0_round, yX0_round, 4, (Option.some Jvm.ClassFile.FieldType.int), [])
abbrev zi35 : ZInf := (cX0_may, yX0_may, 10, (Option.some Jvm.ClassFile.FieldType.int), [])
abbrev zi36 : ZInf := (cX0_fewest, yX0_fewest, 8, (Option.some Jvm.ClassFile.FieldType.int), [])
abbrev zi37 : ZInf := (cX0_tenOf, yX0_tenOf, 5, (Option.some Jvm.ClassFile.FieldType.int), [])
abbrev zi38 : ZInf := (cX0_covers, yX0_covers, 9, (Option.some Jvm.ClassFile.FieldType.int), [])
abbrev zi39 : ZInf := (cX0_lost, yX0_lost, 7, (Option.some Jvm.ClassFile.FieldType.int), [])
abbrev zi40 : ZInf := (cX0_soon, yX0_soon, 4, (Option.some Jvm.ClassFile.FieldType.int), [])
abbrev zi41 : ZInf := (cX0_soonest, yX0_soonest, 4, (Option.some Jvm.ClassFile.FieldType.int), [])
abbrev zi42 : ZInf := (cX0_callsFrom, yX0_callsFrom, 6, (Option.some Jvm.ClassFile.FieldType.int), [])
abbrev zi43 : ZInf := (cX0_mayCall, yX0_mayCall, 4, (Option.some Jvm.ClassFile.FieldType.boolean), [])
abbrev zi44 : ZInf := (cX0_path, yX0_path, 8, (Option.some Jvm.ClassFile.FieldType.int), [])
abbrev zi45 : ZInf := (cX0_reach, yX0_reach, 2, (Option.some Jvm.ClassFile.FieldType.int), [])
abbrev zi46 : ZInf := (cX0_drop, yX0_drop, 5, (Option.some Jvm.ClassFile.FieldType.int), [])
abbrev zi47 : ZInf := (cX0_tie, yX0_tie, 3, (Option.some Jvm.ClassFile.FieldType.int), [])
abbrev zi48 : ZInf := (cX0_rings, yX0_rings, 4, (Option.some Jvm.ClassFile.FieldType.int), [])
abbrev zi49 : ZInf := (cX0_ringOf, yX0_ringOf, 4, (Option.some Jvm.ClassFile.FieldType.int), [])
abbrev zi50 : ZInf := (cX0_comesTo, yX0_comesTo, 5, (Option.some Jvm.ClassFile.FieldType.int), [])
abbrev zi51 : ZInf := (cX0_calledBy, yX0_calledBy, 4, (Option.some Jvm.ClassFile.FieldType.int), [])
abbrev zi52 : ZInf := (cX0_isSeeing, yX0_isSeeing, 1, (Option.some Jvm.ClassFile.FieldType.boolean), [])
abbrev zi53 : ZInf := (cX0_ring, yX0_ring, 2, (Option.some Jvm.ClassFile.FieldType.int), [])
abbrev zi54 : ZInf := (cX0_house, yX0_house, 8, (Option.some Jvm.ClassFile.FieldType.int), [])
abbrev zi55 : ZInf := (cX0_beside, yX0_beside, 5, (Option.some Jvm.ClassFile.FieldType.int), [])
abbrev zi56 : ZInf := (cX0_count, yX0_count, 4, (Option.some Jvm.ClassFile.FieldType.int), [])
abbrev zi57 : ZInf := (cX0_keep, yX0_keep, 2, (Option.some Jvm.ClassFile.FieldType.int), [])
abbrev zi58 : ZInf := (cX0_back, yX0_back, 2, (Option.some Jvm.ClassFile.FieldType.int), [])
abbrev zi59 : ZInf := (cX1_init, yX1_init, 1, (Option.none : Option Jvm.ClassFile.FieldType), [])
abbrev zi60 : ZInf := (cX1_begins, yX1_begins, 2, (Option.none : Option Jvm.ClassFile.FieldType), [])
abbrev zi61 : ZInf := (cX1_becomes, yX1_becomes, 3, (Option.none : Option Jvm.ClassFile.FieldType), [])
abbrev zi62 : ZInf := (cX2_init, yX2_init, 1, (Option.none : Option Jvm.ClassFile.FieldType), [])
abbrev zi63 : ZInf := (cX2_many, yX2_many, 1, (Option.some Jvm.ClassFile.FieldType.int), [])
abbrev zi64 : ZInf := (cX2_has, yX2_has, 2, (Option.some Jvm.ClassFile.FieldType.boolean), [])
abbrev zi65 : ZInf := (cX2_house, yX2_house, 2, (Option.some (Jvm.ClassFile.FieldType.object "CardBowl$House")), [])
abbrev zi66 : ZInf := (cX3_init, yX3_init, 1, (Option.none : Option Jvm.ClassFile.FieldType), [])
abbrev zi67 : ZInf := (cX3_begins, yX3_begins, 3, (Option.none : Option Jvm.ClassFile.FieldType), [])
abbrev zi68 : ZInf := (cX3_areKnown, yX3_areKnown, 3, (Option.some Jvm.ClassFile.FieldType.boolean), [])
abbrev zi69 : ZInf := (cX3_does, yX3_does, 8, (Option.some Jvm.ClassFile.FieldType.int), [])
abbrev zi70 : ZInf := (cX3_rule, yX3_rule, 6, (Option.some (Jvm.ClassFile.FieldType.object "CardBowl$Rule")), [])
abbrev zi71 : ZInf := (cX3_debtsOf, yX3_debtsOf, 4, (Option.some Jvm.ClassFile.FieldType.int), [])
abbrev zi72 : ZInf := (cX3_hasOpen, yX3_hasOpen, 6, (Option.some Jvm.ClassFile.FieldType.boolean), [])
abbrev zi73 : ZInf := (cX3_meets, yX3_meets, 3, (Option.none : Option Jvm.ClassFile.FieldType), [])
abbrev zi74 : ZInf := (cX3_debt, yX3_debt, 5, (Option.some (Jvm.ClassFile.FieldType.object "CardBowl$Debt")), [])
abbrev zi75 : ZInf := (cX3_greatest, yX3_greatest, 5, (Option.some Jvm.ClassFile.FieldType.int), [])
abbrev zi76 : ZInf := (cX3_worth, yX3_worth, 5, (Option.some Jvm.ClassFile.FieldType.int), [])
abbrev zi77 : ZInf := (cX3_reach, yX3_reach, 8, (Option.some Jvm.ClassFile.FieldType.int), [])
abbrev zi78 : ZInf := (cX3_becomes, yX3_becomes, 3, (Option.none : Option Jvm.ClassFile.FieldType), [])
abbrev zi79 : ZInf := (cX4_init, yX4_init, 1, (Option.none : Option Jvm.ClassFile.FieldType), [])
abbrev zi80 : ZInf := (cX4_within, yX4_within, 3, (Option.some Jvm.ClassFile.FieldType.long), [])
abbrev zi81 : ZInf := (cX5_init, yX5_init, 1, (Option.none : Option Jvm.ClassFile.FieldType), [])
abbrev zi82 : ZInf := (cX5_bars, yX5_bars, 4, (Option.some Jvm.ClassFile.FieldType.int), [])
abbrev zi83 : ZInf := (cX5_pays, yX5_pays, 2, (Option.some Jvm.ClassFile.FieldType.boolean), [])
abbrev zi84 : ZInf := (cX5_makesKnown, yX5_makesKnown, 1, (Option.some Jvm.ClassFile.FieldType.boolean), [])
abbrev zi85 : ZInf := (cX6_init, yX6_init, 1, (Option.none : Option Jvm.ClassFile.FieldType), [])
abbrev zi86 : ZInf := (cX6_kind, yX6_kind, 1, (Option.some Jvm.ClassFile.FieldType.int), [])
abbrev zi87 : ZInf := (cX7_init, yX7_init, 1, (Option.none : Option Jvm.ClassFile.FieldType), [])
abbrev zi88 : ZInf := (cX7_kind, yX7_kind, 1, (Option.some Jvm.ClassFile.FieldType.int), [])
abbrev zi89 : ZInf := (cX8_init, yX8_init, 1, (Option.none : Option Jvm.ClassFile.FieldType), [])
abbrev zi90 : ZInf := (cX8_bars, yX8_bars, 4, (Option.some Jvm.ClassFile.FieldType.int), [])
abbrev zi91 : ZInf := (cX8_kind, yX8_kind, 1, (Option.some Jvm.ClassFile.FieldType.int), [])
abbrev zi92 : ZInf := (cX8_makesKnown, yX8_makesKnown, 1, (Option.some Jvm.ClassFile.FieldType.boolean), [])
abbrev zi93 : ZInf := (cX9_init, yX9_init, 1, (Option.none : Option Jvm.ClassFile.FieldType), [])
abbrev zi94 : ZInf := (cX9_kind, yX9_kind, 1, (Option.some Jvm.ClassFile.FieldType.int), [])
abbrev zi95 : ZInf := (cX10_init, yX10_init, 2, (Option.none : Option Jvm.ClassFile.FieldType), [])
abbrev zi96 : ZInf := (cX10_begins, yX10_begins, 3, (Option.none : Option Jvm.ClassFile.FieldType), [])
abbrev zi97 : ZInf := (cX10_owed, yX10_owed, 2, (Option.none : Option Jvm.ClassFile.FieldType), [])
abbrev zi98 : ZInf := (cX10_goes, yX10_goes, 6, (Option.none : Option Jvm.ClassFile.FieldType), [])
abbrev zi99 : ZInf := (cX10_at, yX10_at, 2, (Option.some (Jvm.ClassFile.FieldType.object "CardBowl$House")), [])
abbrev zi100 : ZInf := (cX10_after, yX10_after, 7, (Option.some Jvm.ClassFile.FieldType.int), [])
abbrev zi101 : ZInf := (cX10_isCall, yX10_isCall, 2, (Option.some Jvm.ClassFile.FieldType.boolean), [])
abbrev zi102 : ZInf := (cX10_best, yX10_best, 5, (Option.none : Option Jvm.ClassFile.FieldType), [])
abbrev zi103 : ZInf := (cX10_over, yX10_over, 4, (Option.some Jvm.ClassFile.FieldType.int), [])
abbrev zi104 : ZInf := (cX10_worth, yX10_worth, 4, (Option.some Jvm.ClassFile.FieldType.int), [])
abbrev zi105 : ZInf := (cX10_bits, yX10_bits, 4, (Option.some Jvm.ClassFile.FieldType.int), [])
abbrev zi106 : ZInf := (cX10_rows, yX10_rows, 9, (Option.none : Option Jvm.ClassFile.FieldType), [])
abbrev zi107 : ZInf := (cX10_ahead, yX10_ahead, 6, (Option.some Jvm.ClassFile.FieldType.int), [])
abbrev zi108 : ZInf := (cX11_width, yX11_width, 1, (Option.some Jvm.ClassFile.FieldType.int), [])
abbrev zi109 : ZInf := (cX11_init, yX11_init, 1, (Option.none : Option Jvm.ClassFile.FieldType), [])
abbrev zi110 : ZInf := (cX11_many, yX11_many, 1, (Option.some Jvm.ClassFile.FieldType.int), [])
abbrev zi111 : ZInf := (cX11_number, yX11_number, 2, (Option.some Jvm.ClassFile.FieldType.long), [])
abbrev zi112 : ZInf := (cX12_init, yX12_init, 1, (Option.none : Option Jvm.ClassFile.FieldType), [])
abbrev zi113 : ZInf := (cX12_keep, yX12_keep, 3, (Option.some Jvm.ClassFile.FieldType.int), [])
abbrev zi114 : ZInf := (cX12_in, yX12_in, 6, (Option.some Jvm.ClassFile.FieldType.boolean), [])
abbrev zi115 : ZInf := (cX12_back, yX12_back, 3, (Option.some Jvm.ClassFile.FieldType.int), [])
abbrev zi116 : ZInf := (cX12_feed, yX12_feed, 7, (Option.some Jvm.ClassFile.FieldType.int), [])
abbrev zi117 : ZInf := (cX12_end, yX12_end, 2, (Option.some Jvm.ClassFile.FieldType.int), [])
abbrev zi118 : ZInf := (cX12_fault, yX12_fault, 2, (Option.some Jvm.ClassFile.FieldType.int), [])
abbrev zi119 : ZInf := (cX12_town, yX12_town, 2, (Option.some Jvm.ClassFile.FieldType.int), [])
abbrev zi120 : ZInf := (cX12_advance, yX12_advance, 2, (Option.none : Option Jvm.ClassFile.FieldType), [])
abbrev zi121 : ZInf := (cX12_see, yX12_see, 2, (Option.some Jvm.ClassFile.FieldType.int), [])
abbrev zi122 : ZInf := (cX12_good, yX12_good, 1, (Option.some Jvm.ClassFile.FieldType.boolean), [])
abbrev zi123 : ZInf := (cX12_readLine, yX12_readLine, 3, (Option.none : Option Jvm.ClassFile.FieldType), [])
abbrev zi124 : ZInf := (cX12_payingHere, yX12_payingHere, 1, (Option.some Jvm.ClassFile.FieldType.int), [])
abbrev zi125 : ZInf := (cX12_is, yX12_is, 4, (Option.some Jvm.ClassFile.FieldType.boolean), [])
abbrev zi126 : ZInf := (cX12_errs, yX12_errs, 2, (Option.none : Option Jvm.ClassFile.FieldType), [])
abbrev zi127 : ZInf := (cX12_readOwes, yX12_readOwes, 2, (Option.none : Option Jvm.ClassFile.FieldType), [])
abbrev zi128 : ZInf := (cX12_taken, yX12_taken, 2, (Option.some Jvm.ClassFile.FieldType.int), [])
abbrev zi129 : ZInf := (cX12_needs, yX12_needs, 2, (Option.none : Option Jvm.ClassFile.FieldType), [])
abbrev zi130 : ZInf := (cX12_takes, yX12_takes, 3, (Option.some Jvm.ClassFile.FieldType.boolean), [])
abbrev zi131 : ZInf := (cX12_told, yX12_told, 4, (Option.some Jvm.ClassFile.FieldType.int), [])
abbrev zi132 : ZInf := (cX12_number, yX12_number, 4, (Option.some Jvm.ClassFile.FieldType.int), [])
abbrev zi133 : ZInf := (cX12_readTest, yX12_readTest, 4, (Option.none : Option Jvm.ClassFile.FieldType), [])
abbrev zi134 : ZInf := (cX12_readSum, yX12_readSum, 3, (Option.none : Option Jvm.ClassFile.FieldType), [])
abbrev zi135 : ZInf := (cX12_readPart, yX12_readPart, 5, (Option.none : Option Jvm.ClassFile.FieldType), [])
abbrev zi136 : ZInf := (cX12_readHouse, yX12_readHouse, 2, (Option.none : Option Jvm.ClassFile.FieldType), [])
abbrev zi137 : ZInf := (cX12_dayHere, yX12_dayHere, 1, (Option.some Jvm.ClassFile.FieldType.int), [])
abbrev zi138 : ZInf := (cX12_readKnow, yX12_readKnow, 3, (Option.none : Option Jvm.ClassFile.FieldType), [])
abbrev zi139 : ZInf := (cX12_ofHouse, yX12_ofHouse, 3, (Option.some Jvm.ClassFile.FieldType.int), [])
abbrev zi140 : ZInf := (cX12_days, yX12_days, 2, (Option.some Jvm.ClassFile.FieldType.int), [])
abbrev zi141 : ZInf := (cX12_today, yX12_today, 1, (Option.some Jvm.ClassFile.FieldType.int), [])
abbrev zi142 : ZInf := (cX12_bars, yX12_bars, 4, (Option.some Jvm.ClassFile.FieldType.int), [])
abbrev zi143 : ZInf := (cX12_areTwo, yX12_areTwo, 3, (Option.some Jvm.ClassFile.FieldType.boolean), [])
abbrev zi144 : ZInf := (cX12_isHouse, yX12_isHouse, 2, (Option.some Jvm.ClassFile.FieldType.boolean), [])
abbrev zi145 : ZInf := (cX12_isPaying, yX12_isPaying, 1, (Option.some Jvm.ClassFile.FieldType.boolean), [])
abbrev zi146 : ZInf := (cX12_barsOf, yX12_barsOf, 6, (Option.some Jvm.ClassFile.FieldType.int), [])
abbrev zi147 : ZInf := (cX12_isThere, yX12_isThere, 3, (Option.some Jvm.ClassFile.FieldType.boolean), [])
abbrev zi148 : ZInf := (cX12_areKnown, yX12_areKnown, 3, (Option.some Jvm.ClassFile.FieldType.boolean), [])
abbrev zi149 : ZInf := (cX12_holds, yX12_holds, 2, (Option.some Jvm.ClassFile.FieldType.boolean), [])
abbrev zi150 : ZInf := (cX12_isNew, yX12_isNew, 2, (Option.some Jvm.ClassFile.FieldType.boolean), [])
abbrev zi151 : ZInf := (cX12_isIntroduced, yX12_isIntroduced, 3, (Option.some Jvm.ClassFile.FieldType.boolean), [])
abbrev zi152 : ZInf := (cX12_ones, yX12_ones, 3, (Option.some Jvm.ClassFile.FieldType.int), [])
abbrev zi153 : ZInf := (cX12_known, yX12_known, 3, (Option.some Jvm.ClassFile.FieldType.int), [])
abbrev zi154 : ZInf := (cX12_does, yX12_does, 4, (Option.some Jvm.ClassFile.FieldType.int), [])
abbrev zi155 : ZInf := (cX12_notes, yX12_notes, 6, (Option.some Jvm.ClassFile.FieldType.int), [])
abbrev zi156 : ZInf := (cX12_goes, yX12_goes, 8, (Option.some Jvm.ClassFile.FieldType.int), [])
abbrev zi157 : ZInf := (cX12_meets, yX12_meets, 3, (Option.none : Option Jvm.ClassFile.FieldType), [])
abbrev zi158 : ZInf := (cX12_pays, yX12_pays, 6, (Option.some Jvm.ClassFile.FieldType.int), [])
abbrev zi159 : ZInf := (cX12_ofDebt, yX12_ofDebt, 3, (Option.some Jvm.ClassFile.FieldType.int), [])
abbrev zi160 : ZInf := (cX12_drops, yX12_drops, 3, (Option.none : Option Jvm.ClassFile.FieldType), [])
abbrev zi161 : ZInf := (cX12_lineFor, yX12_lineFor, 10, (Option.some Jvm.ClassFile.FieldType.int), [])
abbrev zi162 : ZInf := (cX12_debtsOf, yX12_debtsOf, 4, (Option.some Jvm.ClassFile.FieldType.int), [])
abbrev zi163 : ZInf := (cX12_testHolds, yX12_testHolds, 11, (Option.some Jvm.ClassFile.FieldType.boolean), [])
abbrev zi164 : ZInf := (cX12_partOf, yX12_partOf, 3, (Option.some Jvm.ClassFile.FieldType.long), [])
abbrev zi165 : ZInf := (cX12_owesAlready, yX12_owesAlready, 5, (Option.some Jvm.ClassFile.FieldType.boolean), [])
abbrev zi166 : ZInf := (cX12_comes, yX12_comes, 7, (Option.none : Option Jvm.ClassFile.FieldType), [])
abbrev zi167 : ZInf := (cX12_meet, yX12_meet, 4, (Option.some Jvm.ClassFile.FieldType.int), [])
abbrev zi168 : ZInf := (cX12_done, yX12_done, 11, (Option.some Jvm.ClassFile.FieldType.int), [])
abbrev zi169 : ZInf := (cX12_isSlot, yX12_isSlot, 1, (Option.some Jvm.ClassFile.FieldType.boolean), [])
abbrev zi170 : ZInf := (cX12_debts, yX12_debts, 2, (Option.some Jvm.ClassFile.FieldType.int), [])
abbrev zi171 : ZInf := (cX12_debt, yX12_debt, 5, (Option.some Jvm.ClassFile.FieldType.int), [])
abbrev zi172 : ZInf := (cX12_placeOf, yX12_placeOf, 5, (Option.some Jvm.ClassFile.FieldType.int), [])
abbrev zi173 : ZInf := (cX12_slights, yX12_slights, 2, (Option.some Jvm.ClassFile.FieldType.int), [])
abbrev zi174 : ZInf := (cX12_slightsOf, yX12_slightsOf, 4, (Option.some Jvm.ClassFile.FieldType.int), [])
abbrev zi175 : ZInf := (cX12_first, yX12_first, 5, (Option.some Jvm.ClassFile.FieldType.int), [])
abbrev zi176 : ZInf := (cX12_owes, yX12_owes, 6, (Option.some Jvm.ClassFile.FieldType.int), [])
abbrev zi177 : ZInf := (cX12_worth, yX12_worth, 3, (Option.some Jvm.ClassFile.FieldType.int), [])
abbrev zi178 : ZInf := (cX12_isRound, yX12_isRound, 3, (Option.some Jvm.ClassFile.FieldType.boolean), [])
abbrev zi179 : ZInf := (cX12_rounds, yX12_rounds, 7, (Option.none : Option Jvm.ClassFile.FieldType), [])
abbrev zi180 : ZInf := (cX12_lists, yX12_lists, 3, (Option.none : Option Jvm.ClassFile.FieldType), [])
abbrev zi181 : ZInf := (cX12_weighs, yX12_weighs, 4, (Option.none : Option Jvm.ClassFile.FieldType), [])
abbrev zi182 : ZInf := (cX12_goesThrough, yX12_goesThrough, 11, (Option.none : Option Jvm.ClassFile.FieldType), [])
abbrev zi183 : ZInf := (cX12_seen, yX12_seen, 6, (Option.some Jvm.ClassFile.FieldType.int), [])
abbrev zi184 : ZInf := (cX12_minutes, yX12_minutes, 3, (Option.some Jvm.ClassFile.FieldType.int), [])
abbrev zi185 : ZInf := (cX12_overOf, yX12_overOf, 5, (Option.some Jvm.ClassFile.FieldType.int), [])
abbrev zi186 : ZInf := (cX12_over, yX12_over, 3, (Option.some Jvm.ClassFile.FieldType.int), [])
abbrev zi187 : ZInf := (cX12_round, yX12_round, 5, (Option.some Jvm.ClassFile.FieldType.int), [])
abbrev zi188 : ZInf := (cX12_rowOf, yX12_rowOf, 12, (Option.none : Option Jvm.ClassFile.FieldType), [])
abbrev zi189 : ZInf := (cX12_may, yX12_may, 11, (Option.some Jvm.ClassFile.FieldType.int), [])
abbrev zi190 : ZInf := (cX12_fewest, yX12_fewest, 7, (Option.some Jvm.ClassFile.FieldType.int), [])
abbrev zi191 : ZInf := (cX12_listsTen, yX12_listsTen, 4, (Option.none : Option Jvm.ClassFile.FieldType), [])
abbrev zi192 : ZInf := (cX12_covers, yX12_covers, 6, (Option.some Jvm.ClassFile.FieldType.int), [])
abbrev zi193 : ZInf := (cX12_lost, yX12_lost, 6, (Option.some Jvm.ClassFile.FieldType.int), [])
abbrev zi194 : ZInf := (cX12_soon, yX12_soon, 3, (Option.some Jvm.ClassFile.FieldType.int), [])
abbrev zi195 : ZInf := (cX12_finds, yX12_finds, 7, (Option.some Jvm.ClassFile.FieldType.boolean), [])
abbrev zi196 : ZInf := (cX12_walks, yX12_walks, 4, (Option.none : Option Jvm.ClassFile.FieldType), [])
abbrev zi197 : ZInf := (cX12_path, yX12_path, 4, (Option.some Jvm.ClassFile.FieldType.int), [])
abbrev zi198 : ZInf := (cX12_reach, yX12_reach, 2, (Option.some Jvm.ClassFile.FieldType.int), [])
abbrev zi199 : ZInf := (cX12_hangs, yX12_hangs, 8, (Option.some Jvm.ClassFile.FieldType.int), [])
abbrev zi200 : ZInf := (cX12_drop, yX12_drop, 5, (Option.some Jvm.ClassFile.FieldType.int), [])
abbrev zi201 : ZInf := (cX12_tie, yX12_tie, 3, (Option.some Jvm.ClassFile.FieldType.int), [])
abbrev zi202 : ZInf := (cX12_ring, yX12_ring, 2, (Option.some Jvm.ClassFile.FieldType.int), [])
abbrev zi203 : ZInf := (cX12_callsAll, yX12_callsAll, 2, (Option.none : Option Jvm.ClassFile.FieldType), [])
abbrev zi204 : ZInf := (cX12_ringOf, yX12_ringOf, 4, (Option.some Jvm.ClassFile.FieldType.int), [])
abbrev zi205 : ZInf := (cX12_comesTo, yX12_comesTo, 5, (Option.some Jvm.ClassFile.FieldType.int), [])
abbrev zi206 : ZInf := (cX12_rings, yX12_rings, 4, (Option.some Jvm.ClassFile.FieldType.int), [])
abbrev zi207 : ZInf := (cX12_house, yX12_house, 5, (Option.some Jvm.ClassFile.FieldType.int), [])
abbrev zi208 : ZInf := (cX12_beside, yX12_beside, 5, (Option.some Jvm.ClassFile.FieldType.int), [])
abbrev zi209 : ZInf := (cX12_count, yX12_count, 4, (Option.some Jvm.ClassFile.FieldType.int), [])
abbrev zi210 : ZInf := (cX12_row, yX12_row, 5, (Option.some Jvm.ClassFile.FieldType.int), [])
abbrev zi211 : ZInf := (cX12_write, yX12_write, 5, (Option.some Jvm.ClassFile.FieldType.int), [])
abbrev zi212 : ZInf := (cX12_cut, yX12_cut, 4, (Option.some Jvm.ClassFile.FieldType.long), [])
abbrev zi213 : ZInf := (cX12_paste, yX12_paste, 7, (Option.some Jvm.ClassFile.FieldType.int), [])
abbrev zi214 : ZInf := (cX13_init, yX13_init, 3, (Option.none : Option Jvm.ClassFile.FieldType), [])
abbrev zi215 : ZInf := (cX13_whole, yX13_whole, 1, (Option.some (Jvm.ClassFile.FieldType.object "CardBowl$Town")), [])
abbrev zi216 : ZInf := (cX13_next, yX13_next, 1, (Option.none : Option Jvm.ClassFile.FieldType), [])
abbrev zi217 : ZInf := (cX13_isAt, yX13_isAt, 3, (Option.some Jvm.ClassFile.FieldType.boolean), [])
abbrev zi218 : ZInf := (cX13_line, yX13_line, 2, (Option.none : Option Jvm.ClassFile.FieldType), [])
abbrev zi219 : ZInf := (cX13_which, yX13_which, 3, (Option.some Jvm.ClassFile.FieldType.int), [])
abbrev zi220 : ZInf := (cX13_is, yX13_is, 4, (Option.some Jvm.ClassFile.FieldType.boolean), [])
abbrev zi221 : ZInf := (cX13_fails, yX13_fails, 2, (Option.none : Option Jvm.ClassFile.FieldType), [])
abbrev zi222 : ZInf := (cX13_rule, yX13_rule, 6, (Option.none : Option Jvm.ClassFile.FieldType), [])
abbrev zi223 : ZInf := (cX13_word, yX13_word, 2, (Option.none : Option Jvm.ClassFile.FieldType), [])
abbrev zi224 : ZInf := (cX13_takes, yX13_takes, 3, (Option.some Jvm.ClassFile.FieldType.boolean), [])
abbrev zi225 : ZInf := (cX13_oneOf, yX13_oneOf, 3, (Option.some Jvm.ClassFile.FieldType.int), [])
abbrev zi226 : ZInf := (cX13_number, yX13_number, 4, (Option.some Jvm.ClassFile.FieldType.int), [])
abbrev zi227 : ZInf := (cX13_number_2, yX13_number_2, 4, (Option.some Jvm.ClassFile.FieldType.int), [])
abbrev zi228 : ZInf := (cX13_sum, yX13_sum, 3, (Option.some (Jvm.ClassFile.FieldType.object "CardBowl$Sum")), [])
abbrev zi229 : ZInf := (cX13_term, yX13_term, 2, (Option.some (Jvm.ClassFile.FieldType.object "CardBowl$Sum")), [])
abbrev zi230 : ZInf := (cX13_part, yX13_part, 1, (Option.some (Jvm.ClassFile.FieldType.object "CardBowl$Sum")), [])
abbrev zi231 : ZInf := (cX13_house, yX13_house, 2, (Option.none : Option Jvm.ClassFile.FieldType), [])
abbrev zi232 : ZInf := (cX13_know, yX13_know, 3, (Option.none : Option Jvm.ClassFile.FieldType), [])
abbrev zi233 : ZInf := (cX14_init, yX14_init, 3, (Option.none : Option Jvm.ClassFile.FieldType), [])
abbrev zi234 : ZInf := (cX15_init, yX15_init, 4, (Option.none : Option Jvm.ClassFile.FieldType), [])
abbrev zi235 : ZInf := (cX15_holds, yX15_holds, 5, (Option.some Jvm.ClassFile.FieldType.boolean), [])
abbrev zi236 : ZInf := (cX16_init, yX16_init, 1, (Option.none : Option Jvm.ClassFile.FieldType), [])
abbrev zi237 : ZInf := (cX17_init, yX17_init, 2, (Option.none : Option Jvm.ClassFile.FieldType), [])
abbrev zi238 : ZInf := (cX17_of, yX17_of, 2, (Option.some Jvm.ClassFile.FieldType.long), [])
abbrev zi239 : ZInf := (cX18_init, yX18_init, 2, (Option.none : Option Jvm.ClassFile.FieldType), [])
abbrev zi240 : ZInf := (cX18_of, yX18_of, 2, (Option.some Jvm.ClassFile.FieldType.long), [])
abbrev zi241 : ZInf := (cX19_init, yX19_init, 4, (Option.none : Option Jvm.ClassFile.FieldType), [])
abbrev zi242 : ZInf := (cX19_of, yX19_of, 6, (Option.some Jvm.ClassFile.FieldType.long), [])
abbrev zi243 : ZInf := (cX20_init, yX20_init, 4, (Option.none : Option Jvm.ClassFile.FieldType), [])
abbrev zi244 : ZInf := (cX20_holds, yX20_holds, 6, (Option.some Jvm.ClassFile.FieldType.boolean), [])
abbrev zi245 : ZInf := (cX21_init, yX21_init, 1, (Option.none : Option Jvm.ClassFile.FieldType), [])
abbrev zi246 : ZInf := (cX21_isThere, yX21_isThere, 2, (Option.some Jvm.ClassFile.FieldType.boolean), [])
abbrev zi247 : ZInf := (cX21_waits, yX21_waits, 2, (Option.some Jvm.ClassFile.FieldType.boolean), [])
abbrev zi248 : ZInf := (cX21_far, yX21_far, 2, (Option.some Jvm.ClassFile.FieldType.int), [])
abbrev zi249 : ZInf := (cX22_init, yX22_init, 5, (Option.none : Option Jvm.ClassFile.FieldType), [])
abbrev zi250 : ZInf := (cX23_init, yX23_init, 6, (Option.none : Option Jvm.ClassFile.FieldType), [])
abbrev zi251 : ZInf := (cJ13_bitCount, yJ13_bitCount, 1, (Option.some Jvm.ClassFile.FieldType.int), [])
abbrev zi252 : ZInf := (cJ13_numberOfTrailingZeros, yJ13_numberOfTrailingZeros, 2, (Option.some Jvm.ClassFile.FieldType.int), [])
abbrev zi253 : ZInf := (code, x, 4, ret, [])
def zInfo (k : Nat) : ZInf := (bif Nat.blt k 127 then (bif Nat.blt k 63 then (bif Nat.blt k 31 then (bif Nat.blt k 15 then (bif Nat.blt k 7 then (bif Nat.blt k 3 then (bif Nat.blt k 1 then zi0 else (bif Nat.blt k 2 then zi1 else zi2)) else (bif Nat.blt k 5 then (bif Nat.blt k 4 then zi3 else zi4) else (bif Nat.blt k 6 then zi5 else zi6))) else (bif Nat.blt k 11 then (bif Nat.blt k 9 then (bif Nat.blt k 8 then zi7 else zi8) else (bif Nat.blt k 10 then zi9 else zi10)) else (bif Nat.blt k 13 then (bif Nat.blt k 12 then zi11 else zi12) else (bif Nat.blt k 14 then zi13 else zi14)))) else (bif Nat.blt k 23 then (bif Nat.blt k 19 then (bif Nat.blt k 17 then (bif Nat.blt k 16 then zi15 else zi16) else (bif Nat.blt k 18 then zi17 else zi18)) else (bif Nat.blt k 21 then (bif Nat.blt k 20 then zi19 else zi20) else (bif Nat.blt k 22 then zi21 else zi22))) else (bif Nat.blt k 27 then (bif Nat.blt k 25 then (bif Nat.blt k 24 then zi23 else zi24) else (bif Nat.blt k 26 then zi25 else zi26)) else (bif Nat.blt k 29 then (bif Nat.blt k 28 then zi27 else zi28) else (bif Nat.blt k 30 then zi29 else zi30))))) else (bif Nat.blt k 47 then (bif Nat.blt k 39 then (bif Nat.blt k 35 then (bif Nat.blt k 33 then (bif Nat.blt k 32 then zi31 else zi32) else (bif Nat.blt k 34 then zi33 else zi34)) else (bif Nat.blt k 37 then (bif Nat.blt k 36 then zi35 else zi36) else (bif Nat.blt k 38 then zi37 else zi38))) else (bif Nat.blt k 43 then (bif Nat.blt k 41 then (bif Nat.blt k 40 then zi39 else zi40) else (bif Nat.blt k 42 then zi41 else zi42)) else (bif Nat.blt k 45 then (bif Nat.blt k 44 then zi43 else zi44) else (bif Nat.blt k 46 then zi45 else zi46)))) else (bif Nat.blt k 55 then (bif Nat.blt k 51 then (bif Nat.blt k 49 then (bif Nat.blt k 48 then zi47 else zi48) else (bif Nat.blt k 50 then zi49 else zi50)) else (bif Nat.blt k 53 then (bif Nat.blt k 52 then zi51 else zi52) else (bif Nat.blt k 54 then zi53 else zi54))) else (bif Nat.blt k 59 then (bif Nat.blt k 57 then (bif Nat.blt k 56 then zi55 else zi56) else (bif Nat.blt k 58 then zi57 else zi58)) else (bif Nat.blt k 61 then (bif Nat.blt k 60 then zi59 else zi60) else (bif Nat.blt k 62 then zi61 else zi62)))))) else (bif Nat.blt k 95 then (bif Nat.blt k 79 then (bif Nat.blt k 71 then (bif Nat.blt k 67 then (bif Nat.blt k 65 then (bif Nat.blt k 64 then zi63 else zi64) else (bif Nat.blt k 66 then zi65 else zi66)) else (bif Nat.blt k 69 then (bif Nat.blt k 68 then zi67 else zi68) else (bif Nat.blt k 70 then zi69 else zi70))) else (bif Nat.blt k 75 then (bif Nat.blt k 73 then (bif Nat.blt k 72 then zi71 else zi72) else (bif Nat.blt k 74 then zi73 else zi74)) else (bif Nat.blt k 77 then (bif Nat.blt k 76 then zi75 else zi76) else (bif Nat.blt k 78 then zi77 else zi78)))) else (bif Nat.blt k 87 then (bif Nat.blt k 83 then (bif Nat.blt k 81 then (bif Nat.blt k 80 then zi79 else zi80) else (bif Nat.blt k 82 then zi81 else zi82)) else (bif Nat.blt k 85 then (bif Nat.blt k 84 then zi83 else zi84) else (bif Nat.blt k 86 then zi85 else zi86))) else (bif Nat.blt k 91 then (bif Nat.blt k 89 then (bif Nat.blt k 88 then zi87 else zi88) else (bif Nat.blt k 90 then zi89 else zi90)) else (bif Nat.blt k 93 then (bif Nat.blt k 92 then zi91 else zi92) else (bif Nat.blt k 94 then zi93 else zi94))))) else (bif Nat.blt k 111 then (bif Nat.blt k 103 then (bif Nat.blt k 99 then (bif Nat.blt k 97 then (bif Nat.blt k 96 then zi95 else zi96) else (bif Nat.blt k 98 then zi97 else zi98)) else (bif Nat.blt k 101 then (bif Nat.blt k 100 then zi99 else zi100) else (bif Nat.blt k 102 then zi101 else zi102))) else (bif Nat.blt k 107 then (bif Nat.blt k 105 then (bif Nat.blt k 104 then zi103 else zi104) else (bif Nat.blt k 106 then zi105 else zi106)) else (bif Nat.blt k 109 then (bif Nat.blt k 108 then zi107 else zi108) else (bif Nat.blt k 110 then zi109 else zi110)))) else (bif Nat.blt k 119 then (bif Nat.blt k 115 then (bif Nat.blt k 113 then (bif Nat.blt k 112 then zi111 else zi112) else (bif Nat.blt k 114 then zi113 else zi114)) else (bif Nat.blt k 117 then (bif Nat.blt k 116 then zi115 else zi116) else (bif Nat.blt k 118 then zi117 else zi118))) else (bif Nat.blt k 123 then (bif Nat.blt k 121 then (bif Nat.blt k 120 then zi119 else zi120) else (bif Nat.blt k 122 then zi121 else zi122)) else (bif Nat.blt k 125 then (bif Nat.blt k 124 then zi123 else zi124) else (bif Nat.blt k 126 then zi125 else zi126))))))) else (bif Nat.blt k 190 then (bif Nat.blt k 158 then (bif Nat.blt k 142 then (bif Nat.blt k 134 then (bif Nat.blt k 130 then (bif Nat.blt k 128 then zi127 else (bif Nat.blt k 129 then zi128 else zi129)) else (bif Nat.blt k 132 then (bif Nat.blt k 131 then zi130 else zi131) else (bif Nat.blt k 133 then zi132 else zi133))) else (bif Nat.blt k 138 then (bif Nat.blt k 136 then (bif Nat.blt k 135 then zi134 else zi135) else (bif Nat.blt k 137 then zi136 else zi137)) else (bif Nat.blt k 140 then (bif Nat.blt k 139 then zi138 else zi139) else (bif Nat.blt k 141 then zi140 else zi141)))) else (bif Nat.blt k 150 then (bif Nat.blt k 146 then (bif Nat.blt k 144 then (bif Nat.blt k 143 then zi142 else zi143) else (bif Nat.blt k 145 then zi144 else zi145)) else (bif Nat.blt k 148 then (bif Nat.blt k 147 then zi146 else zi147) else (bif Nat.blt k 149 then zi148 else zi149))) else (bif Nat.blt k 154 then (bif Nat.blt k 152 then (bif Nat.blt k 151 then zi150 else zi151) else (bif Nat.blt k 153 then zi152 else zi153)) else (bif Nat.blt k 156 then (bif Nat.blt k 155 then zi154 else zi155) else (bif Nat.blt k 157 then zi156 else zi157))))) else (bif Nat.blt k 174 then (bif Nat.blt k 166 then (bif Nat.blt k 162 then (bif Nat.blt k 160 then (bif Nat.blt k 159 then zi158 else zi159) else (bif Nat.blt k 161 then zi160 else zi161)) else (bif Nat.blt k 164 then (bif Nat.blt k 163 then zi162 else zi163) else (bif Nat.blt k 165 then zi164 else zi165))) else (bif Nat.blt k 170 then (bif Nat.blt k 168 then (bif Nat.blt k 167 then zi166 else zi167) else (bif Nat.blt k 169 then zi168 else zi169)) else (bif Nat.blt k 172 then (bif Nat.blt k 171 then zi170 else zi171) else (bif Nat.blt k 173 then zi172 else zi173)))) else (bif Nat.blt k 182 then (bif Nat.blt k 178 then (bif Nat.blt k 176 then (bif Nat.blt k 175 then zi174 else zi175) else (bif Nat.blt k 177 then zi176 else zi177)) else (bif Nat.blt k 180 then (bif Nat.blt k 179 then zi178 else zi179) else (bif Nat.blt k 181 then zi180 else zi181))) else (bif Nat.blt k 186 then (bif Nat.blt k 184 then (bif Nat.blt k 183 then zi182 else zi183) else (bif Nat.blt k 185 then zi184 else zi185)) else (bif Nat.blt k 188 then (bif Nat.blt k 187 then zi186 else zi187) else (bif Nat.blt k 189 then zi188 else zi189)))))) else (bif Nat.blt k 222 then (bif Nat.blt k 206 then (bif Nat.blt k 198 then (bif Nat.blt k 194 then (bif Nat.blt k 192 then (bif Nat.blt k 191 then zi190 else zi191) else (bif Nat.blt k 193 then zi192 else zi193)) else (bif Nat.blt k 196 then (bif Nat.blt k 195 then zi194 else zi195) else (bif Nat.blt k 197 then zi196 else zi197))) else (bif Nat.blt k 202 then (bif Nat.blt k 200 then (bif Nat.blt k 199 then zi198 else zi199) else (bif Nat.blt k 201 then zi200 else zi201)) else (bif Nat.blt k 204 then (bif Nat.blt k 203 then zi202 else zi203) else (bif Nat.blt k 205 then zi204 else zi205)))) else (bif Nat.blt k 214 then (bif Nat.blt k 210 then (bif Nat.blt k 208 then (bif Nat.blt k 207 then zi206 else zi207) else (bif Nat.blt k 209 then zi208 else zi209)) else (bif Nat.blt k 212 then (bif Nat.blt k 211 then zi210 else zi211) else (bif Nat.blt k 213 then zi212 else zi213))) else (bif Nat.blt k 218 then (bif Nat.blt k 216 then (bif Nat.blt k 215 then zi214 else zi215) else (bif Nat.blt k 217 then zi216 else zi217)) else (bif Nat.blt k 220 then (bif Nat.blt k 219 then zi218 else zi219) else (bif Nat.blt k 221 then zi220 else zi221))))) else (bif Nat.blt k 238 then (bif Nat.blt k 230 then (bif Nat.blt k 226 then (bif Nat.blt k 224 then (bif Nat.blt k 223 then zi222 else zi223) else (bif Nat.blt k 225 then zi224 else zi225)) else (bif Nat.blt k 228 then (bif Nat.blt k 227 then zi226 else zi227) else (bif Nat.blt k 229 then zi228 else zi229))) else (bif Nat.blt k 234 then (bif Nat.blt k 232 then (bif Nat.blt k 231 then zi230 else zi231) else (bif Nat.blt k 233 then zi232 else zi233)) else (bif Nat.blt k 236 then (bif Nat.blt k 235 then zi234 else zi235) else (bif Nat.blt k 237 then zi236 else zi237)))) else (bif Nat.blt k 246 then (bif Nat.blt k 242 then (bif Nat.blt k 240 then (bif Nat.blt k 239 then zi238 else zi239) else (bif Nat.blt k 241 then zi240 else zi241)) else (bif Nat.blt k 244 then (bif Nat.blt k 243 then zi242 else zi243) else (bif Nat.blt k 245 then zi244 else zi245))) else (bif Nat.blt k 250 then (bif Nat.blt k 248 then (bif Nat.blt k 247 then zi246 else zi247) else (bif Nat.blt k 249 then zi248 else zi249)) else (bif Nat.blt k 252 then (bif Nat.blt k 251 then zi250 else zi251) else (bif Nat.blt k 253 then zi252 else zi253))))))))
section ZSITES
variable {zI : Nat → ZInf} {inf : ZInf} {hdl : Option Nat} {pc : Nat}
theorem zbif {α : Type} {b : Bool} {x y : Option α} {i : α} {P : Prop} (h : (bif b then x else y) = some i) (h1 : x = some i → P) (h2 : y = some i → P) : P := by
  cases b with
  | true => exact h1 h
  | false => exact h2 h
theorem zleaf {zI : Nat → ZInf} {inf : ZInf} {k c pc : Nat} {i I : ZI} (h : (bif Nat.beq pc c then some I else none) = some i) (ok : zSiteOK zI inf (zHd k c) c I) : zSiteOK zI inf (zHd k pc) pc i := by
  cases hb : Nat.beq pc c with
  | true =>
    rw [hb] at h
    have h : some I = some i := h
    cases h
    have := Nat.eq_of_beq_eq_true hb
    subst this
    exact ok
  | false => rw [hb] at h; cases h
theorem zs_p {f : ZF} (h : zOK inf pc f) : zSiteOK zI inf hdl pc (.inl f) := h
theorem zs_r {j : Nat} (h : zROK inf pc j) : zSiteOK zI inf hdl pc (.inr (.inr j)) := h
theorem zs_c {p : Nat} {sel : ZS} (hh : hdl = none) (h : zCOK zI inf pc p sel) : zSiteOK zI inf hdl pc (.inr (.inl (p, sel))) := by
  refine ⟨h, fun q => absurd hh q, ?_, ?_⟩
  · intro q; rw [hh] at q; cases q
  · intro q e; rw [hh] at e; cases e
theorem zs_t {p : Nat} {sel : ZS} (hh : hdl = some 0) (h0 : inf.2.2.2.2 = []) (h : zCOK zI inf pc p sel) (hT : zCOKT zI inf pc sel) : zSiteOK zI inf hdl pc (.inr (.inl (p, sel))) := by
  refine ⟨h, fun _ => hT, fun _ => h0, ?_⟩
  intro q e; rw [hh] at e; cases e
theorem zs_h {p q0 : Nat} {sel : ZS} (hh : hdl = some (q0 + 1)) (h0 : zHOK inf pc q0) (h : zCOK zI inf pc p sel) (hT : zCOKT zI inf pc sel) : zSiteOK zI inf hdl pc (.inr (.inl (p, sel))) := by
  refine ⟨h, fun _ => hT, ?_, ?_⟩
  · intro e; rw [hh] at e; cases e
  · intro q e; rw [hh] at e; cases e; exact h0
theorem selV0 {c k1 : Nat} : zSelV (sV0 c k1) c k1 0 := by
  intro z st k' as rest h
  unfold sV0 at h
  split at h
  · split at h
    · rename_i hc
      cases h
      exact ⟨rfl, _, _, rfl, rfl, rfl, hc⟩
    · cases h
  · cases h
theorem selI0 {k1 : Nat} : zSelI (sI0 k1) k1 0 := by
  intro z st k' as rest h
  unfold sI0 at h
  split at h
  · cases h
    exact ⟨rfl, _, _, rfl, rfl, rfl⟩
  · cases h
theorem selV1 {c k1 : Nat} : zSelV (sV1 c k1) c k1 1 := by
  intro z st k' as rest h
  unfold sV1 at h
  split at h
  · split at h
    · rename_i hc
      cases h
      exact ⟨rfl, _, _, rfl, rfl, rfl, hc⟩
    · cases h
  · cases h
theorem selI1 {k1 : Nat} : zSelI (sI1 k1) k1 1 := by
  intro z st k' as rest h
  unfold sI1 at h
  split at h
  · cases h
    exact ⟨rfl, _, _, rfl, rfl, rfl⟩
  · cases h
theorem selV2 {c k1 : Nat} : zSelV (sV2 c k1) c k1 2 := by
  intro z st k' as rest h
  unfold sV2 at h
  split at h
  · split at h
    · rename_i hc
      cases h
      exact ⟨rfl, _, _, rfl, rfl, rfl, hc⟩
    · cases h
  · cases h
theorem selI2 {k1 : Nat} : zSelI (sI2 k1) k1 2 := by
  intro z st k' as rest h
  unfold sI2 at h
  split at h
  · cases h
    exact ⟨rfl, _, _, rfl, rfl, rfl⟩
  · cases h
theorem selV3 {c k1 : Nat} : zSelV (sV3 c k1) c k1 3 := by
  intro z st k' as rest h
  unfold sV3 at h
  split at h
  · split at h
    · rename_i hc
      cases h
      exact ⟨rfl, _, _, rfl, rfl, rfl, hc⟩
    · cases h
  · cases h
theorem selI3 {k1 : Nat} : zSelI (sI3 k1) k1 3 := by
  intro z st k' as rest h
  unfold sI3 at h
  split at h
  · cases h
    exact ⟨rfl, _, _, rfl, rfl, rfl⟩
  · cases h
theorem selV4 {c k1 : Nat} : zSelV (sV4 c k1) c k1 4 := by
  intro z st k' as rest h
  unfold sV4 at h
  split at h
  · split at h
    · rename_i hc
      cases h
      exact ⟨rfl, _, _, rfl, rfl, rfl, hc⟩
    · cases h
  · cases h
theorem selI4 {k1 : Nat} : zSelI (sI4 k1) k1 4 := by
  intro z st k' as rest h
  unfold sI4 at h
  split at h
  · cases h
    exact ⟨rfl, _, _, rfl, rfl, rfl⟩
  · cases h
theorem selV5 {c k1 : Nat} : zSelV (sV5 c k1) c k1 5 := by
  intro z st k' as rest h
  unfold sV5 at h
  split at h
  · split at h
    · rename_i hc
      cases h
      exact ⟨rfl, _, _, rfl, rfl, rfl, hc⟩
    · cases h
  · cases h
theorem selI5 {k1 : Nat} : zSelI (sI5 k1) k1 5 := by
  intro z st k' as rest h
  unfold sI5 at h
  split at h
  · cases h
    exact ⟨rfl, _, _, rfl, rfl, rfl⟩
  · cases h
theorem selS0 {k1 : Nat} : zSelS (sS0 k1) k1 0 := by
  intro z st k' as rest h
  unfold sS0 at h
  skip
  · cases h
    exact ⟨rfl, rfl, rfl⟩
  
theorem selS1 {k1 : Nat} : zSelS (sS1 k1) k1 1 := by
  intro z st k' as rest h
  unfold sS1 at h
  split at h
  · cases h
    exact ⟨rfl, rfl, rfl⟩
  · cases h
theorem selS2 {k1 : Nat} : zSelS (sS2 k1) k1 2 := by
  intro z st k' as rest h
  unfold sS2 at h
  split at h
  · cases h
    exact ⟨rfl, rfl, rfl⟩
  · cases h
theorem selS3 {k1 : Nat} : zSelS (sS3 k1) k1 3 := by
  intro z st k' as rest h
  unfold sS3 at h
  split at h
  · cases h
    exact ⟨rfl, rfl, rfl⟩
  · cases h
theorem selS4 {k1 : Nat} : zSelS (sS4 k1) k1 4 := by
  intro z st k' as rest h
  unfold sS4 at h
  split at h
  · cases h
    exact ⟨rfl, rfl, rfl⟩
  · cases h
theorem zlookup_mem {a b : Nat} : ∀ {t : List (Nat × Nat)}, t.lookup a = some b → (a, b) ∈ t
  | [], h => by cases h
  | (x, y) :: t, h => by
    rw [List.lookup_cons] at h
    by_cases hx : a == x
    · rw [hx] at h
      cases h
      rw [eq_of_beq hx]
      exact List.mem_cons_self
    · have hx : (a == x) = false := by simpa using hx
      rw [hx] at h
      exact List.mem_cons_of_mem _ (zlookup_mem h)
theorem selU0 {zI : Nat → ZInf} {inf : ZInf} {idx : Nat} {t : List (Nat × Nat)} (ht : ∀ q ∈ t, zCU zI inf idx 0 q.1 q.2) : ∀ (z : ZH) (st : List Value) (k' : Nat) (as rest : List Value), sU0 t z st = some (k', as, rest) → ∃ (r : Nat) (vs : List Value), as = .ref r :: vs ∧ vs.length = 0 ∧ st = as.reverse ++ rest ∧ zCU zI inf idx 0 (zcls z r) k' := by
  intro z st k' as rest h
  unfold sU0 at h
  split at h
  · rename_i r _
    cases hl : t.lookup (zcls z r) with
    | none => rw [hl] at h; cases h
    | some k1 =>
      rw [hl] at h
      cases h
      refine ⟨r, _, rfl, rfl, rfl, ?_⟩
      exact ht (zcls z r, k') (zlookup_mem hl)
  · cases h
theorem selU1 {zI : Nat → ZInf} {inf : ZInf} {idx : Nat} {t : List (Nat × Nat)} (ht : ∀ q ∈ t, zCU zI inf idx 1 q.1 q.2) : ∀ (z : ZH) (st : List Value) (k' : Nat) (as rest : List Value), sU1 t z st = some (k', as, rest) → ∃ (r : Nat) (vs : List Value), as = .ref r :: vs ∧ vs.length = 1 ∧ st = as.reverse ++ rest ∧ zCU zI inf idx 1 (zcls z r) k' := by
  intro z st k' as rest h
  unfold sU1 at h
  split at h
  · rename_i r _
    cases hl : t.lookup (zcls z r) with
    | none => rw [hl] at h; cases h
    | some k1 =>
      rw [hl] at h
      cases h
      refine ⟨r, _, rfl, rfl, rfl, ?_⟩
      exact ht (zcls z r, k') (zlookup_mem hl)
  · cases h
theorem selU2 {zI : Nat → ZInf} {inf : ZInf} {idx : Nat} {t : List (Nat × Nat)} (ht : ∀ q ∈ t, zCU zI inf idx 2 q.1 q.2) : ∀ (z : ZH) (st : List Value) (k' : Nat) (as rest : List Value), sU2 t z st = some (k', as, rest) → ∃ (r : Nat) (vs : List Value), as = .ref r :: vs ∧ vs.length = 2 ∧ st = as.reverse ++ rest ∧ zCU zI inf idx 2 (zcls z r) k' := by
  intro z st k' as rest h
  unfold sU2 at h
  split at h
  · rename_i r _
    cases hl : t.lookup (zcls z r) with
    | none => rw [hl] at h; cases h
    | some k1 =>
      rw [hl] at h
      cases h
      refine ⟨r, _, rfl, rfl, rfl, ?_⟩
      exact ht (zcls z r, k') (zlookup_mem hl)
  · cases h
theorem selU3 {zI : Nat → ZInf} {inf : ZInf} {idx : Nat} {t : List (Nat × Nat)} (ht : ∀ q ∈ t, zCU zI inf idx 3 q.1 q.2) : ∀ (z : ZH) (st : List Value) (k' : Nat) (as rest : List Value), sU3 t z st = some (k', as, rest) → ∃ (r : Nat) (vs : List Value), as = .ref r :: vs ∧ vs.length = 3 ∧ st = as.reverse ++ rest ∧ zCU zI inf idx 3 (zcls z r) k' := by
  intro z st k' as rest h
  unfold sU3 at h
  split at h
  · rename_i r _
    cases hl : t.lookup (zcls z r) with
    | none => rw [hl] at h; cases h
    | some k1 =>
      rw [hl] at h
      cases h
      refine ⟨r, _, rfl, rfl, rfl, ?_⟩
      exact ht (zcls z r, k') (zlookup_mem hl)
  · cases h
end ZSITES
