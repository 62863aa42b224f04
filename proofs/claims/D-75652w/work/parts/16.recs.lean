/-! methods' records, read -/
set_option maxRecDepth 100000
theorem mr_J0_charAt : mJ0_charAt.2.2.1 = 2 ∧ mJ0_charAt.2.2.2.1 = (Option.some Jvm.ClassFile.FieldType.char) := ⟨rfl, rfl⟩
theorem mr_J0_checkBoundsBeginEnd : mJ0_checkBoundsBeginEnd.2.2.1 = 3 ∧ mJ0_checkBoundsBeginEnd.2.2.2.1 = none := ⟨rfl, rfl⟩
theorem mr_J0_checkIndex : mJ0_checkIndex.2.2.1 = 2 ∧ mJ0_checkIndex.2.2.2.1 = none := ⟨rfl, rfl⟩
theorem mr_J0_coder : mJ0_coder.2.2.1 = 1 ∧ mJ0_coder.2.2.2.1 = (Option.some Jvm.ClassFile.FieldType.byte) := ⟨rfl, rfl⟩
theorem mr_J0_indexOf : mJ0_indexOf.2.2.1 = 2 ∧ mJ0_indexOf.2.2.2.1 = (Option.some Jvm.ClassFile.FieldType.int) := ⟨rfl, rfl⟩
theorem mr_J0_indexOf_2 : mJ0_indexOf_2.2.2.1 = 3 ∧ mJ0_indexOf_2.2.2.2.1 = (Option.some Jvm.ClassFile.FieldType.int) := ⟨rfl, rfl⟩
theorem mr_J0_isLatin1 : mJ0_isLatin1.2.2.1 = 1 ∧ mJ0_isLatin1.2.2.2.1 = (Option.some Jvm.ClassFile.FieldType.boolean) := ⟨rfl, rfl⟩
theorem mr_J0_length : mJ0_length.2.2.1 = 1 ∧ mJ0_length.2.2.2.1 = (Option.some Jvm.ClassFile.FieldType.int) := ⟨rfl, rfl⟩
theorem mr_J13_bitCount : mJ13_bitCount.2.2.1 = 1 ∧ mJ13_bitCount.2.2.2.1 = (Option.some Jvm.ClassFile.FieldType.int) := ⟨rfl, rfl⟩
theorem mr_J1_canEncode : mJ1_canEncode.2.2.1 = 1 ∧ mJ1_canEncode.2.2.2.1 = (Option.some Jvm.ClassFile.FieldType.boolean) := ⟨rfl, rfl⟩
theorem mr_J1_charAt : mJ1_charAt.2.2.1 = 2 ∧ mJ1_charAt.2.2.2.1 = (Option.some Jvm.ClassFile.FieldType.char) := ⟨rfl, rfl⟩
theorem mr_J1_indexOf : mJ1_indexOf.2.2.1 = 4 ∧ mJ1_indexOf.2.2.2.1 = (Option.some Jvm.ClassFile.FieldType.int) := ⟨rfl, rfl⟩
theorem mr_J1_indexOfChar : mJ1_indexOfChar.2.2.1 = 6 ∧ mJ1_indexOfChar.2.2.2.1 = (Option.some Jvm.ClassFile.FieldType.int) := ⟨rfl, rfl⟩
theorem mr_J2_floorMod : mJ2_floorMod.2.2.1 = 3 ∧ mJ2_floorMod.2.2.2.1 = (Option.some Jvm.ClassFile.FieldType.int) := ⟨rfl, rfl⟩
theorem mr_J2_max : mJ2_max.2.2.1 = 2 ∧ mJ2_max.2.2.2.1 = (Option.some Jvm.ClassFile.FieldType.int) := ⟨rfl, rfl⟩
theorem mr_J2_max_2 : mJ2_max_2.2.2.1 = 4 ∧ mJ2_max_2.2.2.2.1 = (Option.some Jvm.ClassFile.FieldType.long) := ⟨rfl, rfl⟩
theorem mr_J2_min : mJ2_min.2.2.1 = 2 ∧ mJ2_min.2.2.2.1 = (Option.some Jvm.ClassFile.FieldType.int) := ⟨rfl, rfl⟩
theorem mr_J2_min_2 : mJ2_min_2.2.2.1 = 4 ∧ mJ2_min_2.2.2.2.1 = (Option.some Jvm.ClassFile.FieldType.long) := ⟨rfl, rfl⟩
theorem mr_J4_checkFromToIndex : mJ4_checkFromToIndex.2.2.1 = 4 ∧ mJ4_checkFromToIndex.2.2.2.1 = (Option.some Jvm.ClassFile.FieldType.int) := ⟨rfl, rfl⟩
theorem mr_J4_checkIndex : mJ4_checkIndex.2.2.1 = 3 ∧ mJ4_checkIndex.2.2.2.1 = (Option.some Jvm.ClassFile.FieldType.int) := ⟨rfl, rfl⟩
theorem mr_X0_arranges : mX0_arranges.2.2.1 = 6 ∧ mX0_arranges.2.2.2.1 = none := ⟨rfl, rfl⟩
theorem mr_X0_attempt : mX0_attempt.2.2.1 = 7 ∧ mX0_attempt.2.2.2.1 = (Option.some Jvm.ClassFile.FieldType.int) := ⟨rfl, rfl⟩
theorem mr_X0_backBy : mX0_backBy.2.2.1 = 9 ∧ mX0_backBy.2.2.2.1 = (Option.some Jvm.ClassFile.FieldType.int) := ⟨rfl, rfl⟩
theorem mr_X0_backs : mX0_backs.2.2.1 = 4 ∧ mX0_backs.2.2.2.1 = (Option.some Jvm.ClassFile.FieldType.int) := ⟨rfl, rfl⟩
theorem mr_X0_becomes : mX0_becomes.2.2.1 = 5 ∧ mX0_becomes.2.2.2.1 = (Option.some Jvm.ClassFile.FieldType.int) := ⟨rfl, rfl⟩
theorem mr_X0_begins : mX0_begins.2.2.1 = 4 ∧ mX0_begins.2.2.2.1 = (Option.some Jvm.ClassFile.FieldType.int) := ⟨rfl, rfl⟩
theorem mr_X0_best : mX0_best.2.2.1 = 2 ∧ mX0_best.2.2.2.1 = (Option.some Jvm.ClassFile.FieldType.int) := ⟨rfl, rfl⟩
theorem mr_X0_bytes : mX0_bytes.2.2.1 = 3 ∧ mX0_bytes.2.2.2.1 = none := ⟨rfl, rfl⟩
theorem mr_X0_chainFrom : mX0_chainFrom.2.2.1 = 4 ∧ mX0_chainFrom.2.2.2.1 = (Option.some Jvm.ClassFile.FieldType.int) := ⟨rfl, rfl⟩
theorem mr_X0_chance : mX0_chance.2.2.1 = 7 ∧ mX0_chance.2.2.2.1 = (Option.some Jvm.ClassFile.FieldType.int) := ⟨rfl, rfl⟩
theorem mr_X0_childrenOf : mX0_childrenOf.2.2.1 = 5 ∧ mX0_childrenOf.2.2.2.1 = (Option.some Jvm.ClassFile.FieldType.int) := ⟨rfl, rfl⟩
theorem mr_X0_comes : mX0_comes.2.2.1 = 6 ∧ mX0_comes.2.2.2.1 = (Option.some Jvm.ClassFile.FieldType.int) := ⟨rfl, rfl⟩
theorem mr_X0_common : mX0_common.2.2.1 = 4 ∧ mX0_common.2.2.2.1 = (Option.some Jvm.ClassFile.FieldType.long) := ⟨rfl, rfl⟩
theorem mr_X0_count : mX0_count.2.2.1 = 6 ∧ mX0_count.2.2.2.1 = (Option.some Jvm.ClassFile.FieldType.long) := ⟨rfl, rfl⟩
theorem mr_X0_degree : mX0_degree.2.2.1 = 3 ∧ mX0_degree.2.2.2.1 = (Option.some Jvm.ClassFile.FieldType.int) := ⟨rfl, rfl⟩
theorem mr_X0_draw : mX0_draw.2.2.1 = 2 ∧ mX0_draw.2.2.2.1 = (Option.some Jvm.ClassFile.FieldType.int) := ⟨rfl, rfl⟩
theorem mr_X0_drawn : mX0_drawn.2.2.1 = 2 ∧ mX0_drawn.2.2.2.1 = (Option.some Jvm.ClassFile.FieldType.int) := ⟨rfl, rfl⟩
theorem mr_X0_fate : mX0_fate.2.2.1 = 5 ∧ mX0_fate.2.2.2.1 = (Option.some Jvm.ClassFile.FieldType.int) := ⟨rfl, rfl⟩
theorem mr_X0_fault : mX0_fault.2.2.1 = 2 ∧ mX0_fault.2.2.2.1 = (Option.some Jvm.ClassFile.FieldType.int) := ⟨rfl, rfl⟩
theorem mr_X0_feed : mX0_feed.2.2.1 = 6 ∧ mX0_feed.2.2.2.1 = (Option.some Jvm.ClassFile.FieldType.int) := ⟨rfl, rfl⟩
theorem mr_X0_first : mX0_first.2.2.1 = 3 ∧ mX0_first.2.2.2.1 = (Option.some Jvm.ClassFile.FieldType.long) := ⟨rfl, rfl⟩
theorem mr_X0_goesAlong : mX0_goesAlong.2.2.1 = 3 ∧ mX0_goesAlong.2.2.2.1 = (Option.some Jvm.ClassFile.FieldType.int) := ⟨rfl, rfl⟩
theorem mr_X0_goesLong : mX0_goesLong.2.2.1 = 4 ∧ mX0_goesLong.2.2.2.1 = none := ⟨rfl, rfl⟩
theorem mr_X0_has : mX0_has.2.2.1 = 2 ∧ mX0_has.2.2.2.1 = (Option.some Jvm.ClassFile.FieldType.boolean) := ⟨rfl, rfl⟩
theorem mr_X0_image : mX0_image.2.2.1 = 2 ∧ mX0_image.2.2.2.1 = (Option.some Jvm.ClassFile.FieldType.int) := ⟨rfl, rfl⟩
theorem mr_X0_in : mX0_in.2.2.1 = 6 ∧ mX0_in.2.2.2.1 = (Option.some Jvm.ClassFile.FieldType.boolean) := ⟨rfl, rfl⟩
theorem mr_X0_init : mX0_init.2.2.1 = 1 ∧ mX0_init.2.2.2.1 = none := ⟨rfl, rfl⟩
theorem mr_X0_isDoubled : mX0_isDoubled.2.2.1 = 6 ∧ mX0_isDoubled.2.2.2.1 = (Option.some Jvm.ClassFile.FieldType.boolean) := ⟨rfl, rfl⟩
theorem mr_X0_isLetter : mX0_isLetter.2.2.1 = 2 ∧ mX0_isLetter.2.2.2.1 = (Option.some Jvm.ClassFile.FieldType.boolean) := ⟨rfl, rfl⟩
theorem mr_X0_isSoughtAt : mX0_isSoughtAt.2.2.1 = 3 ∧ mX0_isSoughtAt.2.2.2.1 = (Option.some Jvm.ClassFile.FieldType.boolean) := ⟨rfl, rfl⟩
theorem mr_X0_isTable : mX0_isTable.2.2.1 = 2 ∧ mX0_isTable.2.2.2.1 = (Option.some Jvm.ClassFile.FieldType.boolean) := ⟨rfl, rfl⟩
theorem mr_X0_isTray : mX0_isTray.2.2.1 = 1 ∧ mX0_isTray.2.2.2.1 = (Option.some Jvm.ClassFile.FieldType.boolean) := ⟨rfl, rfl⟩
theorem mr_X0_judge : mX0_judge.2.2.1 = 6 ∧ mX0_judge.2.2.2.1 = (Option.some Jvm.ClassFile.FieldType.int) := ⟨rfl, rfl⟩
theorem mr_X0_laysComing : mX0_laysComing.2.2.1 = 4 ∧ mX0_laysComing.2.2.2.1 = none := ⟨rfl, rfl⟩
theorem mr_X0_laysLong : mX0_laysLong.2.2.1 = 4 ∧ mX0_laysLong.2.2.2.1 = (Option.some Jvm.ClassFile.FieldType.int) := ⟨rfl, rfl⟩
theorem mr_X0_laysSoonest : mX0_laysSoonest.2.2.1 = 4 ∧ mX0_laysSoonest.2.2.2.1 = (Option.some Jvm.ClassFile.FieldType.int) := ⟨rfl, rfl⟩
theorem mr_X0_laysThen : mX0_laysThen.2.2.1 = 5 ∧ mX0_laysThen.2.2.2.1 = none := ⟨rfl, rfl⟩
theorem mr_X0_laysTurned : mX0_laysTurned.2.2.1 = 2 ∧ mX0_laysTurned.2.2.2.1 = (Option.some Jvm.ClassFile.FieldType.long) := ⟨rfl, rfl⟩
theorem mr_X0_laysWays : mX0_laysWays.2.2.1 = 5 ∧ mX0_laysWays.2.2.2.1 = (Option.some Jvm.ClassFile.FieldType.int) := ⟨rfl, rfl⟩
theorem mr_X0_length : mX0_length.2.2.1 = 1 ∧ mX0_length.2.2.2.1 = (Option.some Jvm.ClassFile.FieldType.long) := ⟨rfl, rfl⟩
theorem mr_X0_lengthAt : mX0_lengthAt.2.2.1 = 5 ∧ mX0_lengthAt.2.2.2.1 = (Option.some Jvm.ClassFile.FieldType.long) := ⟨rfl, rfl⟩
theorem mr_X0_letter : mX0_letter.2.2.1 = 3 ∧ mX0_letter.2.2.2.1 = (Option.some Jvm.ClassFile.FieldType.int) := ⟨rfl, rfl⟩
theorem mr_X0_lists : mX0_lists.2.2.1 = 9 ∧ mX0_lists.2.2.2.1 = (Option.some Jvm.ClassFile.FieldType.int) := ⟨rfl, rfl⟩
theorem mr_X0_longBy : mX0_longBy.2.2.1 = 3 ∧ mX0_longBy.2.2.2.1 = (Option.some Jvm.ClassFile.FieldType.int) := ⟨rfl, rfl⟩
theorem mr_X0_longFault : mX0_longFault.2.2.1 = 6 ∧ mX0_longFault.2.2.2.1 = (Option.some Jvm.ClassFile.FieldType.int) := ⟨rfl, rfl⟩
theorem mr_X0_mean : mX0_mean.2.2.1 = 7 ∧ mX0_mean.2.2.2.1 = (Option.some Jvm.ClassFile.FieldType.long) := ⟨rfl, rfl⟩
theorem mr_X0_moon : mX0_moon.2.2.1 = 3 ∧ mX0_moon.2.2.2.1 = (Option.some Jvm.ClassFile.FieldType.int) := ⟨rfl, rfl⟩
theorem mr_X0_moons : mX0_moons.2.2.1 = 8 ∧ mX0_moons.2.2.2.1 = (Option.some Jvm.ClassFile.FieldType.int) := ⟨rfl, rfl⟩
theorem mr_X0_mostAlike : mX0_mostAlike.2.2.1 = 4 ∧ mX0_mostAlike.2.2.2.1 = (Option.some Jvm.ClassFile.FieldType.int) := ⟨rfl, rfl⟩
theorem mr_X0_night : mX0_night.2.2.1 = 3 ∧ mX0_night.2.2.2.1 = (Option.some Jvm.ClassFile.FieldType.long) := ⟨rfl, rfl⟩
theorem mr_X0_nights : mX0_nights.2.2.1 = 3 ∧ mX0_nights.2.2.2.1 = (Option.some Jvm.ClassFile.FieldType.int) := ⟨rfl, rfl⟩
theorem mr_X0_numbers : mX0_numbers.2.2.1 = 4 ∧ mX0_numbers.2.2.2.1 = (Option.some Jvm.ClassFile.FieldType.int) := ⟨rfl, rfl⟩
theorem mr_X0_occurs : mX0_occurs.2.2.1 = 3 ∧ mX0_occurs.2.2.2.1 = (Option.some Jvm.ClassFile.FieldType.long) := ⟨rfl, rfl⟩
theorem mr_X0_one : mX0_one.2.2.1 = 1 ∧ mX0_one.2.2.2.1 = (Option.some Jvm.ClassFile.FieldType.int) := ⟨rfl, rfl⟩
theorem mr_X0_part : mX0_part.2.2.1 = 7 ∧ mX0_part.2.2.2.1 = (Option.some Jvm.ClassFile.FieldType.long) := ⟨rfl, rfl⟩
theorem mr_X0_perform : mX0_perform.2.2.1 = 4 ∧ mX0_perform.2.2.2.1 = (Option.some Jvm.ClassFile.FieldType.int) := ⟨rfl, rfl⟩
theorem mr_X0_picks : mX0_picks.2.2.1 = 1 ∧ mX0_picks.2.2.2.1 = (Option.some Jvm.ClassFile.FieldType.int) := ⟨rfl, rfl⟩
theorem mr_X0_place : mX0_place.2.2.1 = 4 ∧ mX0_place.2.2.2.1 = (Option.some Jvm.ClassFile.FieldType.long) := ⟨rfl, rfl⟩
theorem mr_X0_reads : mX0_reads.2.2.1 = 7 ∧ mX0_reads.2.2.2.1 = (Option.some Jvm.ClassFile.FieldType.boolean) := ⟨rfl, rfl⟩
theorem mr_X0_remembers : mX0_remembers.2.2.1 = 1 ∧ mX0_remembers.2.2.2.1 = none := ⟨rfl, rfl⟩
theorem mr_X0_restore : mX0_restore.2.2.1 = 2 ∧ mX0_restore.2.2.2.1 = (Option.some Jvm.ClassFile.FieldType.int) := ⟨rfl, rfl⟩
theorem mr_X0_rows : mX0_rows.2.2.1 = 4 ∧ mX0_rows.2.2.2.1 = (Option.some Jvm.ClassFile.FieldType.int) := ⟨rfl, rfl⟩
theorem mr_X0_rowsTo : mX0_rowsTo.2.2.1 = 8 ∧ mX0_rowsTo.2.2.2.1 = (Option.some Jvm.ClassFile.FieldType.int) := ⟨rfl, rfl⟩
theorem mr_X0_seeks : mX0_seeks.2.2.1 = 7 ∧ mX0_seeks.2.2.2.1 = (Option.some (Jvm.ClassFile.FieldType.object "LetterNights$Part")) := ⟨rfl, rfl⟩
theorem mr_X0_setThen : mX0_setThen.2.2.1 = 5 ∧ mX0_setThen.2.2.2.1 = (Option.some Jvm.ClassFile.FieldType.int) := ⟨rfl, rfl⟩
theorem mr_X0_soonest : mX0_soonest.2.2.1 = 3 ∧ mX0_soonest.2.2.2.1 = (Option.some Jvm.ClassFile.FieldType.int) := ⟨rfl, rfl⟩
theorem mr_X0_street : mX0_street.2.2.1 = 3 ∧ mX0_street.2.2.2.1 = (Option.some Jvm.ClassFile.FieldType.int) := ⟨rfl, rfl⟩
theorem mr_X0_tables : mX0_tables.2.2.1 = 4 ∧ mX0_tables.2.2.2.1 = (Option.some Jvm.ClassFile.FieldType.int) := ⟨rfl, rfl⟩
theorem mr_X0_tells : mX0_tells.2.2.1 = 3 ∧ mX0_tells.2.2.2.1 = none := ⟨rfl, rfl⟩
theorem mr_X0_told : mX0_told.2.2.1 = 2 ∧ mX0_told.2.2.2.1 = (Option.some Jvm.ClassFile.FieldType.int) := ⟨rfl, rfl⟩
theorem mr_X0_trayFault : mX0_trayFault.2.2.1 = 2 ∧ mX0_trayFault.2.2.2.1 = (Option.some Jvm.ClassFile.FieldType.int) := ⟨rfl, rfl⟩
theorem mr_X0_turned : mX0_turned.2.2.1 = 2 ∧ mX0_turned.2.2.2.1 = (Option.some Jvm.ClassFile.FieldType.long) := ⟨rfl, rfl⟩
theorem mr_X0_turnedFrom : mX0_turnedFrom.2.2.1 = 8 ∧ mX0_turnedFrom.2.2.2.1 = (Option.some Jvm.ClassFile.FieldType.long) := ⟨rfl, rfl⟩
theorem mr_X0_undo : mX0_undo.2.2.1 = 2 ∧ mX0_undo.2.2.2.1 = (Option.some Jvm.ClassFile.FieldType.int) := ⟨rfl, rfl⟩
theorem mr_X0_way : mX0_way.2.2.1 = 5 ∧ mX0_way.2.2.2.1 = (Option.some Jvm.ClassFile.FieldType.int) := ⟨rfl, rfl⟩
theorem mr_X0_whole : mX0_whole.2.2.1 = 5 ∧ mX0_whole.2.2.2.1 = (Option.some Jvm.ClassFile.FieldType.long) := ⟨rfl, rfl⟩
theorem mr_X0_wordFault : mX0_wordFault.2.2.1 = 5 ∧ mX0_wordFault.2.2.2.1 = (Option.some Jvm.ClassFile.FieldType.int) := ⟨rfl, rfl⟩
theorem mr_X0_year : mX0_year.2.2.1 = 6 ∧ mX0_year.2.2.2.1 = (Option.some Jvm.ClassFile.FieldType.int) := ⟨rfl, rfl⟩
theorem mr_X10_holds : mX10_holds.2.2.1 = 2 ∧ mX10_holds.2.2.2.1 = (Option.some Jvm.ClassFile.FieldType.boolean) := ⟨rfl, rfl⟩
theorem mr_X10_init : mX10_init.2.2.1 = 4 ∧ mX10_init.2.2.2.1 = none := ⟨rfl, rfl⟩
theorem mr_X11_init : mX11_init.2.2.1 = 1 ∧ mX11_init.2.2.2.1 = none := ⟨rfl, rfl⟩
theorem mr_X12_init : mX12_init.2.2.1 = 4 ∧ mX12_init.2.2.2.1 = none := ⟨rfl, rfl⟩
theorem mr_X12_value : mX12_value.2.2.1 = 2 ∧ mX12_value.2.2.2.1 = (Option.some Jvm.ClassFile.FieldType.int) := ⟨rfl, rfl⟩
theorem mr_X13_init : mX13_init.2.2.1 = 2 ∧ mX13_init.2.2.2.1 = none := ⟨rfl, rfl⟩
theorem mr_X13_value : mX13_value.2.2.1 = 2 ∧ mX13_value.2.2.2.1 = (Option.some Jvm.ClassFile.FieldType.int) := ⟨rfl, rfl⟩
theorem mr_X14_init : mX14_init.2.2.1 = 2 ∧ mX14_init.2.2.2.1 = none := ⟨rfl, rfl⟩
theorem mr_X14_value : mX14_value.2.2.1 = 2 ∧ mX14_value.2.2.2.1 = (Option.some Jvm.ClassFile.FieldType.int) := ⟨rfl, rfl⟩
theorem mr_X15_init : mX15_init.2.2.1 = 4 ∧ mX15_init.2.2.2.1 = none := ⟨rfl, rfl⟩
theorem mr_X15_value : mX15_value.2.2.1 = 8 ∧ mX15_value.2.2.2.1 = (Option.some Jvm.ClassFile.FieldType.int) := ⟨rfl, rfl⟩
theorem mr_X1_child : mX1_child.2.2.1 = 4 ∧ mX1_child.2.2.2.1 = (Option.some Jvm.ClassFile.FieldType.int) := ⟨rfl, rfl⟩
theorem mr_X1_init : mX1_init.2.2.1 = 2 ∧ mX1_init.2.2.2.1 = none := ⟨rfl, rfl⟩
theorem mr_X1_lays : mX1_lays.2.2.1 = 6 ∧ mX1_lays.2.2.2.1 = none := ⟨rfl, rfl⟩
theorem mr_X1_manyOf : mX1_manyOf.2.2.1 = 3 ∧ mX1_manyOf.2.2.2.1 = (Option.some Jvm.ClassFile.FieldType.int) := ⟨rfl, rfl⟩
theorem mr_X1_picks : mX1_picks.2.2.1 = 6 ∧ mX1_picks.2.2.2.1 = (Option.some Jvm.ClassFile.FieldType.int) := ⟨rfl, rfl⟩
theorem mr_X2_aheadOf : mX2_aheadOf.2.2.1 = 12 ∧ mX2_aheadOf.2.2.2.1 = (Option.some Jvm.ClassFile.FieldType.long) := ⟨rfl, rfl⟩
theorem mr_X2_allOf : mX2_allOf.2.2.1 = 5 ∧ mX2_allOf.2.2.2.1 = (Option.some Jvm.ClassFile.FieldType.long) := ⟨rfl, rfl⟩
theorem mr_X2_back : mX2_back.2.2.1 = 3 ∧ mX2_back.2.2.2.1 = (Option.some Jvm.ClassFile.FieldType.int) := ⟨rfl, rfl⟩
theorem mr_X2_be : mX2_be.2.2.1 = 2 ∧ mX2_be.2.2.2.1 = (Option.some (Jvm.ClassFile.FieldType.object "LetterNights$State")) := ⟨rfl, rfl⟩
theorem mr_X2_begins : mX2_begins.2.2.1 = 1 ∧ mX2_begins.2.2.2.1 = none := ⟨rfl, rfl⟩
theorem mr_X2_does : mX2_does.2.2.1 = 2 ∧ mX2_does.2.2.2.1 = none := ⟨rfl, rfl⟩
theorem mr_X2_front : mX2_front.2.2.1 = 1 ∧ mX2_front.2.2.2.1 = (Option.some Jvm.ClassFile.FieldType.int) := ⟨rfl, rfl⟩
theorem mr_X2_goes : mX2_goes.2.2.1 = 2 ∧ mX2_goes.2.2.2.1 = none := ⟨rfl, rfl⟩
theorem mr_X2_init : mX2_init.2.2.1 = 2 ∧ mX2_init.2.2.2.1 = none := ⟨rfl, rfl⟩
theorem mr_X2_kinds : mX2_kinds.2.2.1 = 3 ∧ mX2_kinds.2.2.2.1 = (Option.some Jvm.ClassFile.FieldType.int) := ⟨rfl, rfl⟩
theorem mr_X2_lays : mX2_lays.2.2.1 = 8 ∧ mX2_lays.2.2.2.1 = none := ⟨rfl, rfl⟩
theorem mr_X2_laysMany : mX2_laysMany.2.2.1 = 4 ∧ mX2_laysMany.2.2.2.1 = none := ⟨rfl, rfl⟩
theorem mr_X2_length : mX2_length.2.2.1 = 1 ∧ mX2_length.2.2.2.1 = (Option.some Jvm.ClassFile.FieldType.long) := ⟨rfl, rfl⟩
theorem mr_X2_lengthBy : mX2_lengthBy.2.2.1 = 5 ∧ mX2_lengthBy.2.2.2.1 = (Option.some Jvm.ClassFile.FieldType.long) := ⟨rfl, rfl⟩
theorem mr_X2_letterAt : mX2_letterAt.2.2.1 = 9 ∧ mX2_letterAt.2.2.2.1 = (Option.some Jvm.ClassFile.FieldType.int) := ⟨rfl, rfl⟩
theorem mr_X2_manyOf : mX2_manyOf.2.2.1 = 2 ∧ mX2_manyOf.2.2.2.1 = (Option.some Jvm.ClassFile.FieldType.long) := ⟨rfl, rfl⟩
theorem mr_X2_picked : mX2_picked.2.2.1 = 1 ∧ mX2_picked.2.2.2.1 = (Option.some Jvm.ClassFile.FieldType.int) := ⟨rfl, rfl⟩
theorem mr_X2_placeOf : mX2_placeOf.2.2.1 = 12 ∧ mX2_placeOf.2.2.2.1 = (Option.some Jvm.ClassFile.FieldType.long) := ⟨rfl, rfl⟩
theorem mr_X2_whyBy : mX2_whyBy.2.2.1 = 2 ∧ mX2_whyBy.2.2.2.1 = (Option.some Jvm.ClassFile.FieldType.int) := ⟨rfl, rfl⟩
theorem mr_X2_whyNight : mX2_whyNight.2.2.1 = 3 ∧ mX2_whyNight.2.2.2.1 = (Option.some Jvm.ClassFile.FieldType.int) := ⟨rfl, rfl⟩
theorem mr_X2_whyTold : mX2_whyTold.2.2.1 = 3 ∧ mX2_whyTold.2.2.2.1 = (Option.some Jvm.ClassFile.FieldType.int) := ⟨rfl, rfl⟩
theorem mr_X3_adds : mX3_adds.2.2.1 = 5 ∧ mX3_adds.2.2.2.1 = none := ⟨rfl, rfl⟩
theorem mr_X3_crosses : mX3_crosses.2.2.1 = 5 ∧ mX3_crosses.2.2.2.1 = none := ⟨rfl, rfl⟩
theorem mr_X3_edge : mX3_edge.2.2.1 = 1 ∧ mX3_edge.2.2.2.1 = (Option.some Jvm.ClassFile.FieldType.int) := ⟨rfl, rfl⟩
theorem mr_X3_empty : mX3_empty.2.2.1 = 1 ∧ mX3_empty.2.2.2.1 = (Option.some (Jvm.ClassFile.FieldType.object "LetterNights$Part")) := ⟨rfl, rfl⟩
theorem mr_X3_init : mX3_init.2.2.1 = 2 ∧ mX3_init.2.2.2.1 = none := ⟨rfl, rfl⟩
theorem mr_X3_letter : mX3_letter.2.2.1 = 2 ∧ mX3_letter.2.2.2.1 = (Option.some (Jvm.ClassFile.FieldType.object "LetterNights$Part")) := ⟨rfl, rfl⟩
theorem mr_X4_init : mX4_init.2.2.1 = 1 ∧ mX4_init.2.2.2.1 = none := ⟨rfl, rfl⟩
theorem mr_X4_many : mX4_many.2.2.1 = 1 ∧ mX4_many.2.2.2.1 = (Option.some Jvm.ClassFile.FieldType.int) := ⟨rfl, rfl⟩
theorem mr_X4_number : mX4_number.2.2.1 = 2 ∧ mX4_number.2.2.2.1 = (Option.some Jvm.ClassFile.FieldType.long) := ⟨rfl, rfl⟩
theorem mr_X4_puts : mX4_puts.2.2.1 = 4 ∧ mX4_puts.2.2.2.1 = none := ⟨rfl, rfl⟩
theorem mr_X5_attempt : mX5_attempt.2.2.1 = 10 ∧ mX5_attempt.2.2.2.1 = (Option.some Jvm.ClassFile.FieldType.int) := ⟨rfl, rfl⟩
theorem mr_X5_backBy : mX5_backBy.2.2.1 = 8 ∧ mX5_backBy.2.2.2.1 = (Option.some Jvm.ClassFile.FieldType.int) := ⟨rfl, rfl⟩
theorem mr_X5_backs : mX5_backs.2.2.1 = 4 ∧ mX5_backs.2.2.2.1 = (Option.some Jvm.ClassFile.FieldType.int) := ⟨rfl, rfl⟩
theorem mr_X5_becomeMany : mX5_becomeMany.2.2.1 = 3 ∧ mX5_becomeMany.2.2.2.1 = (Option.some Jvm.ClassFile.FieldType.int) := ⟨rfl, rfl⟩
theorem mr_X5_becomeOf : mX5_becomeOf.2.2.1 = 4 ∧ mX5_becomeOf.2.2.2.1 = (Option.some Jvm.ClassFile.FieldType.int) := ⟨rfl, rfl⟩
theorem mr_X5_becomes : mX5_becomes.2.2.1 = 4 ∧ mX5_becomes.2.2.2.1 = (Option.some Jvm.ClassFile.FieldType.int) := ⟨rfl, rfl⟩
theorem mr_X5_begins : mX5_begins.2.2.1 = 4 ∧ mX5_begins.2.2.2.1 = (Option.some Jvm.ClassFile.FieldType.int) := ⟨rfl, rfl⟩
theorem mr_X5_best : mX5_best.2.2.1 = 5 ∧ mX5_best.2.2.2.1 = (Option.some Jvm.ClassFile.FieldType.int) := ⟨rfl, rfl⟩
theorem mr_X5_between : mX5_between.2.2.1 = 5 ∧ mX5_between.2.2.2.1 = (Option.some Jvm.ClassFile.FieldType.int) := ⟨rfl, rfl⟩
theorem mr_X5_chance : mX5_chance.2.2.1 = 6 ∧ mX5_chance.2.2.2.1 = (Option.some Jvm.ClassFile.FieldType.int) := ⟨rfl, rfl⟩
theorem mr_X5_closes : mX5_closes.2.2.1 = 1 ∧ mX5_closes.2.2.2.1 = none := ⟨rfl, rfl⟩
theorem mr_X5_codes : mX5_codes.2.2.1 = 2 ∧ mX5_codes.2.2.2.1 = none := ⟨rfl, rfl⟩
theorem mr_X5_comes : mX5_comes.2.2.1 = 5 ∧ mX5_comes.2.2.2.1 = (Option.some Jvm.ClassFile.FieldType.int) := ⟨rfl, rfl⟩
theorem mr_X5_comesTo : mX5_comesTo.2.2.1 = 9 ∧ mX5_comesTo.2.2.2.1 = (Option.some Jvm.ClassFile.FieldType.int) := ⟨rfl, rfl⟩
theorem mr_X5_common : mX5_common.2.2.1 = 4 ∧ mX5_common.2.2.2.1 = (Option.some Jvm.ClassFile.FieldType.long) := ⟨rfl, rfl⟩
theorem mr_X5_count : mX5_count.2.2.1 = 4 ∧ mX5_count.2.2.2.1 = (Option.some Jvm.ClassFile.FieldType.long) := ⟨rfl, rfl⟩
theorem mr_X5_cut : mX5_cut.2.2.1 = 3 ∧ mX5_cut.2.2.2.1 = (Option.some Jvm.ClassFile.FieldType.long) := ⟨rfl, rfl⟩
theorem mr_X5_degree : mX5_degree.2.2.1 = 3 ∧ mX5_degree.2.2.2.1 = (Option.some Jvm.ClassFile.FieldType.int) := ⟨rfl, rfl⟩
theorem mr_X5_does : mX5_does.2.2.1 = 2 ∧ mX5_does.2.2.2.1 = none := ⟨rfl, rfl⟩
theorem mr_X5_draw : mX5_draw.2.2.1 = 2 ∧ mX5_draw.2.2.2.1 = (Option.some Jvm.ClassFile.FieldType.int) := ⟨rfl, rfl⟩
theorem mr_X5_drawn : mX5_drawn.2.2.1 = 2 ∧ mX5_drawn.2.2.2.1 = (Option.some Jvm.ClassFile.FieldType.int) := ⟨rfl, rfl⟩
theorem mr_X5_eats : mX5_eats.2.2.1 = 2 ∧ mX5_eats.2.2.2.1 = (Option.some Jvm.ClassFile.FieldType.boolean) := ⟨rfl, rfl⟩
theorem mr_X5_fails : mX5_fails.2.2.1 = 2 ∧ mX5_fails.2.2.2.1 = none := ⟨rfl, rfl⟩
theorem mr_X5_fate : mX5_fate.2.2.1 = 3 ∧ mX5_fate.2.2.2.1 = (Option.some Jvm.ClassFile.FieldType.int) := ⟨rfl, rfl⟩
theorem mr_X5_fateOf : mX5_fateOf.2.2.1 = 4 ∧ mX5_fateOf.2.2.2.1 = (Option.some Jvm.ClassFile.FieldType.int) := ⟨rfl, rfl⟩
theorem mr_X5_fault : mX5_fault.2.2.1 = 2 ∧ mX5_fault.2.2.2.1 = (Option.some Jvm.ClassFile.FieldType.int) := ⟨rfl, rfl⟩
theorem mr_X5_feed : mX5_feed.2.2.1 = 8 ∧ mX5_feed.2.2.2.1 = (Option.some Jvm.ClassFile.FieldType.int) := ⟨rfl, rfl⟩
theorem mr_X5_finds : mX5_finds.2.2.1 = 6 ∧ mX5_finds.2.2.2.1 = (Option.some Jvm.ClassFile.FieldType.boolean) := ⟨rfl, rfl⟩
theorem mr_X5_first : mX5_first.2.2.1 = 10 ∧ mX5_first.2.2.2.1 = (Option.some Jvm.ClassFile.FieldType.long) := ⟨rfl, rfl⟩
theorem mr_X5_goesIn : mX5_goesIn.2.2.1 = 2 ∧ mX5_goesIn.2.2.2.1 = (Option.some Jvm.ClassFile.FieldType.boolean) := ⟨rfl, rfl⟩
theorem mr_X5_goesLong : mX5_goesLong.2.2.1 = 6 ∧ mX5_goesLong.2.2.2.1 = none := ⟨rfl, rfl⟩
theorem mr_X5_goesMany : mX5_goesMany.2.2.1 = 6 ∧ mX5_goesMany.2.2.2.1 = none := ⟨rfl, rfl⟩
theorem mr_X5_goesNight : mX5_goesNight.2.2.1 = 1 ∧ mX5_goesNight.2.2.2.1 = none := ⟨rfl, rfl⟩
theorem mr_X5_image : mX5_image.2.2.1 = 3 ∧ mX5_image.2.2.2.1 = (Option.some Jvm.ClassFile.FieldType.int) := ⟨rfl, rfl⟩
theorem mr_X5_init : mX5_init.2.2.1 = 1 ∧ mX5_init.2.2.2.1 = none := ⟨rfl, rfl⟩
theorem mr_X5_is : mX5_is.2.2.1 = 2 ∧ mX5_is.2.2.2.1 = (Option.some Jvm.ClassFile.FieldType.boolean) := ⟨rfl, rfl⟩
theorem mr_X5_isAgain : mX5_isAgain.2.2.1 = 2 ∧ mX5_isAgain.2.2.2.1 = none := ⟨rfl, rfl⟩
theorem mr_X5_isAgainBy : mX5_isAgainBy.2.2.1 = 2 ∧ mX5_isAgainBy.2.2.2.1 = none := ⟨rfl, rfl⟩
theorem mr_X5_isBack : mX5_isBack.2.2.1 = 6 ∧ mX5_isBack.2.2.2.1 = (Option.some Jvm.ClassFile.FieldType.boolean) := ⟨rfl, rfl⟩
theorem mr_X5_isDigit : mX5_isDigit.2.2.1 = 1 ∧ mX5_isDigit.2.2.2.1 = (Option.some Jvm.ClassFile.FieldType.boolean) := ⟨rfl, rfl⟩
theorem mr_X5_isDoubled : mX5_isDoubled.2.2.1 = 5 ∧ mX5_isDoubled.2.2.2.1 = (Option.some Jvm.ClassFile.FieldType.boolean) := ⟨rfl, rfl⟩
theorem mr_X5_isIn : mX5_isIn.2.2.1 = 3 ∧ mX5_isIn.2.2.2.1 = (Option.some Jvm.ClassFile.FieldType.boolean) := ⟨rfl, rfl⟩
theorem mr_X5_isLetter : mX5_isLetter.2.2.1 = 2 ∧ mX5_isLetter.2.2.2.1 = (Option.some Jvm.ClassFile.FieldType.boolean) := ⟨rfl, rfl⟩
theorem mr_X5_isRead : mX5_isRead.2.2.1 = 5 ∧ mX5_isRead.2.2.2.1 = (Option.some Jvm.ClassFile.FieldType.boolean) := ⟨rfl, rfl⟩
theorem mr_X5_isSmall : mX5_isSmall.2.2.1 = 1 ∧ mX5_isSmall.2.2.2.1 = (Option.some Jvm.ClassFile.FieldType.boolean) := ⟨rfl, rfl⟩
theorem mr_X5_isTable : mX5_isTable.2.2.1 = 2 ∧ mX5_isTable.2.2.2.1 = (Option.some Jvm.ClassFile.FieldType.boolean) := ⟨rfl, rfl⟩
theorem mr_X5_itsAll : mX5_itsAll.2.2.1 = 2 ∧ mX5_itsAll.2.2.2.1 = (Option.some Jvm.ClassFile.FieldType.int) := ⟨rfl, rfl⟩
theorem mr_X5_judge : mX5_judge.2.2.1 = 7 ∧ mX5_judge.2.2.2.1 = (Option.some Jvm.ClassFile.FieldType.int) := ⟨rfl, rfl⟩
theorem mr_X5_keyAt : mX5_keyAt.2.2.1 = 4 ∧ mX5_keyAt.2.2.2.1 = (Option.some Jvm.ClassFile.FieldType.int) := ⟨rfl, rfl⟩
theorem mr_X5_kindsIn : mX5_kindsIn.2.2.1 = 3 ∧ mX5_kindsIn.2.2.2.1 = (Option.some Jvm.ClassFile.FieldType.int) := ⟨rfl, rfl⟩
theorem mr_X5_kindsTo : mX5_kindsTo.2.2.1 = 6 ∧ mX5_kindsTo.2.2.2.1 = (Option.some Jvm.ClassFile.FieldType.int) := ⟨rfl, rfl⟩
theorem mr_X5_laysBack : mX5_laysBack.2.2.1 = 8 ∧ mX5_laysBack.2.2.2.1 = none := ⟨rfl, rfl⟩
theorem mr_X5_laysBacks : mX5_laysBacks.2.2.1 = 5 ∧ mX5_laysBacks.2.2.2.1 = (Option.some Jvm.ClassFile.FieldType.int) := ⟨rfl, rfl⟩
theorem mr_X5_laysFound : mX5_laysFound.2.2.1 = 4 ∧ mX5_laysFound.2.2.2.1 = (Option.some Jvm.ClassFile.FieldType.int) := ⟨rfl, rfl⟩
theorem mr_X5_laysHits : mX5_laysHits.2.2.1 = 9 ∧ mX5_laysHits.2.2.2.1 = none := ⟨rfl, rfl⟩
theorem mr_X5_laysLong : mX5_laysLong.2.2.1 = 2 ∧ mX5_laysLong.2.2.2.1 = none := ⟨rfl, rfl⟩
theorem mr_X5_laysLongRows : mX5_laysLongRows.2.2.1 = 3 ∧ mX5_laysLongRows.2.2.2.1 = (Option.some Jvm.ClassFile.FieldType.int) := ⟨rfl, rfl⟩
theorem mr_X5_laysMany : mX5_laysMany.2.2.1 = 2 ∧ mX5_laysMany.2.2.2.1 = none := ⟨rfl, rfl⟩
theorem mr_X5_laysOf : mX5_laysOf.2.2.1 = 3 ∧ mX5_laysOf.2.2.2.1 = none := ⟨rfl, rfl⟩
theorem mr_X5_laysReach : mX5_laysReach.2.2.1 = 4 ∧ mX5_laysReach.2.2.2.1 = none := ⟨rfl, rfl⟩
theorem mr_X5_laysSpelling : mX5_laysSpelling.2.2.1 = 3 ∧ mX5_laysSpelling.2.2.2.1 = none := ⟨rfl, rfl⟩
theorem mr_X5_length : mX5_length.2.2.1 = 1 ∧ mX5_length.2.2.2.1 = (Option.some Jvm.ClassFile.FieldType.long) := ⟨rfl, rfl⟩
theorem mr_X5_lengthNow : mX5_lengthNow.2.2.1 = 1 ∧ mX5_lengthNow.2.2.2.1 = (Option.some Jvm.ClassFile.FieldType.long) := ⟨rfl, rfl⟩
theorem mr_X5_letter : mX5_letter.2.2.1 = 3 ∧ mX5_letter.2.2.2.1 = (Option.some Jvm.ClassFile.FieldType.int) := ⟨rfl, rfl⟩
theorem mr_X5_letterAt : mX5_letterAt.2.2.1 = 4 ∧ mX5_letterAt.2.2.2.1 = (Option.some Jvm.ClassFile.FieldType.int) := ⟨rfl, rfl⟩
theorem mr_X5_lists : mX5_lists.2.2.1 = 9 ∧ mX5_lists.2.2.2.1 = (Option.some Jvm.ClassFile.FieldType.int) := ⟨rfl, rfl⟩
theorem mr_X5_longBehind : mX5_longBehind.2.2.1 = 3 ∧ mX5_longBehind.2.2.2.1 = (Option.some Jvm.ClassFile.FieldType.long) := ⟨rfl, rfl⟩
theorem mr_X5_longBy : mX5_longBy.2.2.1 = 3 ∧ mX5_longBy.2.2.2.1 = (Option.some Jvm.ClassFile.FieldType.int) := ⟨rfl, rfl⟩
theorem mr_X5_longIn : mX5_longIn.2.2.1 = 5 ∧ mX5_longIn.2.2.2.1 = (Option.some Jvm.ClassFile.FieldType.long) := ⟨rfl, rfl⟩
theorem mr_X5_mean : mX5_mean.2.2.1 = 7 ∧ mX5_mean.2.2.2.1 = (Option.some Jvm.ClassFile.FieldType.long) := ⟨rfl, rfl⟩
theorem mr_X5_moon : mX5_moon.2.2.1 = 2 ∧ mX5_moon.2.2.2.1 = (Option.some Jvm.ClassFile.FieldType.int) := ⟨rfl, rfl⟩
theorem mr_X5_moons : mX5_moons.2.2.1 = 6 ∧ mX5_moons.2.2.2.1 = (Option.some Jvm.ClassFile.FieldType.int) := ⟨rfl, rfl⟩
theorem mr_X5_mostRow : mX5_mostRow.2.2.1 = 5 ∧ mX5_mostRow.2.2.2.1 = (Option.some Jvm.ClassFile.FieldType.int) := ⟨rfl, rfl⟩
theorem mr_X5_named : mX5_named.2.2.1 = 4 ∧ mX5_named.2.2.2.1 = (Option.some Jvm.ClassFile.FieldType.int) := ⟨rfl, rfl⟩
theorem mr_X5_next : mX5_next.2.2.1 = 2 ∧ mX5_next.2.2.2.1 = none := ⟨rfl, rfl⟩
theorem mr_X5_night : mX5_night.2.2.1 = 3 ∧ mX5_night.2.2.2.1 = (Option.some Jvm.ClassFile.FieldType.long) := ⟨rfl, rfl⟩
theorem mr_X5_nights : mX5_nights.2.2.1 = 3 ∧ mX5_nights.2.2.2.1 = (Option.some Jvm.ClassFile.FieldType.int) := ⟨rfl, rfl⟩
theorem mr_X5_noBack : mX5_noBack.2.2.1 = 3 ∧ mX5_noBack.2.2.2.1 = (Option.some Jvm.ClassFile.FieldType.int) := ⟨rfl, rfl⟩
theorem mr_X5_noLong : mX5_noLong.2.2.1 = 5 ∧ mX5_noLong.2.2.2.1 = (Option.some Jvm.ClassFile.FieldType.int) := ⟨rfl, rfl⟩
theorem mr_X5_noTray : mX5_noTray.2.2.1 = 2 ∧ mX5_noTray.2.2.2.1 = (Option.some Jvm.ClassFile.FieldType.int) := ⟨rfl, rfl⟩
theorem mr_X5_noWord : mX5_noWord.2.2.1 = 4 ∧ mX5_noWord.2.2.2.1 = (Option.some Jvm.ClassFile.FieldType.int) := ⟨rfl, rfl⟩
theorem mr_X5_notes : mX5_notes.2.2.1 = 2 ∧ mX5_notes.2.2.2.1 = none := ⟨rfl, rfl⟩
theorem mr_X5_numbers : mX5_numbers.2.2.1 = 5 ∧ mX5_numbers.2.2.2.1 = (Option.some Jvm.ClassFile.FieldType.int) := ⟨rfl, rfl⟩
theorem mr_X5_occurs : mX5_occurs.2.2.1 = 8 ∧ mX5_occurs.2.2.2.1 = (Option.some Jvm.ClassFile.FieldType.long) := ⟨rfl, rfl⟩
theorem mr_X5_part : mX5_part.2.2.1 = 5 ∧ mX5_part.2.2.2.1 = (Option.some Jvm.ClassFile.FieldType.long) := ⟨rfl, rfl⟩
theorem mr_X5_partOf : mX5_partOf.2.2.1 = 5 ∧ mX5_partOf.2.2.2.1 = (Option.some Jvm.ClassFile.FieldType.int) := ⟨rfl, rfl⟩
theorem mr_X5_perform : mX5_perform.2.2.1 = 4 ∧ mX5_perform.2.2.2.1 = (Option.some Jvm.ClassFile.FieldType.int) := ⟨rfl, rfl⟩
theorem mr_X5_pickedNow : mX5_pickedNow.2.2.1 = 4 ∧ mX5_pickedNow.2.2.2.1 = (Option.some Jvm.ClassFile.FieldType.int) := ⟨rfl, rfl⟩
theorem mr_X5_picks : mX5_picks.2.2.1 = 1 ∧ mX5_picks.2.2.2.1 = (Option.some Jvm.ClassFile.FieldType.int) := ⟨rfl, rfl⟩
theorem mr_X5_place : mX5_place.2.2.1 = 12 ∧ mX5_place.2.2.2.1 = (Option.some Jvm.ClassFile.FieldType.long) := ⟨rfl, rfl⟩
theorem mr_X5_plain : mX5_plain.2.2.1 = 2 ∧ mX5_plain.2.2.2.1 = none := ⟨rfl, rfl⟩
theorem mr_X5_plus : mX5_plus.2.2.1 = 4 ∧ mX5_plus.2.2.2.1 = (Option.some Jvm.ClassFile.FieldType.long) := ⟨rfl, rfl⟩
theorem mr_X5_readAtom : mX5_readAtom.2.2.1 = 2 ∧ mX5_readAtom.2.2.2.1 = none := ⟨rfl, rfl⟩
theorem mr_X5_readBoth : mX5_readBoth.2.2.1 = 2 ∧ mX5_readBoth.2.2.2.1 = none := ⟨rfl, rfl⟩
theorem mr_X5_readIf : mX5_readIf.2.2.1 = 2 ∧ mX5_readIf.2.2.2.1 = none := ⟨rfl, rfl⟩
theorem mr_X5_readLaw : mX5_readLaw.2.2.1 = 3 ∧ mX5_readLaw.2.2.2.1 = none := ⟨rfl, rfl⟩
theorem mr_X5_readLine : mX5_readLine.2.2.1 = 1 ∧ mX5_readLine.2.2.2.1 = none := ⟨rfl, rfl⟩
theorem mr_X5_readRule : mX5_readRule.2.2.1 = 5 ∧ mX5_readRule.2.2.2.1 = none := ⟨rfl, rfl⟩
theorem mr_X5_readStands : mX5_readStands.2.2.1 = 3 ∧ mX5_readStands.2.2.2.1 = none := ⟨rfl, rfl⟩
theorem mr_X5_readSum : mX5_readSum.2.2.1 = 3 ∧ mX5_readSum.2.2.2.1 = none := ⟨rfl, rfl⟩
theorem mr_X5_readTerm : mX5_readTerm.2.2.1 = 2 ∧ mX5_readTerm.2.2.2.1 = none := ⟨rfl, rfl⟩
theorem mr_X5_readTruth : mX5_readTruth.2.2.1 = 2 ∧ mX5_readTruth.2.2.2.1 = none := ⟨rfl, rfl⟩
theorem mr_X5_readUnit : mX5_readUnit.2.2.1 = 3 ∧ mX5_readUnit.2.2.2.1 = none := ⟨rfl, rfl⟩
theorem mr_X5_reckons : mX5_reckons.2.2.1 = 5 ∧ mX5_reckons.2.2.2.1 = (Option.some Jvm.ClassFile.FieldType.int) := ⟨rfl, rfl⟩
theorem mr_X5_restore : mX5_restore.2.2.1 = 3 ∧ mX5_restore.2.2.2.1 = (Option.some Jvm.ClassFile.FieldType.int) := ⟨rfl, rfl⟩
theorem mr_X5_rowFrom : mX5_rowFrom.2.2.1 = 5 ∧ mX5_rowFrom.2.2.2.1 = (Option.some Jvm.ClassFile.FieldType.int) := ⟨rfl, rfl⟩
theorem mr_X5_rows : mX5_rows.2.2.1 = 4 ∧ mX5_rows.2.2.2.1 = (Option.some Jvm.ClassFile.FieldType.int) := ⟨rfl, rfl⟩
theorem mr_X5_rowsFrom : mX5_rowsFrom.2.2.1 = 7 ∧ mX5_rowsFrom.2.2.2.1 = (Option.some Jvm.ClassFile.FieldType.int) := ⟨rfl, rfl⟩
theorem mr_X5_see : mX5_see.2.2.1 = 2 ∧ mX5_see.2.2.2.1 = (Option.some Jvm.ClassFile.FieldType.int) := ⟨rfl, rfl⟩
theorem mr_X5_soonest : mX5_soonest.2.2.1 = 3 ∧ mX5_soonest.2.2.2.1 = (Option.some Jvm.ClassFile.FieldType.int) := ⟨rfl, rfl⟩
theorem mr_X5_sorts : mX5_sorts.2.2.1 = 8 ∧ mX5_sorts.2.2.2.1 = none := ⟨rfl, rfl⟩
theorem mr_X5_spells : mX5_spells.2.2.1 = 5 ∧ mX5_spells.2.2.2.1 = (Option.some Jvm.ClassFile.FieldType.int) := ⟨rfl, rfl⟩
theorem mr_X5_stores : mX5_stores.2.2.1 = 2 ∧ mX5_stores.2.2.2.1 = none := ⟨rfl, rfl⟩
theorem mr_X5_storesBy : mX5_storesBy.2.2.1 = 2 ∧ mX5_storesBy.2.2.2.1 = none := ⟨rfl, rfl⟩
theorem mr_X5_street : mX5_street.2.2.1 = 3 ∧ mX5_street.2.2.2.1 = (Option.some Jvm.ClassFile.FieldType.int) := ⟨rfl, rfl⟩
theorem mr_X5_sumOf : mX5_sumOf.2.2.1 = 5 ∧ mX5_sumOf.2.2.2.1 = (Option.some Jvm.ClassFile.FieldType.long) := ⟨rfl, rfl⟩
theorem mr_X5_tables : mX5_tables.2.2.1 = 4 ∧ mX5_tables.2.2.2.1 = (Option.some Jvm.ClassFile.FieldType.int) := ⟨rfl, rfl⟩
theorem mr_X5_takes : mX5_takes.2.2.1 = 4 ∧ mX5_takes.2.2.2.1 = (Option.some Jvm.ClassFile.FieldType.int) := ⟨rfl, rfl⟩
theorem mr_X5_tells : mX5_tells.2.2.1 = 3 ∧ mX5_tells.2.2.2.1 = (Option.some Jvm.ClassFile.FieldType.int) := ⟨rfl, rfl⟩
theorem mr_X5_told : mX5_told.2.2.1 = 6 ∧ mX5_told.2.2.2.1 = (Option.some Jvm.ClassFile.FieldType.int) := ⟨rfl, rfl⟩
theorem mr_X5_turned : mX5_turned.2.2.1 = 2 ∧ mX5_turned.2.2.2.1 = (Option.some Jvm.ClassFile.FieldType.long) := ⟨rfl, rfl⟩
theorem mr_X5_turnedFrom : mX5_turnedFrom.2.2.1 = 8 ∧ mX5_turnedFrom.2.2.2.1 = (Option.some Jvm.ClassFile.FieldType.long) := ⟨rfl, rfl⟩
theorem mr_X5_undo : mX5_undo.2.2.1 = 3 ∧ mX5_undo.2.2.2.1 = (Option.some Jvm.ClassFile.FieldType.int) := ⟨rfl, rfl⟩
theorem mr_X5_way : mX5_way.2.2.1 = 5 ∧ mX5_way.2.2.2.1 = (Option.some Jvm.ClassFile.FieldType.int) := ⟨rfl, rfl⟩
theorem mr_X5_wholeOf : mX5_wholeOf.2.2.1 = 5 ∧ mX5_wholeOf.2.2.2.1 = (Option.some Jvm.ClassFile.FieldType.long) := ⟨rfl, rfl⟩
theorem mr_X5_whyNight : mX5_whyNight.2.2.1 = 3 ∧ mX5_whyNight.2.2.2.1 = (Option.some Jvm.ClassFile.FieldType.int) := ⟨rfl, rfl⟩
theorem mr_X5_whyNot : mX5_whyNot.2.2.1 = 3 ∧ mX5_whyNot.2.2.2.1 = (Option.some Jvm.ClassFile.FieldType.int) := ⟨rfl, rfl⟩
theorem mr_X5_within : mX5_within.2.2.1 = 6 ∧ mX5_within.2.2.2.1 = (Option.some Jvm.ClassFile.FieldType.boolean) := ⟨rfl, rfl⟩
theorem mr_X5_wordOf : mX5_wordOf.2.2.1 = 2 ∧ mX5_wordOf.2.2.2.1 = (Option.some Jvm.ClassFile.FieldType.int) := ⟨rfl, rfl⟩
theorem mr_X5_write : mX5_write.2.2.1 = 6 ∧ mX5_write.2.2.2.1 = (Option.some Jvm.ClassFile.FieldType.long) := ⟨rfl, rfl⟩
theorem mr_X5_year : mX5_year.2.2.1 = 6 ∧ mX5_year.2.2.2.1 = (Option.some Jvm.ClassFile.FieldType.int) := ⟨rfl, rfl⟩
theorem mr_X6_asks : mX6_asks.2.2.1 = 4 ∧ mX6_asks.2.2.2.1 = (Option.some (Jvm.ClassFile.FieldType.object "LetterNights$Sum")) := ⟨rfl, rfl⟩
theorem mr_X6_atom : mX6_atom.2.2.1 = 3 ∧ mX6_atom.2.2.2.1 = (Option.some (Jvm.ClassFile.FieldType.object "LetterNights$Sum")) := ⟨rfl, rfl⟩
theorem mr_X6_both : mX6_both.2.2.1 = 2 ∧ mX6_both.2.2.2.1 = (Option.some (Jvm.ClassFile.FieldType.object "LetterNights$Truth")) := ⟨rfl, rfl⟩
theorem mr_X6_ends : mX6_ends.2.2.1 = 1 ∧ mX6_ends.2.2.2.1 = none := ⟨rfl, rfl⟩
theorem mr_X6_goesIn : mX6_goesIn.2.2.1 = 1 ∧ mX6_goesIn.2.2.2.1 = none := ⟨rfl, rfl⟩
theorem mr_X6_init : mX6_init.2.2.1 = 3 ∧ mX6_init.2.2.2.1 = none := ⟨rfl, rfl⟩
theorem mr_X6_is : mX6_is.2.2.1 = 3 ∧ mX6_is.2.2.2.1 = (Option.some Jvm.ClassFile.FieldType.boolean) := ⟨rfl, rfl⟩
theorem mr_X6_isDigit : mX6_isDigit.2.2.1 = 2 ∧ mX6_isDigit.2.2.2.1 = (Option.some Jvm.ClassFile.FieldType.boolean) := ⟨rfl, rfl⟩
theorem mr_X6_isSign : mX6_isSign.2.2.1 = 2 ∧ mX6_isSign.2.2.2.1 = (Option.some Jvm.ClassFile.FieldType.boolean) := ⟨rfl, rfl⟩
theorem mr_X6_isSmall : mX6_isSmall.2.2.1 = 2 ∧ mX6_isSmall.2.2.2.1 = (Option.some Jvm.ClassFile.FieldType.boolean) := ⟨rfl, rfl⟩
theorem mr_X6_lawPicks : mX6_lawPicks.2.2.1 = 2 ∧ mX6_lawPicks.2.2.2.1 = none := ⟨rfl, rfl⟩
theorem mr_X6_lawSleeps : mX6_lawSleeps.2.2.1 = 2 ∧ mX6_lawSleeps.2.2.2.1 = none := ⟨rfl, rfl⟩
theorem mr_X6_letters : mX6_letters.2.2.1 = 7 ∧ mX6_letters.2.2.2.1 = (Option.some Jvm.ClassFile.FieldType.int) := ⟨rfl, rfl⟩
theorem mr_X6_line : mX6_line.2.2.1 = 1 ∧ mX6_line.2.2.2.1 = none := ⟨rfl, rfl⟩
theorem mr_X6_must : mX6_must.2.2.1 = 2 ∧ mX6_must.2.2.2.1 = none := ⟨rfl, rfl⟩
theorem mr_X6_mustWord : mX6_mustWord.2.2.1 = 2 ∧ mX6_mustWord.2.2.2.1 = none := ⟨rfl, rfl⟩
theorem mr_X6_next : mX6_next.2.2.1 = 1 ∧ mX6_next.2.2.2.1 = none := ⟨rfl, rfl⟩
theorem mr_X6_number : mX6_number.2.2.1 = 4 ∧ mX6_number.2.2.2.1 = (Option.some Jvm.ClassFile.FieldType.int) := ⟨rfl, rfl⟩
theorem mr_X6_read : mX6_read.2.2.1 = 1 ∧ mX6_read.2.2.2.1 = none := ⟨rfl, rfl⟩
theorem mr_X6_rule : mX6_rule.2.2.1 = 4 ∧ mX6_rule.2.2.2.1 = none := ⟨rfl, rfl⟩
theorem mr_X6_see : mX6_see.2.2.1 = 2 ∧ mX6_see.2.2.2.1 = (Option.some Jvm.ClassFile.FieldType.int) := ⟨rfl, rfl⟩
theorem mr_X6_stands : mX6_stands.2.2.1 = 2 ∧ mX6_stands.2.2.2.1 = none := ⟨rfl, rfl⟩
theorem mr_X6_sum : mX6_sum.2.2.1 = 3 ∧ mX6_sum.2.2.2.1 = (Option.some (Jvm.ClassFile.FieldType.object "LetterNights$Sum")) := ⟨rfl, rfl⟩
theorem mr_X6_takes : mX6_takes.2.2.1 = 2 ∧ mX6_takes.2.2.2.1 = (Option.some Jvm.ClassFile.FieldType.boolean) := ⟨rfl, rfl⟩
theorem mr_X6_term : mX6_term.2.2.1 = 2 ∧ mX6_term.2.2.2.1 = (Option.some (Jvm.ClassFile.FieldType.object "LetterNights$Sum")) := ⟨rfl, rfl⟩
theorem mr_X6_truth : mX6_truth.2.2.1 = 2 ∧ mX6_truth.2.2.2.1 = (Option.some (Jvm.ClassFile.FieldType.object "LetterNights$Truth")) := ⟨rfl, rfl⟩
theorem mr_X6_unit : mX6_unit.2.2.1 = 3 ∧ mX6_unit.2.2.2.1 = (Option.some (Jvm.ClassFile.FieldType.object "LetterNights$Truth")) := ⟨rfl, rfl⟩
theorem mr_X6_word : mX6_word.2.2.1 = 1 ∧ mX6_word.2.2.2.1 = (Option.some Jvm.ClassFile.FieldType.int) := ⟨rfl, rfl⟩
theorem mr_X6_wrong : mX6_wrong.2.2.1 = 2 ∧ mX6_wrong.2.2.2.1 = none := ⟨rfl, rfl⟩
theorem mr_X7_init : mX7_init.2.2.1 = 1 ∧ mX7_init.2.2.2.1 = none := ⟨rfl, rfl⟩
theorem mr_X8_holds : mX8_holds.2.2.1 = 2 ∧ mX8_holds.2.2.2.1 = (Option.some Jvm.ClassFile.FieldType.boolean) := ⟨rfl, rfl⟩
theorem mr_X8_init : mX8_init.2.2.1 = 2 ∧ mX8_init.2.2.2.1 = none := ⟨rfl, rfl⟩
theorem mr_X9_holds : mX9_holds.2.2.1 = 4 ∧ mX9_holds.2.2.2.1 = (Option.some Jvm.ClassFile.FieldType.boolean) := ⟨rfl, rfl⟩
theorem mr_X9_init : mX9_init.2.2.1 = 4 ∧ mX9_init.2.2.2.1 = none := ⟨rfl, rfl⟩
theorem fin4_0 : (((0 : Fin 4) : Fin 4) : Nat) = 0 := rfl
theorem fin4_1 : (((1 : Fin 4) : Fin 4) : Nat) = 1 := rfl
theorem fin4_2 : (((2 : Fin 4) : Fin 4) : Nat) = 2 := rfl
theorem fin4_3 : (((3 : Fin 4) : Fin 4) : Nat) = 3 := rfl
theorem fin2_0 : (((0 : Fin 2) : Fin 2) : Nat) = 0 := rfl
theorem fin2_1 : (((1 : Fin 2) : Fin 2) : Nat) = 1 := rfl
