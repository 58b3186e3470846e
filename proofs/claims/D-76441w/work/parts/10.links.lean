abbrev rm_X0_init : Room := { frames := 2, cells := 0, slots := 0, locals := 60 }
abbrev rm_X0_row : Room := { frames := 11, cells := 0, slots := 0, locals := 10282 }
abbrev rm_X0_shelf : Room := { frames := 10, cells := 0, slots := 0, locals := 10260 }
abbrev rm_X0_need : Room := { frames := 4, cells := 0, slots := 0, locals := 109 }
abbrev rm_X0_in : Room := { frames := 0, cells := 0, slots := 0, locals := 0 }
abbrev rm_X0_newRow : Room := { frames := 4, cells := 0, slots := 0, locals := 109 }
abbrev rm_X0_refused : Room := { frames := 0, cells := 0, slots := 0, locals := 0 }
abbrev rm_X0_set : Room := { frames := 11, cells := 0, slots := 0, locals := 10283 }
abbrev rm_X0_copy : Room := { frames := 11, cells := 0, slots := 0, locals := 10282 }
abbrev rm_X0_element : Room := { frames := 11, cells := 0, slots := 0, locals := 10282 }
abbrev rm_X0_show : Room := { frames := 11, cells := 0, slots := 0, locals := 10282 }
abbrev rm_X0_mustPerson : Room := { frames := 5, cells := 0, slots := 0, locals := 130 }
abbrev rm_X0_holds : Room := { frames := 1, cells := 0, slots := 0, locals := 20 }
abbrev rm_X0_says : Room := { frames := 11, cells := 0, slots := 0, locals := 10283 }
abbrev rm_X0_person : Room := { frames := 5, cells := 0, slots := 0, locals := 132 }
abbrev rm_X0_personOfKind : Room := { frames := 4, cells := 0, slots := 0, locals := 109 }
abbrev rm_X0_build : Room := { frames := 5, cells := 0, slots := 0, locals := 130 }
abbrev rm_X0_changed : Room := { frames := 0, cells := 0, slots := 0, locals := 0 }
abbrev rm_X0_put : Room := { frames := 6, cells := 0, slots := 0, locals := 151 }
abbrev rm_X0_sack : Room := { frames := 6, cells := 0, slots := 0, locals := 151 }
abbrev rm_X0_ask : Room := { frames := 6, cells := 0, slots := 0, locals := 153 }
abbrev rm_X0_asked : Room := { frames := 5, cells := 0, slots := 0, locals := 130 }
abbrev rm_X0_personOf : Room := { frames := 4, cells := 0, slots := 0, locals := 85 }
abbrev rm_X0_beyond : Room := { frames := 0, cells := 0, slots := 0, locals := 0 }
abbrev rm_X0_squareOf : Room := { frames := 1, cells := 0, slots := 0, locals := 25 }
abbrev rm_X0_town : Room := { frames := 19, cells := 0, slots := 0, locals := 10457 }
abbrev rm_X0_fault : Room := { frames := 0, cells := 0, slots := 0, locals := 0 }
abbrev rm_X0_view : Room := { frames := 5, cells := 0, slots := 0, locals := 130 }
abbrev rm_X0_glances : Room := { frames := 7, cells := 0, slots := 0, locals := 156 }
abbrev rm_X0_duty : Room := { frames := 9, cells := 0, slots := 0, locals := 198 }
abbrev rm_X0_all : Room := { frames := 10, cells := 0, slots := 0, locals := 220 }
abbrev rm_X0_walk : Room := { frames := 10, cells := 0, slots := 0, locals := 224 }
abbrev rm_X0_stand : Room := { frames := 10, cells := 0, slots := 0, locals := 224 }
abbrev rm_X0_sacks : Room := { frames := 12, cells := 0, slots := 0, locals := 265 }
abbrev rm_X0_bestSacks : Room := { frames := 11, cells := 0, slots := 0, locals := 241 }
abbrev rm_X0_dutiesWith : Room := { frames := 10, cells := 0, slots := 0, locals := 220 }
abbrev rm_X0_balconies : Room := { frames := 10, cells := 0, slots := 0, locals := 220 }
abbrev rm_X0_enteredWith : Room := { frames := 9, cells := 0, slots := 0, locals := 199 }
abbrev rm_X0_fits : Room := { frames := 13, cells := 0, slots := 0, locals := 10324 }
abbrev rm_X0_isRoll : Room := { frames := 12, cells := 0, slots := 0, locals := 10302 }
abbrev rm_X0_most : Room := { frames := 11, cells := 0, slots := 0, locals := 241 }
abbrev rm_X0_dutiesWithout : Room := { frames := 10, cells := 0, slots := 0, locals := 220 }
abbrev rm_X0_crowd : Room := { frames := 5, cells := 0, slots := 0, locals := 130 }
abbrev rm_X0_lookersAt : Room := { frames := 3, cells := 0, slots := 0, locals := 66 }
abbrev rm_X0_judge : Room := { frames := 13, cells := 0, slots := 0, locals := 10328 }
abbrev rm_X0_toldAt : Room := { frames := 11, cells := 0, slots := 0, locals := 10282 }
abbrev rm_X0_wrongIn : Room := { frames := 12, cells := 0, slots := 0, locals := 10302 }
abbrev rm_X0_behind : Room := { frames := 13, cells := 0, slots := 0, locals := 10328 }
abbrev rm_X0_emptyPurses : Room := { frames := 0, cells := 0, slots := 0, locals := 0 }
abbrev rm_X0_done : Room := { frames := 13, cells := 0, slots := 0, locals := 10328 }
abbrev rm_X0_hours : Room := { frames := 11, cells := 0, slots := 0, locals := 243 }
abbrev rm_X0_goesHour : Room := { frames := 10, cells := 0, slots := 0, locals := 220 }
abbrev rm_X0_seed : Room := { frames := 0, cells := 0, slots := 0, locals := 0 }
abbrev rm_X0_act : Room := { frames := 8, cells := 0, slots := 0, locals := 176 }
abbrev rm_X0_trace : Room := { frames := 1, cells := 0, slots := 0, locals := 25 }
abbrev rm_X0_image : Room := { frames := 3, cells := 0, slots := 0, locals := 81 }
abbrev rm_X0_restore : Room := { frames := 5, cells := 0, slots := 0, locals := 130 }
abbrev rm_X0_shelvesFollow : Room := { frames := 1, cells := 0, slots := 0, locals := 21 }
abbrev rm_X0_status : Room := { frames := 1, cells := 0, slots := 0, locals := 25 }
abbrev rm_X1_init : Room := { frames := 1, cells := 0, slots := 0, locals := 40 }
abbrev rm_X1_runs : Room := { frames := 0, cells := 0, slots := 0, locals := 0 }
abbrev rm_X2_init : Room := { frames := 1, cells := 0, slots := 0, locals := 40 }
abbrev rm_X2_isPerson : Room := { frames := 0, cells := 0, slots := 0, locals := 0 }
abbrev rm_X2_show : Room := { frames := 3, cells := 0, slots := 0, locals := 63 }
abbrev rm_X2_isFree : Room := { frames := 1, cells := 0, slots := 0, locals := 21 }
abbrev rm_X2_isWall : Room := { frames := 0, cells := 0, slots := 0, locals := 0 }
abbrev rm_X2_addPerson : Room := { frames := 0, cells := 0, slots := 0, locals := 0 }
abbrev rm_X2_standAt : Room := { frames := 0, cells := 0, slots := 0, locals := 0 }
abbrev rm_X2_take : Room := { frames := 2, cells := 0, slots := 0, locals := 60 }
abbrev rm_X2_isInView : Room := { frames := 2, cells := 0, slots := 0, locals := 41 }
abbrev rm_X2_distance : Room := { frames := 1, cells := 0, slots := 0, locals := 20 }
abbrev rm_X2_glancers : Room := { frames := 6, cells := 0, slots := 0, locals := 133 }
abbrev rm_X2_glances : Room := { frames := 5, cells := 0, slots := 0, locals := 109 }
abbrev rm_X2_catches : Room := { frames := 4, cells := 0, slots := 0, locals := 85 }
abbrev rm_X2_isBefore : Room := { frames := 4, cells := 0, slots := 0, locals := 85 }
abbrev rm_X2_duty : Room := { frames := 8, cells := 0, slots := 0, locals := 177 }
abbrev rm_X2_entered : Room := { frames := 7, cells := 0, slots := 0, locals := 156 }
abbrev rm_X2_isLit : Room := { frames := 3, cells := 0, slots := 0, locals := 66 }
abbrev rm_X2_fine : Room := { frames := 6, cells := 0, slots := 0, locals := 133 }
abbrev rm_X2_duties : Room := { frames := 9, cells := 0, slots := 0, locals := 198 }
abbrev rm_X2_beside : Room := { frames := 2, cells := 0, slots := 0, locals := 42 }
abbrev rm_X2_enteredTogether : Room := { frames := 8, cells := 0, slots := 0, locals := 177 }
abbrev rm_X2_pays : Room := { frames := 9, cells := 0, slots := 0, locals := 198 }
abbrev rm_X2_draw : Room := { frames := 0, cells := 0, slots := 0, locals := 0 }
abbrev rm_X2_pursesTogether : Room := { frames := 0, cells := 0, slots := 0, locals := 0 }
abbrev rm_X3_init : Room := { frames := 1, cells := 0, slots := 0, locals := 40 }
abbrev rm_X3_find : Room := { frames := 9, cells := 0, slots := 0, locals := 198 }
abbrev rm_X3_shortens : Room := { frames := 3, cells := 0, slots := 0, locals := 67 }
abbrev rm_X3_by : Room := { frames := 0, cells := 0, slots := 0, locals := 0 }
abbrev rm_X3_comes : Room := { frames := 0, cells := 0, slots := 0, locals := 0 }
abbrev rm_X3_cost : Room := { frames := 0, cells := 0, slots := 0, locals := 0 }
abbrev rm_X3_steps : Room := { frames := 0, cells := 0, slots := 0, locals := 0 }
abbrev rm_X3_first : Room := { frames := 3, cells := 0, slots := 0, locals := 67 }
abbrev rm_X3_owes : Room := { frames := 0, cells := 0, slots := 0, locals := 0 }
abbrev rm_X4_init : Room := { frames := 1, cells := 0, slots := 0, locals := 40 }
abbrev rm_X4_row : Room := { frames := 10, cells := 0, slots := 0, locals := 10260 }
abbrev rm_X4_holdsPerson : Room := { frames := 0, cells := 0, slots := 0, locals := 0 }
abbrev rm_X4_says : Room := { frames := 10, cells := 0, slots := 0, locals := 10260 }
abbrev rm_X5_init : Room := { frames := 1, cells := 0, slots := 0, locals := 40 }
abbrev rm_X5_row : Room := { frames := 1, cells := 0, slots := 0, locals := 21 }
abbrev rm_X5_isShelf : Room := { frames := 0, cells := 0, slots := 0, locals := 0 }
abbrev rm_X5_no : Room := { frames := 0, cells := 0, slots := 0, locals := 0 }
abbrev rm_X5_set : Room := { frames := 1, cells := 0, slots := 0, locals := 21 }
abbrev rm_X5_copy : Room := { frames := 1, cells := 0, slots := 0, locals := 21 }
abbrev rm_X5_element : Room := { frames := 1, cells := 0, slots := 0, locals := 21 }
abbrev rm_X5_show : Room := { frames := 1, cells := 0, slots := 0, locals := 21 }
abbrev rm_X5_isOne : Room := { frames := 0, cells := 0, slots := 0, locals := 0 }
abbrev rm_X5_holds : Room := { frames := 1, cells := 0, slots := 0, locals := 21 }
abbrev rm_X5_says : Room := { frames := 1, cells := 0, slots := 0, locals := 22 }
abbrev rm_X5_shows : Room := { frames := 0, cells := 0, slots := 0, locals := 0 }
abbrev rm_X5_person : Room := { frames := 1, cells := 0, slots := 0, locals := 26 }
abbrev rm_X5_isFrom : Room := { frames := 0, cells := 0, slots := 0, locals := 0 }
abbrev rm_X5_isSquare : Room := { frames := 0, cells := 0, slots := 0, locals := 0 }
abbrev rm_X5_adds : Room := { frames := 0, cells := 0, slots := 0, locals := 0 }
abbrev rm_X5_build : Room := { frames := 1, cells := 0, slots := 0, locals := 23 }
abbrev rm_X5_thereAt : Room := { frames := 0, cells := 0, slots := 0, locals := 0 }
abbrev rm_X5_put : Room := { frames := 1, cells := 0, slots := 0, locals := 21 }
abbrev rm_X5_sack : Room := { frames := 1, cells := 0, slots := 0, locals := 21 }
abbrev rm_X5_ask : Room := { frames := 2, cells := 0, slots := 0, locals := 45 }
abbrev rm_X5_isAsked : Room := { frames := 1, cells := 0, slots := 0, locals := 23 }
abbrev rm_X5_asks : Room := { frames := 0, cells := 0, slots := 0, locals := 0 }
abbrev rm_X5_personOf : Room := { frames := 1, cells := 0, slots := 0, locals := 22 }
abbrev rm_X5_squareOf : Room := { frames := 1, cells := 0, slots := 0, locals := 23 }
abbrev rm_X5_town : Room := { frames := 4, cells := 0, slots := 0, locals := 90 }
abbrev rm_X5_wanted : Room := { frames := 1, cells := 0, slots := 0, locals := 21 }
abbrev rm_X5_carriesAll : Room := { frames := 1, cells := 0, slots := 0, locals := 26 }
abbrev rm_X5_carries : Room := { frames := 0, cells := 0, slots := 0, locals := 0 }
abbrev rm_X5_item : Room := { frames := 3, cells := 0, slots := 0, locals := 67 }
abbrev rm_X5_stands : Room := { frames := 0, cells := 0, slots := 0, locals := 0 }
abbrev rm_X5_wrong : Room := { frames := 0, cells := 0, slots := 0, locals := 0 }
abbrev rm_X5_word : Room := { frames := 0, cells := 0, slots := 0, locals := 0 }
abbrev rm_X5_reads : Room := { frames := 1, cells := 0, slots := 0, locals := 21 }
abbrev rm_X5_isDigit : Room := { frames := 0, cells := 0, slots := 0, locals := 0 }
abbrev rm_X5_isSo : Room := { frames := 2, cells := 0, slots := 0, locals := 45 }
abbrev rm_X5_fault : Room := { frames := 0, cells := 0, slots := 0, locals := 0 }
abbrev rm_X5_view : Room := { frames := 2, cells := 0, slots := 0, locals := 51 }
abbrev rm_X5_sees : Room := { frames := 1, cells := 0, slots := 0, locals := 25 }
abbrev rm_X5_distance : Room := { frames := 0, cells := 0, slots := 0, locals := 0 }
abbrev rm_X5_glances : Room := { frames := 5, cells := 0, slots := 0, locals := 121 }
abbrev rm_X5_lookers : Room := { frames := 4, cells := 0, slots := 0, locals := 98 }
abbrev rm_X5_lookedAt : Room := { frames := 3, cells := 0, slots := 0, locals := 73 }
abbrev rm_X5_would : Room := { frames := 2, cells := 0, slots := 0, locals := 51 }
abbrev rm_X5_duty : Room := { frames := 6, cells := 0, slots := 0, locals := 143 }
abbrev rm_X5_owes : Room := { frames := 5, cells := 0, slots := 0, locals := 121 }
abbrev rm_X5_isLit : Room := { frames := 2, cells := 0, slots := 0, locals := 51 }
abbrev rm_X5_many : Room := { frames := 0, cells := 0, slots := 0, locals := 0 }
abbrev rm_X5_wouldPay : Room := { frames := 4, cells := 0, slots := 0, locals := 98 }
abbrev rm_X5_all : Room := { frames := 6, cells := 0, slots := 0, locals := 143 }
abbrev rm_X5_walk : Room := { frames := 7, cells := 0, slots := 0, locals := 166 }
abbrev rm_X5_noTen : Room := { frames := 0, cells := 0, slots := 0, locals := 0 }
abbrev rm_X5_tellsDuties : Room := { frames := 6, cells := 0, slots := 0, locals := 143 }
abbrev rm_X5_tellsWays : Room := { frames := 1, cells := 0, slots := 0, locals := 24 }
abbrev rm_X5_beside : Room := { frames := 0, cells := 0, slots := 0, locals := 0 }
abbrev rm_X5_firstOn : Room := { frames := 1, cells := 0, slots := 0, locals := 24 }
abbrev rm_X5_stand : Room := { frames := 7, cells := 0, slots := 0, locals := 166 }
abbrev rm_X5_sacks : Room := { frames := 7, cells := 0, slots := 0, locals := 165 }
abbrev rm_X5_allDuties : Room := { frames := 6, cells := 0, slots := 0, locals := 143 }
abbrev rm_X5_balconies : Room := { frames := 6, cells := 0, slots := 0, locals := 143 }
abbrev rm_X5_allEntered : Room := { frames := 5, cells := 0, slots := 0, locals := 121 }
abbrev rm_X5_fits : Room := { frames := 6, cells := 0, slots := 0, locals := 143 }
abbrev rm_X5_intAt : Room := { frames := 0, cells := 0, slots := 0, locals := 0 }
abbrev rm_X5_most : Room := { frames := 8, cells := 0, slots := 0, locals := 189 }
abbrev rm_X5_without : Room := { frames := 7, cells := 0, slots := 0, locals := 165 }
abbrev rm_X5_crowd : Room := { frames := 3, cells := 0, slots := 0, locals := 74 }
abbrev rm_X5_seers : Room := { frames := 2, cells := 0, slots := 0, locals := 51 }
abbrev rm_X5_judge : Room := { frames := 8, cells := 0, slots := 0, locals := 191 }
abbrev rm_X5_barsOf : Room := { frames := 2, cells := 0, slots := 0, locals := 42 }
abbrev rm_X5_strolls : Room := { frames := 7, cells := 0, slots := 0, locals := 165 }
abbrev rm_X5_pays : Room := { frames := 6, cells := 0, slots := 0, locals := 143 }
abbrev rm_X5_behind : Room := { frames := 8, cells := 0, slots := 0, locals := 191 }
abbrev rm_X5_empty : Room := { frames := 0, cells := 0, slots := 0, locals := 0 }
abbrev rm_X5_done : Room := { frames := 8, cells := 0, slots := 0, locals := 191 }
abbrev rm_X5_hours : Room := { frames := 7, cells := 0, slots := 0, locals := 165 }
abbrev rm_X5_draw : Room := { frames := 0, cells := 0, slots := 0, locals := 0 }
abbrev rm_X5_seed : Room := { frames := 0, cells := 0, slots := 0, locals := 0 }
abbrev rm_X5_act : Room := { frames := 4, cells := 0, slots := 0, locals := 99 }
abbrev rm_X5_looking : Room := { frames := 1, cells := 0, slots := 0, locals := 21 }
abbrev rm_X5_body : Room := { frames := 0, cells := 0, slots := 0, locals := 0 }
abbrev rm_X5_walking : Room := { frames := 2, cells := 0, slots := 0, locals := 48 }
abbrev rm_X5_paying : Room := { frames := 3, cells := 0, slots := 0, locals := 74 }
abbrev rm_X5_trace : Room := { frames := 0, cells := 0, slots := 0, locals := 0 }
abbrev rm_X5_image : Room := { frames := 2, cells := 0, slots := 0, locals := 49 }
abbrev rm_X5_restore : Room := { frames := 2, cells := 0, slots := 0, locals := 49 }
abbrev rm_X5_status : Room := { frames := 1, cells := 0, slots := 0, locals := 24 }
abbrev rm_X5_together : Room := { frames := 0, cells := 0, slots := 0, locals := 0 }
abbrev rm_X6_init : Room := { frames := 3, cells := 0, slots := 0, locals := 88 }
abbrev rm_X7_init : Room := { frames := 1, cells := 0, slots := 0, locals := 40 }
abbrev rm_X7_asInt : Room := { frames := 11, cells := 0, slots := 0, locals := 10281 }
abbrev rm_X8_init : Room := { frames := 2, cells := 0, slots := 0, locals := 60 }
abbrev rm_X8_put : Room := { frames := 10, cells := 0, slots := 0, locals := 10260 }
abbrev rm_X8_sort : Room := { frames := 0, cells := 0, slots := 0, locals := 0 }
abbrev rm_X8_held : Room := { frames := 0, cells := 0, slots := 0, locals := 0 }
abbrev rm_X8_get : Room := { frames := 10, cells := 0, slots := 0, locals := 10260 }
abbrev rm_X8_length : Room := { frames := 0, cells := 0, slots := 0, locals := 0 }
abbrev rm_X9_init : Room := { frames := 2, cells := 0, slots := 0, locals := 60 }
abbrev rm_X9_put : Room := { frames := 10, cells := 0, slots := 0, locals := 10260 }
abbrev rm_X9_sort : Room := { frames := 0, cells := 0, slots := 0, locals := 0 }
abbrev rm_X9_held : Room := { frames := 0, cells := 0, slots := 0, locals := 0 }
abbrev rm_X9_get : Room := { frames := 10, cells := 0, slots := 0, locals := 10260 }
abbrev rm_X9_length : Room := { frames := 0, cells := 0, slots := 0, locals := 0 }
abbrev rm_X10_init : Room := { frames := 2, cells := 0, slots := 0, locals := 60 }
abbrev rm_X10_put : Room := { frames := 10, cells := 0, slots := 0, locals := 10260 }
abbrev rm_X10_sort : Room := { frames := 0, cells := 0, slots := 0, locals := 0 }
abbrev rm_X10_held : Room := { frames := 0, cells := 0, slots := 0, locals := 0 }
abbrev rm_X10_get : Room := { frames := 10, cells := 0, slots := 0, locals := 10260 }
abbrev rm_X10_length : Room := { frames := 0, cells := 0, slots := 0, locals := 0 }
abbrev rm_X11_init : Room := { frames := 2, cells := 0, slots := 0, locals := 60 }
abbrev rm_X11_put : Room := { frames := 10, cells := 0, slots := 0, locals := 10260 }
abbrev rm_X11_sort : Room := { frames := 0, cells := 0, slots := 0, locals := 0 }
abbrev rm_X11_held : Room := { frames := 0, cells := 0, slots := 0, locals := 0 }
abbrev rm_X11_get : Room := { frames := 10, cells := 0, slots := 0, locals := 10260 }
abbrev rm_X11_length : Room := { frames := 0, cells := 0, slots := 0, locals := 0 }
abbrev rm_X12_shows : Room := { frames := 0, cells := 0, slots := 0, locals := 0 }
abbrev rm_X12_init : Room := { frames := 1, cells := 0, slots := 0, locals := 40 }
abbrev rm_X12_kind : Room := { frames := 0, cells := 0, slots := 0, locals := 0 }
abbrev rm_X12_looksAtAll : Room := { frames := 0, cells := 0, slots := 0, locals := 0 }
abbrev rm_X12_looksAtOne : Room := { frames := 0, cells := 0, slots := 0, locals := 0 }
abbrev rm_X12_owes : Room := { frames := 0, cells := 0, slots := 0, locals := 0 }
abbrev rm_X12_looking : Room := { frames := 1, cells := 0, slots := 0, locals := 21 }
abbrev rm_X12_walking : Room := { frames := 4, cells := 0, slots := 0, locals := 87 }
abbrev rm_X12_paying : Room := { frames := 6, cells := 0, slots := 0, locals := 131 }
abbrev rm_X13_shows : Room := { frames := 1, cells := 0, slots := 0, locals := 21 }
abbrev rm_X13_init : Room := { frames := 2, cells := 0, slots := 0, locals := 63 }
abbrev rm_X13_kind : Room := { frames := 0, cells := 0, slots := 0, locals := 0 }
abbrev rm_X13_looking : Room := { frames := 2, cells := 0, slots := 0, locals := 43 }
abbrev rm_X14_shows : Room := { frames := 2, cells := 0, slots := 0, locals := 42 }
abbrev rm_X14_init : Room := { frames := 3, cells := 0, slots := 0, locals := 86 }
abbrev rm_X14_kind : Room := { frames := 0, cells := 0, slots := 0, locals := 0 }
abbrev rm_X14_owes : Room := { frames := 0, cells := 0, slots := 0, locals := 0 }
abbrev rm_X14_looking : Room := { frames := 3, cells := 0, slots := 0, locals := 65 }
abbrev rm_X15_init : Room := { frames := 2, cells := 0, slots := 0, locals := 63 }
abbrev rm_X15_kind : Room := { frames := 0, cells := 0, slots := 0, locals := 0 }
abbrev rm_X15_looksAtAll : Room := { frames := 0, cells := 0, slots := 0, locals := 0 }
abbrev rm_X15_walking : Room := { frames := 5, cells := 0, slots := 0, locals := 109 }
abbrev rm_X16_init : Room := { frames := 2, cells := 0, slots := 0, locals := 63 }
abbrev rm_X16_kind : Room := { frames := 0, cells := 0, slots := 0, locals := 0 }
abbrev rm_X16_looksAtOne : Room := { frames := 0, cells := 0, slots := 0, locals := 0 }
abbrev rm_X16_looking : Room := { frames := 2, cells := 0, slots := 0, locals := 43 }
abbrev rm_X16_paying : Room := { frames := 7, cells := 0, slots := 0, locals := 154 }
abbrev rm_X17_init : Room := { frames := 3, cells := 0, slots := 0, locals := 86 }
abbrev rm_X17_kind : Room := { frames := 0, cells := 0, slots := 0, locals := 0 }
abbrev rm_X17_owes : Room := { frames := 0, cells := 0, slots := 0, locals := 0 }
abbrev rm_X17_paying : Room := { frames := 7, cells := 0, slots := 0, locals := 154 }
abbrev rm_X18_shows : Room := { frames := 1, cells := 0, slots := 0, locals := 21 }
abbrev rm_X18_init : Room := { frames := 3, cells := 0, slots := 0, locals := 86 }
abbrev rm_X18_kind : Room := { frames := 0, cells := 0, slots := 0, locals := 0 }
abbrev rm_X18_looking : Room := { frames := 3, cells := 0, slots := 0, locals := 65 }
abbrev rm_X18_walking : Room := { frames := 5, cells := 0, slots := 0, locals := 109 }
abbrev rm_X19_init : Room := { frames := 1, cells := 0, slots := 0, locals := 40 }
abbrev rm_X19_items : Room := { frames := 18, cells := 0, slots := 0, locals := 10436 }
abbrev rm_X19_item : Room := { frames := 17, cells := 0, slots := 0, locals := 10415 }
abbrev rm_X19_sees : Room := { frames := 12, cells := 0, slots := 0, locals := 10302 }
abbrev rm_X19_ends : Room := { frames := 1, cells := 0, slots := 0, locals := 20 }
abbrev rm_X19_wall : Room := { frames := 16, cells := 0, slots := 0, locals := 10388 }
abbrev rm_X19_word : Room := { frames := 14, cells := 0, slots := 0, locals := 10344 }
abbrev rm_X19_must : Room := { frames := 13, cells := 0, slots := 0, locals := 10323 }
abbrev rm_X19_square : Room := { frames := 15, cells := 0, slots := 0, locals := 10368 }
abbrev rm_X19_number : Room := { frames := 14, cells := 0, slots := 0, locals := 10344 }
abbrev rm_X19_digit : Room := { frames := 12, cells := 0, slots := 0, locals := 10302 }
abbrev rm_X19_hasRoom : Room := { frames := 4, cells := 0, slots := 0, locals := 109 }
abbrev rm_X19_person : Room := { frames := 16, cells := 0, slots := 0, locals := 10388 }
abbrev rm_X20_init : Room := { frames := 3, cells := 0, slots := 0, locals := 88 }
abbrev rm_J0_init_3 : Room := { frames := 1, cells := 0, slots := 0, locals := 40 }
abbrev rm_J1_init_2 : Room := { frames := 2, cells := 0, slots := 0, locals := 64 }
abbrev rm_J5_length : Room := { frames := 1, cells := 0, slots := 0, locals := 20 }
abbrev rm_J5_coder : Room := { frames := 0, cells := 0, slots := 0, locals := 0 }
abbrev rm_J5_charAt : Room := { frames := 4, cells := 0, slots := 0, locals := 85 }
abbrev rm_J5_isLatin1 : Room := { frames := 0, cells := 0, slots := 0, locals := 0 }
abbrev rm_J5_checkIndex : Room := { frames := 1, cells := 0, slots := 0, locals := 22 }
abbrev rm_J8_max : Room := { frames := 0, cells := 0, slots := 0, locals := 0 }
abbrev rm_J8_abs : Room := { frames := 0, cells := 0, slots := 0, locals := 0 }
abbrev rm_J8_min : Room := { frames := 0, cells := 0, slots := 0, locals := 0 }
abbrev rm_J9_charAt : Room := { frames := 2, cells := 0, slots := 0, locals := 43 }
abbrev rm_J10_checkIndex : Room := { frames := 0, cells := 0, slots := 0, locals := 0 }
abbrev rm_J11_charAt : Room := { frames := 3, cells := 0, slots := 0, locals := 64 }
abbrev rm_J11_checkIndex : Room := { frames := 2, cells := 0, slots := 0, locals := 43 }
abbrev rm_J11_length : Room := { frames := 0, cells := 0, slots := 0, locals := 0 }
abbrev rm_J11_getChar : Room := { frames := 1, cells := 0, slots := 0, locals := 20 }
abbrev rm_J12_bitCount : Room := { frames := 0, cells := 0, slots := 0, locals := 0 }
abbrev rm_J13_bitCount : Room := { frames := 0, cells := 0, slots := 0, locals := 0 }
theorem fr_q245_0 : hg_Fd "TaxOnLooks" 59 0 0 := hg_Fd.of (T := TX0) (N := 9) rfl in_X0 (Nat.le_of_ble_eq_true rfl) rfl rfl q245 (Or.inl rfl)
theorem fw_q245_0 : hg_Fw "TaxOnLooks" 59 0 0 true (tyX0 0) := hg_Fw.of (T := TX0) (N := 9) (ty0 := tyX0) rfl in_X0 (Nat.le_of_ble_eq_true rfl) rfl rfl q245 (Or.inl rfl) rfl (fun _ => rfl) tyX0_ok nmX0 rfl rfl
theorem fr_q246_0 : hg_Fd "TaxOnLooks" 63 0 1 := hg_Fd.of (T := TX0) (N := 9) rfl in_X0 (Nat.le_of_ble_eq_true rfl) rfl rfl q246 (Or.inl rfl)
theorem fw_q246_0 : hg_Fw "TaxOnLooks" 63 0 1 true (tyX0 1) := hg_Fw.of (T := TX0) (N := 9) (ty0 := tyX0) rfl in_X0 (Nat.le_of_ble_eq_true rfl) rfl rfl q246 (Or.inl rfl) rfl (fun _ => rfl) tyX0_ok nmX0 rfl rfl
theorem fr_q247_0 : hg_Fd "TaxOnLooks" 70 0 2 := hg_Fd.of (T := TX0) (N := 9) rfl in_X0 (Nat.le_of_ble_eq_true rfl) rfl rfl q247 (Or.inl rfl)
theorem fw_q247_0 : hg_Fw "TaxOnLooks" 70 0 2 true (tyX0 2) := hg_Fw.of (T := TX0) (N := 9) (ty0 := tyX0) rfl in_X0 (Nat.le_of_ble_eq_true rfl) rfl rfl q247 (Or.inl rfl) rfl (fun _ => rfl) tyX0_ok nmX0 rfl rfl
theorem fr_q248_0 : hg_Fd "TaxOnLooks" 77 0 3 := hg_Fd.of (T := TX0) (N := 9) rfl in_X0 (Nat.le_of_ble_eq_true rfl) rfl rfl q248 (Or.inl rfl)
theorem fw_q248_0 : hg_Fw "TaxOnLooks" 77 0 3 true (tyX0 3) := hg_Fw.of (T := TX0) (N := 9) (ty0 := tyX0) rfl in_X0 (Nat.le_of_ble_eq_true rfl) rfl rfl q248 (Or.inl rfl) rfl (fun _ => rfl) tyX0_ok nmX0 rfl rfl
theorem fr_q249_0 : hg_Fd "TaxOnLooks" 84 0 4 := hg_Fd.of (T := TX0) (N := 9) rfl in_X0 (Nat.le_of_ble_eq_true rfl) rfl rfl q249 (Or.inl rfl)
theorem fw_q249_0 : hg_Fw "TaxOnLooks" 84 0 4 true (tyX0 4) := hg_Fw.of (T := TX0) (N := 9) (ty0 := tyX0) rfl in_X0 (Nat.le_of_ble_eq_true rfl) rfl rfl q249 (Or.inl rfl) rfl (fun _ => rfl) tyX0_ok nmX0 rfl rfl
theorem fr_q250_0 : hg_Fd "TaxOnLooks" 88 0 5 := hg_Fd.of (T := TX0) (N := 9) rfl in_X0 (Nat.le_of_ble_eq_true rfl) rfl rfl q250 (Or.inl rfl)
theorem fw_q250_0 : hg_Fw "TaxOnLooks" 88 0 5 false (tyX0 5) := hg_Fw.of (T := TX0) (N := 9) (ty0 := tyX0) rfl in_X0 (Nat.le_of_ble_eq_true rfl) rfl rfl q250 (Or.inl rfl) rfl (fun h => nomatch h) tyX0_ok nmX0 rfl rfl
theorem fr_q252_0 : hg_Fd "TaxOnLooks" 91 0 7 := hg_Fd.of (T := TX0) (N := 9) rfl in_X0 (Nat.le_of_ble_eq_true rfl) rfl rfl q252 (Or.inl rfl)
theorem fw_q252_0 : hg_Fw "TaxOnLooks" 91 0 7 false (tyX0 7) := hg_Fw.of (T := TX0) (N := 9) (ty0 := tyX0) rfl in_X0 (Nat.le_of_ble_eq_true rfl) rfl rfl q252 (Or.inl rfl) rfl (fun h => nomatch h) tyX0_ok nmX0 rfl rfl
theorem fr_q378_6 : hg_Fd "TaxOnLooks" 96 6 6 := hg_Fd.of (T := TX6) (N := 7) rfl in_X6 (Nat.le_of_ble_eq_true rfl) rfl rfl q378 (Or.inl rfl)
theorem fr_q241_4 : hg_Fd "TaxOnLooks" 113 4 0 := hg_Fd.of (T := TX4) (N := 1) rfl in_X4 (Nat.le_of_ble_eq_true rfl) rfl rfl q241 (Or.inl rfl)
theorem fw_q241_4 : hg_Fw "TaxOnLooks" 113 4 0 false (tyX4 0) := hg_Fw.of (T := TX4) (N := 1) (ty0 := tyX4) rfl in_X4 (Nat.le_of_ble_eq_true rfl) rfl rfl q241 (Or.inl rfl) rfl (fun h => nomatch h) tyX4_ok nmX4 rfl rfl
theorem fr_q664_12 : hg_Fd "TaxOnLooks" 116 12 0 := hg_Fd.of (T := TX12) (N := 3) rfl in_X12 (Nat.le_of_ble_eq_true rfl) rfl rfl q664 (Or.inl rfl)
theorem fr_q664_13 : hg_Fd "TaxOnLooks" 116 13 0 := hg_Fd.of (T := TX13) (N := 3) rfl in_X13 (Nat.le_of_ble_eq_true rfl) rfl rfl q664 (Or.inl rfl)
theorem fr_q664_14 : hg_Fd "TaxOnLooks" 116 14 0 := hg_Fd.of (T := TX14) (N := 3) rfl in_X14 (Nat.le_of_ble_eq_true rfl) rfl rfl q664 (Or.inl rfl)
theorem fr_q664_15 : hg_Fd "TaxOnLooks" 116 15 0 := hg_Fd.of (T := TX15) (N := 3) rfl in_X15 (Nat.le_of_ble_eq_true rfl) rfl rfl q664 (Or.inl rfl)
theorem fr_q664_16 : hg_Fd "TaxOnLooks" 116 16 0 := hg_Fd.of (T := TX16) (N := 3) rfl in_X16 (Nat.le_of_ble_eq_true rfl) rfl rfl q664 (Or.inl rfl)
theorem fr_q664_17 : hg_Fd "TaxOnLooks" 116 17 0 := hg_Fd.of (T := TX17) (N := 3) rfl in_X17 (Nat.le_of_ble_eq_true rfl) rfl rfl q664 (Or.inl rfl)
theorem fr_q664_18 : hg_Fd "TaxOnLooks" 116 18 0 := hg_Fd.of (T := TX18) (N := 3) rfl in_X18 (Nat.le_of_ble_eq_true rfl) rfl rfl q664 (Or.inl rfl)
theorem fr_q181_2 : hg_Fd "TaxOnLooks" 119 2 11 := hg_Fd.of (T := TX2) (N := 15) rfl in_X2 (Nat.le_of_ble_eq_true rfl) rfl rfl q181 (Or.inl rfl)
theorem fr_q154_2 : hg_Fd "TaxOnLooks" 189 2 0 := hg_Fd.of (T := TX2) (N := 15) rfl in_X2 (Nat.le_of_ble_eq_true rfl) rfl rfl q154 (Or.inl rfl)
theorem fr_q171_2 : hg_Fd "TaxOnLooks" 208 2 7 := hg_Fd.of (T := TX2) (N := 15) rfl in_X2 (Nat.le_of_ble_eq_true rfl) rfl rfl q171 (Or.inl rfl)
theorem fw_q171_2 : hg_Fw "TaxOnLooks" 208 2 7 false (tyX2 7) := hg_Fw.of (T := TX2) (N := 15) (ty0 := tyX2) rfl in_X2 (Nat.le_of_ble_eq_true rfl) rfl rfl q171 (Or.inl rfl) rfl (fun h => nomatch h) tyX2_ok nmX2 rfl rfl
theorem fr_q174_2 : hg_Fd "TaxOnLooks" 212 2 8 := hg_Fd.of (T := TX2) (N := 15) rfl in_X2 (Nat.le_of_ble_eq_true rfl) rfl rfl q174 (Or.inl rfl)
theorem fw_q174_2 : hg_Fw "TaxOnLooks" 212 2 8 false (tyX2 8) := hg_Fw.of (T := TX2) (N := 15) (ty0 := tyX2) rfl in_X2 (Nat.le_of_ble_eq_true rfl) rfl rfl q174 (Or.inl rfl) rfl (fun h => nomatch h) tyX2_ok nmX2 rfl rfl
theorem fr_q190_2 : hg_Fd "TaxOnLooks" 219 2 14 := hg_Fd.of (T := TX2) (N := 15) rfl in_X2 (Nat.le_of_ble_eq_true rfl) rfl rfl q190 (Or.inl rfl)
theorem fr_q177_2 : hg_Fd "TaxOnLooks" 222 2 9 := hg_Fd.of (T := TX2) (N := 15) rfl in_X2 (Nat.le_of_ble_eq_true rfl) rfl rfl q177 (Or.inl rfl)
theorem fw_q177_2 : hg_Fw "TaxOnLooks" 222 2 9 false (tyX2 9) := hg_Fw.of (T := TX2) (N := 15) (ty0 := tyX2) rfl in_X2 (Nat.le_of_ble_eq_true rfl) rfl rfl q177 (Or.inl rfl) rfl (fun h => nomatch h) tyX2_ok nmX2 rfl rfl
theorem fr_q157_2 : hg_Fd "TaxOnLooks" 225 2 1 := hg_Fd.of (T := TX2) (N := 15) rfl in_X2 (Nat.le_of_ble_eq_true rfl) rfl rfl q157 (Or.inl rfl)
theorem fw_q157_2 : hg_Fw "TaxOnLooks" 225 2 1 false (tyX2 1) := hg_Fw.of (T := TX2) (N := 15) (ty0 := tyX2) rfl in_X2 (Nat.le_of_ble_eq_true rfl) rfl rfl q157 (Or.inl rfl) rfl (fun h => nomatch h) tyX2_ok nmX2 rfl rfl
theorem fr_q160_2 : hg_Fd "TaxOnLooks" 230 2 2 := hg_Fd.of (T := TX2) (N := 15) rfl in_X2 (Nat.le_of_ble_eq_true rfl) rfl rfl q160 (Or.inl rfl)
theorem fw_q160_2 : hg_Fw "TaxOnLooks" 230 2 2 false (tyX2 2) := hg_Fw.of (T := TX2) (N := 15) (ty0 := tyX2) rfl in_X2 (Nat.le_of_ble_eq_true rfl) rfl rfl q160 (Or.inl rfl) rfl (fun h => nomatch h) tyX2_ok nmX2 rfl rfl
theorem fr_q162_2 : hg_Fd "TaxOnLooks" 233 2 3 := hg_Fd.of (T := TX2) (N := 15) rfl in_X2 (Nat.le_of_ble_eq_true rfl) rfl rfl q162 (Or.inl rfl)
theorem fw_q162_2 : hg_Fw "TaxOnLooks" 233 2 3 false (tyX2 3) := hg_Fw.of (T := TX2) (N := 15) (ty0 := tyX2) rfl in_X2 (Nat.le_of_ble_eq_true rfl) rfl rfl q162 (Or.inl rfl) rfl (fun h => nomatch h) tyX2_ok nmX2 rfl rfl
theorem fr_q672_12 : hg_Fd "TaxOnLooks" 247 12 1 := hg_Fd.of (T := TX12) (N := 3) rfl in_X12 (Nat.le_of_ble_eq_true rfl) rfl rfl q672 (Or.inl rfl)
theorem fr_q672_13 : hg_Fd "TaxOnLooks" 247 13 1 := hg_Fd.of (T := TX13) (N := 3) rfl in_X13 (Nat.le_of_ble_eq_true rfl) rfl rfl q672 (Or.inl rfl)
theorem fr_q672_14 : hg_Fd "TaxOnLooks" 247 14 1 := hg_Fd.of (T := TX14) (N := 3) rfl in_X14 (Nat.le_of_ble_eq_true rfl) rfl rfl q672 (Or.inl rfl)
theorem fr_q672_15 : hg_Fd "TaxOnLooks" 247 15 1 := hg_Fd.of (T := TX15) (N := 3) rfl in_X15 (Nat.le_of_ble_eq_true rfl) rfl rfl q672 (Or.inl rfl)
theorem fr_q672_16 : hg_Fd "TaxOnLooks" 247 16 1 := hg_Fd.of (T := TX16) (N := 3) rfl in_X16 (Nat.le_of_ble_eq_true rfl) rfl rfl q672 (Or.inl rfl)
theorem fr_q672_17 : hg_Fd "TaxOnLooks" 247 17 1 := hg_Fd.of (T := TX17) (N := 3) rfl in_X17 (Nat.le_of_ble_eq_true rfl) rfl rfl q672 (Or.inl rfl)
theorem fr_q672_18 : hg_Fd "TaxOnLooks" 247 18 1 := hg_Fd.of (T := TX18) (N := 3) rfl in_X18 (Nat.le_of_ble_eq_true rfl) rfl rfl q672 (Or.inl rfl)
theorem fr_q183_2 : hg_Fd "TaxOnLooks" 250 2 12 := hg_Fd.of (T := TX2) (N := 15) rfl in_X2 (Nat.le_of_ble_eq_true rfl) rfl rfl q183 (Or.inl rfl)
theorem fr_q680_12 : hg_Fd "TaxOnLooks" 253 12 2 := hg_Fd.of (T := TX12) (N := 3) rfl in_X12 (Nat.le_of_ble_eq_true rfl) rfl rfl q680 (Or.inl rfl)
theorem fr_q680_13 : hg_Fd "TaxOnLooks" 253 13 2 := hg_Fd.of (T := TX13) (N := 3) rfl in_X13 (Nat.le_of_ble_eq_true rfl) rfl rfl q680 (Or.inl rfl)
theorem fr_q680_14 : hg_Fd "TaxOnLooks" 253 14 2 := hg_Fd.of (T := TX14) (N := 3) rfl in_X14 (Nat.le_of_ble_eq_true rfl) rfl rfl q680 (Or.inl rfl)
theorem fr_q680_15 : hg_Fd "TaxOnLooks" 253 15 2 := hg_Fd.of (T := TX15) (N := 3) rfl in_X15 (Nat.le_of_ble_eq_true rfl) rfl rfl q680 (Or.inl rfl)
theorem fr_q680_16 : hg_Fd "TaxOnLooks" 253 16 2 := hg_Fd.of (T := TX16) (N := 3) rfl in_X16 (Nat.le_of_ble_eq_true rfl) rfl rfl q680 (Or.inl rfl)
theorem fr_q680_17 : hg_Fd "TaxOnLooks" 253 17 2 := hg_Fd.of (T := TX17) (N := 3) rfl in_X17 (Nat.le_of_ble_eq_true rfl) rfl rfl q680 (Or.inl rfl)
theorem fr_q680_18 : hg_Fd "TaxOnLooks" 253 18 2 := hg_Fd.of (T := TX18) (N := 3) rfl in_X18 (Nat.le_of_ble_eq_true rfl) rfl rfl q680 (Or.inl rfl)
theorem fr_q186_2 : hg_Fd "TaxOnLooks" 256 2 13 := hg_Fd.of (T := TX2) (N := 15) rfl in_X2 (Nat.le_of_ble_eq_true rfl) rfl rfl q186 (Or.inl rfl)
theorem fr_q955_7 : hg_Fd "TaxOnLooks" 279 7 6 := hg_Fd.of (T := TX20) (N := 7) rfl in_X20 (Nat.le_of_ble_eq_true rfl) rfl rfl q955 (Or.inl rfl)
theorem fw_q179_2 : hg_Fw "TaxOnLooks" 352 2 10 false (tyX2 10) := hg_Fw.of (T := TX2) (N := 15) (ty0 := tyX2) rfl in_X2 (Nat.le_of_ble_eq_true rfl) rfl rfl q179 (Or.inl rfl) rfl (fun h => nomatch h) tyX2_ok nmX2 rfl rfl
theorem fr_q253_0 : hg_Fd "TaxOnLooks" 367 0 8 := hg_Fd.of (T := TX0) (N := 9) rfl in_X0 (Nat.le_of_ble_eq_true rfl) rfl rfl q253 (Or.inl rfl)
theorem fw_q253_0 : hg_Fw "TaxOnLooks" 367 0 8 false (tyX0 8) := hg_Fw.of (T := TX0) (N := 9) (ty0 := tyX0) rfl in_X0 (Nat.le_of_ble_eq_true rfl) rfl rfl q253 (Or.inl rfl) rfl (fun h => nomatch h) tyX0_ok nmX0 rfl rfl
theorem fr_q166_2 : hg_Fd "TaxOnLooks" 386 2 5 := hg_Fd.of (T := TX2) (N := 15) rfl in_X2 (Nat.le_of_ble_eq_true rfl) rfl rfl q166 (Or.inl rfl)
theorem fw_q166_2 : hg_Fw "TaxOnLooks" 386 2 5 false (tyX2 5) := hg_Fw.of (T := TX2) (N := 15) (ty0 := tyX2) rfl in_X2 (Nat.le_of_ble_eq_true rfl) rfl rfl q166 (Or.inl rfl) rfl (fun h => nomatch h) tyX2_ok nmX2 rfl rfl
theorem fr_q164_2 : hg_Fd "TaxOnLooks" 389 2 4 := hg_Fd.of (T := TX2) (N := 15) rfl in_X2 (Nat.le_of_ble_eq_true rfl) rfl rfl q164 (Or.inl rfl)
theorem fw_q164_2 : hg_Fw "TaxOnLooks" 389 2 4 false (tyX2 4) := hg_Fw.of (T := TX2) (N := 15) (ty0 := tyX2) rfl in_X2 (Nat.le_of_ble_eq_true rfl) rfl rfl q164 (Or.inl rfl) rfl (fun h => nomatch h) tyX2_ok nmX2 rfl rfl
theorem fr_q168_2 : hg_Fd "TaxOnLooks" 400 2 6 := hg_Fd.of (T := TX2) (N := 15) rfl in_X2 (Nat.le_of_ble_eq_true rfl) rfl rfl q168 (Or.inl rfl)
theorem fw_q168_2 : hg_Fw "TaxOnLooks" 400 2 6 false (tyX2 6) := hg_Fw.of (T := TX2) (N := 15) (ty0 := tyX2) rfl in_X2 (Nat.le_of_ble_eq_true rfl) rfl rfl q168 (Or.inl rfl) rfl (fun h => nomatch h) tyX2_ok nmX2 rfl rfl
theorem fr_q137_1 : hg_Fd "TaxOnLooks" 403 1 1 := hg_Fd.of (T := TX1) (N := 2) rfl in_X1 (Nat.le_of_ble_eq_true rfl) rfl rfl q137 (Or.inl rfl)
theorem fw_q137_1 : hg_Fw "TaxOnLooks" 403 1 1 false (tyX1 1) := hg_Fw.of (T := TX1) (N := 2) (ty0 := tyX1) rfl in_X1 (Nat.le_of_ble_eq_true rfl) rfl rfl q137 (Or.inl rfl) rfl (fun h => nomatch h) tyX1_ok nmX1 rfl rfl
theorem fr_q135_1 : hg_Fd "TaxOnLooks" 417 1 0 := hg_Fd.of (T := TX1) (N := 2) rfl in_X1 (Nat.le_of_ble_eq_true rfl) rfl rfl q135 (Or.inl rfl)
theorem fr_q251_0 : hg_Fd "TaxOnLooks" 420 0 6 := hg_Fd.of (T := TX0) (N := 9) rfl in_X0 (Nat.le_of_ble_eq_true rfl) rfl rfl q251 (Or.inl rfl)
theorem fw_q251_0 : hg_Fw "TaxOnLooks" 420 0 6 false (tyX0 6) := hg_Fw.of (T := TX0) (N := 9) (ty0 := tyX0) rfl in_X0 (Nat.le_of_ble_eq_true rfl) rfl rfl q251 (Or.inl rfl) rfl (fun h => nomatch h) tyX0_ok nmX0 rfl rfl
theorem fr_q666_14 : hg_Fd "TaxOnLooks$Actress" 13 14 1 := hg_Fd.of (T := TX14) (N := 3) rfl in_X14 (Nat.le_of_ble_eq_true rfl) rfl rfl q666 (Or.inr q667)
theorem fr_q668_13 : hg_Fd "TaxOnLooks$Beauty" 23 13 1 := hg_Fd.of (T := TX13) (N := 3) rfl in_X13 (Nat.le_of_ble_eq_true rfl) rfl rfl q668 (Or.inr q669)
theorem fr_q416_8 : hg_Fd "TaxOnLooks$Bytes" 7 8 0 := hg_Fd.of (T := TX8) (N := 1) rfl in_X8 (Nat.le_of_ble_eq_true rfl) rfl rfl q416 (Or.inl rfl)
theorem fw_q416_8 : hg_Fw "TaxOnLooks$Bytes" 7 8 0 true (tyX8 0) := hg_Fw.of (T := TX8) (N := 1) (ty0 := tyX8) rfl in_X8 (Nat.le_of_ble_eq_true rfl) rfl rfl q416 (Or.inl rfl) rfl (fun _ => rfl) tyX8_ok nmX8 rfl rfl
theorem fw_q954_7 : hg_Fw "TaxOnLooks$Faulty" 7 7 6 true (tyX20 6) := hg_Fw.of (T := TX20) (N := 7) (ty0 := tyX20) rfl in_X20 (Nat.le_of_ble_eq_true rfl) rfl rfl q954 (Or.inl rfl) rfl (fun _ => rfl) tyX20_ok nmX20 rfl rfl
theorem fr_q437_10 : hg_Fd "TaxOnLooks$Ints" 7 10 0 := hg_Fd.of (T := TX10) (N := 1) rfl in_X10 (Nat.le_of_ble_eq_true rfl) rfl rfl q437 (Or.inl rfl)
theorem fw_q437_10 : hg_Fw "TaxOnLooks$Ints" 7 10 0 true (tyX10 0) := hg_Fw.of (T := TX10) (N := 1) (ty0 := tyX10) rfl in_X10 (Nat.le_of_ble_eq_true rfl) rfl rfl q437 (Or.inl rfl) rfl (fun _ => rfl) tyX10_ok nmX10 rfl rfl
theorem fr_q447_11 : hg_Fd "TaxOnLooks$Longs" 7 11 0 := hg_Fd.of (T := TX11) (N := 1) rfl in_X11 (Nat.le_of_ble_eq_true rfl) rfl rfl q447 (Or.inl rfl)
theorem fw_q447_11 : hg_Fw "TaxOnLooks$Longs" 7 11 0 true (tyX11 0) := hg_Fw.of (T := TX11) (N := 1) (ty0 := tyX11) rfl in_X11 (Nat.le_of_ble_eq_true rfl) rfl rfl q447 (Or.inl rfl) rfl (fun _ => rfl) tyX11_ok nmX11 rfl rfl
theorem fr_q662_16 : hg_Fd "TaxOnLooks$Lover" 22 16 0 := hg_Fd.of (T := TX16) (N := 3) rfl in_X16 (Nat.le_of_ble_eq_true rfl) rfl rfl q662 (Or.inr q663)
theorem fr_q652_12 : hg_Fd "TaxOnLooks$Person" 7 12 0 := hg_Fd.of (T := TX12) (N := 3) rfl in_X12 (Nat.le_of_ble_eq_true rfl) rfl rfl q652 (Or.inl rfl)
theorem fw_q652_12 : hg_Fw "TaxOnLooks$Person" 7 12 0 true (tyX12 0) := hg_Fw.of (T := TX12) (N := 3) (ty0 := tyX12) rfl in_X12 (Nat.le_of_ble_eq_true rfl) rfl rfl q652 (Or.inl rfl) rfl (fun _ => rfl) tyX12_ok nmX12 rfl rfl
theorem fr_q652_13 : hg_Fd "TaxOnLooks$Person" 7 13 0 := hg_Fd.of (T := TX13) (N := 3) rfl in_X13 (Nat.le_of_ble_eq_true rfl) rfl rfl q652 (Or.inl rfl)
theorem fw_q652_13 : hg_Fw "TaxOnLooks$Person" 7 13 0 true (tyX13 0) := hg_Fw.of (T := TX13) (N := 3) (ty0 := tyX13) rfl in_X13 (Nat.le_of_ble_eq_true rfl) rfl rfl q652 (Or.inl rfl) rfl (fun _ => rfl) tyX13_ok nmX13 rfl rfl
theorem fr_q652_14 : hg_Fd "TaxOnLooks$Person" 7 14 0 := hg_Fd.of (T := TX14) (N := 3) rfl in_X14 (Nat.le_of_ble_eq_true rfl) rfl rfl q652 (Or.inl rfl)
theorem fw_q652_14 : hg_Fw "TaxOnLooks$Person" 7 14 0 true (tyX14 0) := hg_Fw.of (T := TX14) (N := 3) (ty0 := tyX14) rfl in_X14 (Nat.le_of_ble_eq_true rfl) rfl rfl q652 (Or.inl rfl) rfl (fun _ => rfl) tyX14_ok nmX14 rfl rfl
theorem fr_q652_15 : hg_Fd "TaxOnLooks$Person" 7 15 0 := hg_Fd.of (T := TX15) (N := 3) rfl in_X15 (Nat.le_of_ble_eq_true rfl) rfl rfl q652 (Or.inl rfl)
theorem fw_q652_15 : hg_Fw "TaxOnLooks$Person" 7 15 0 true (tyX15 0) := hg_Fw.of (T := TX15) (N := 3) (ty0 := tyX15) rfl in_X15 (Nat.le_of_ble_eq_true rfl) rfl rfl q652 (Or.inl rfl) rfl (fun _ => rfl) tyX15_ok nmX15 rfl rfl
theorem fr_q652_16 : hg_Fd "TaxOnLooks$Person" 7 16 0 := hg_Fd.of (T := TX16) (N := 3) rfl in_X16 (Nat.le_of_ble_eq_true rfl) rfl rfl q652 (Or.inl rfl)
theorem fw_q652_16 : hg_Fw "TaxOnLooks$Person" 7 16 0 true (tyX16 0) := hg_Fw.of (T := TX16) (N := 3) (ty0 := tyX16) rfl in_X16 (Nat.le_of_ble_eq_true rfl) rfl rfl q652 (Or.inl rfl) rfl (fun _ => rfl) tyX16_ok nmX16 rfl rfl
theorem fr_q652_17 : hg_Fd "TaxOnLooks$Person" 7 17 0 := hg_Fd.of (T := TX17) (N := 3) rfl in_X17 (Nat.le_of_ble_eq_true rfl) rfl rfl q652 (Or.inl rfl)
theorem fw_q652_17 : hg_Fw "TaxOnLooks$Person" 7 17 0 true (tyX17 0) := hg_Fw.of (T := TX17) (N := 3) (ty0 := tyX17) rfl in_X17 (Nat.le_of_ble_eq_true rfl) rfl rfl q652 (Or.inl rfl) rfl (fun _ => rfl) tyX17_ok nmX17 rfl rfl
theorem fr_q652_18 : hg_Fd "TaxOnLooks$Person" 7 18 0 := hg_Fd.of (T := TX18) (N := 3) rfl in_X18 (Nat.le_of_ble_eq_true rfl) rfl rfl q652 (Or.inl rfl)
theorem fw_q652_18 : hg_Fw "TaxOnLooks$Person" 7 18 0 true (tyX18 0) := hg_Fw.of (T := TX18) (N := 3) (ty0 := tyX18) rfl in_X18 (Nat.le_of_ble_eq_true rfl) rfl rfl q652 (Or.inl rfl) rfl (fun _ => rfl) tyX18_ok nmX18 rfl rfl
theorem fr_q665_12 : hg_Fd "TaxOnLooks$Person" 13 12 1 := hg_Fd.of (T := TX12) (N := 3) rfl in_X12 (Nat.le_of_ble_eq_true rfl) rfl rfl q665 (Or.inl rfl)
theorem fw_q665_12 : hg_Fw "TaxOnLooks$Person" 13 12 1 true (tyX12 1) := hg_Fw.of (T := TX12) (N := 3) (ty0 := tyX12) rfl in_X12 (Nat.le_of_ble_eq_true rfl) rfl rfl q665 (Or.inl rfl) rfl (fun _ => rfl) tyX12_ok nmX12 rfl rfl
theorem fr_q665_13 : hg_Fd "TaxOnLooks$Person" 13 13 1 := hg_Fd.of (T := TX13) (N := 3) rfl in_X13 (Nat.le_of_ble_eq_true rfl) rfl rfl q665 (Or.inl rfl)
theorem fw_q665_13 : hg_Fw "TaxOnLooks$Person" 13 13 1 true (tyX13 1) := hg_Fw.of (T := TX13) (N := 3) (ty0 := tyX13) rfl in_X13 (Nat.le_of_ble_eq_true rfl) rfl rfl q665 (Or.inl rfl) rfl (fun _ => rfl) tyX13_ok nmX13 rfl rfl
theorem fr_q665_14 : hg_Fd "TaxOnLooks$Person" 13 14 1 := hg_Fd.of (T := TX14) (N := 3) rfl in_X14 (Nat.le_of_ble_eq_true rfl) rfl rfl q665 (Or.inl rfl)
theorem fw_q665_14 : hg_Fw "TaxOnLooks$Person" 13 14 1 true (tyX14 1) := hg_Fw.of (T := TX14) (N := 3) (ty0 := tyX14) rfl in_X14 (Nat.le_of_ble_eq_true rfl) rfl rfl q665 (Or.inl rfl) rfl (fun _ => rfl) tyX14_ok nmX14 rfl rfl
theorem fr_q665_15 : hg_Fd "TaxOnLooks$Person" 13 15 1 := hg_Fd.of (T := TX15) (N := 3) rfl in_X15 (Nat.le_of_ble_eq_true rfl) rfl rfl q665 (Or.inl rfl)
theorem fw_q665_15 : hg_Fw "TaxOnLooks$Person" 13 15 1 true (tyX15 1) := hg_Fw.of (T := TX15) (N := 3) (ty0 := tyX15) rfl in_X15 (Nat.le_of_ble_eq_true rfl) rfl rfl q665 (Or.inl rfl) rfl (fun _ => rfl) tyX15_ok nmX15 rfl rfl
theorem fr_q665_16 : hg_Fd "TaxOnLooks$Person" 13 16 1 := hg_Fd.of (T := TX16) (N := 3) rfl in_X16 (Nat.le_of_ble_eq_true rfl) rfl rfl q665 (Or.inl rfl)
theorem fw_q665_16 : hg_Fw "TaxOnLooks$Person" 13 16 1 true (tyX16 1) := hg_Fw.of (T := TX16) (N := 3) (ty0 := tyX16) rfl in_X16 (Nat.le_of_ble_eq_true rfl) rfl rfl q665 (Or.inl rfl) rfl (fun _ => rfl) tyX16_ok nmX16 rfl rfl
theorem fr_q665_17 : hg_Fd "TaxOnLooks$Person" 13 17 1 := hg_Fd.of (T := TX17) (N := 3) rfl in_X17 (Nat.le_of_ble_eq_true rfl) rfl rfl q665 (Or.inl rfl)
theorem fw_q665_17 : hg_Fw "TaxOnLooks$Person" 13 17 1 true (tyX17 1) := hg_Fw.of (T := TX17) (N := 3) (ty0 := tyX17) rfl in_X17 (Nat.le_of_ble_eq_true rfl) rfl rfl q665 (Or.inl rfl) rfl (fun _ => rfl) tyX17_ok nmX17 rfl rfl
theorem fr_q665_18 : hg_Fd "TaxOnLooks$Person" 13 18 1 := hg_Fd.of (T := TX18) (N := 3) rfl in_X18 (Nat.le_of_ble_eq_true rfl) rfl rfl q665 (Or.inl rfl)
theorem fw_q665_18 : hg_Fw "TaxOnLooks$Person" 13 18 1 true (tyX18 1) := hg_Fw.of (T := TX18) (N := 3) (ty0 := tyX18) rfl in_X18 (Nat.le_of_ble_eq_true rfl) rfl rfl q665 (Or.inl rfl) rfl (fun _ => rfl) tyX18_ok nmX18 rfl rfl
theorem fw_q673_12 : hg_Fw "TaxOnLooks$Person" 16 12 2 true (tyX12 2) := hg_Fw.of (T := TX12) (N := 3) (ty0 := tyX12) rfl in_X12 (Nat.le_of_ble_eq_true rfl) rfl rfl q673 (Or.inl rfl) rfl (fun _ => rfl) tyX12_ok nmX12 rfl rfl
theorem fw_q673_13 : hg_Fw "TaxOnLooks$Person" 16 13 2 true (tyX13 2) := hg_Fw.of (T := TX13) (N := 3) (ty0 := tyX13) rfl in_X13 (Nat.le_of_ble_eq_true rfl) rfl rfl q673 (Or.inl rfl) rfl (fun _ => rfl) tyX13_ok nmX13 rfl rfl
theorem fw_q673_14 : hg_Fw "TaxOnLooks$Person" 16 14 2 true (tyX14 2) := hg_Fw.of (T := TX14) (N := 3) (ty0 := tyX14) rfl in_X14 (Nat.le_of_ble_eq_true rfl) rfl rfl q673 (Or.inl rfl) rfl (fun _ => rfl) tyX14_ok nmX14 rfl rfl
theorem fw_q673_15 : hg_Fw "TaxOnLooks$Person" 16 15 2 true (tyX15 2) := hg_Fw.of (T := TX15) (N := 3) (ty0 := tyX15) rfl in_X15 (Nat.le_of_ble_eq_true rfl) rfl rfl q673 (Or.inl rfl) rfl (fun _ => rfl) tyX15_ok nmX15 rfl rfl
theorem fw_q673_16 : hg_Fw "TaxOnLooks$Person" 16 16 2 true (tyX16 2) := hg_Fw.of (T := TX16) (N := 3) (ty0 := tyX16) rfl in_X16 (Nat.le_of_ble_eq_true rfl) rfl rfl q673 (Or.inl rfl) rfl (fun _ => rfl) tyX16_ok nmX16 rfl rfl
theorem fw_q673_17 : hg_Fw "TaxOnLooks$Person" 16 17 2 true (tyX17 2) := hg_Fw.of (T := TX17) (N := 3) (ty0 := tyX17) rfl in_X17 (Nat.le_of_ble_eq_true rfl) rfl rfl q673 (Or.inl rfl) rfl (fun _ => rfl) tyX17_ok nmX17 rfl rfl
theorem fw_q673_18 : hg_Fw "TaxOnLooks$Person" 16 18 2 true (tyX18 2) := hg_Fw.of (T := TX18) (N := 3) (ty0 := tyX18) rfl in_X18 (Nat.le_of_ble_eq_true rfl) rfl rfl q673 (Or.inl rfl) rfl (fun _ => rfl) tyX18_ok nmX18 rfl rfl
theorem fr_q827_19 : hg_Fd "TaxOnLooks$Reader" 9 19 0 := hg_Fd.of (T := TX19) (N := 4) rfl in_X19 (Nat.le_of_ble_eq_true rfl) rfl rfl q827 (Or.inl rfl)
theorem fw_q827_19 : hg_Fw "TaxOnLooks$Reader" 9 19 0 true (tyX19 0) := hg_Fw.of (T := TX19) (N := 4) (ty0 := tyX19) rfl in_X19 (Nat.le_of_ble_eq_true rfl) rfl rfl q827 (Or.inl rfl) rfl (fun _ => rfl) tyX19_ok nmX19 rfl rfl
theorem fr_q828_19 : hg_Fd "TaxOnLooks$Reader" 15 19 1 := hg_Fd.of (T := TX19) (N := 4) rfl in_X19 (Nat.le_of_ble_eq_true rfl) rfl rfl q828 (Or.inl rfl)
theorem fw_q828_19 : hg_Fw "TaxOnLooks$Reader" 15 19 1 true (tyX19 1) := hg_Fw.of (T := TX19) (N := 4) (ty0 := tyX19) rfl in_X19 (Nat.le_of_ble_eq_true rfl) rfl rfl q828 (Or.inl rfl) rfl (fun _ => rfl) tyX19_ok nmX19 rfl rfl
theorem fr_q829_19 : hg_Fd "TaxOnLooks$Reader" 19 19 2 := hg_Fd.of (T := TX19) (N := 4) rfl in_X19 (Nat.le_of_ble_eq_true rfl) rfl rfl q829 (Or.inl rfl)
theorem fw_q829_19 : hg_Fw "TaxOnLooks$Reader" 19 19 2 false (tyX19 2) := hg_Fw.of (T := TX19) (N := 4) (ty0 := tyX19) rfl in_X19 (Nat.le_of_ble_eq_true rfl) rfl rfl q829 (Or.inl rfl) rfl (fun h => nomatch h) tyX19_ok nmX19 rfl rfl
theorem fr_q830_19 : hg_Fd "TaxOnLooks$Reader" 56 19 3 := hg_Fd.of (T := TX19) (N := 4) rfl in_X19 (Nat.le_of_ble_eq_true rfl) rfl rfl q830 (Or.inl rfl)
theorem fw_q830_19 : hg_Fw "TaxOnLooks$Reader" 56 19 3 false (tyX19 3) := hg_Fw.of (T := TX19) (N := 4) (ty0 := tyX19) rfl in_X19 (Nat.le_of_ble_eq_true rfl) rfl rfl q830 (Or.inl rfl) rfl (fun h => nomatch h) tyX19_ok nmX19 rfl rfl
theorem fr_q153_2 : hg_Fd "TaxOnLooks$Reader" 83 2 0 := hg_Fd.of (T := TX2) (N := 15) rfl in_X2 (Nat.le_of_ble_eq_true rfl) rfl rfl q153 (Or.inl rfl)
theorem fr_q170_2 : hg_Fd "TaxOnLooks$Reader" 107 2 7 := hg_Fd.of (T := TX2) (N := 15) rfl in_X2 (Nat.le_of_ble_eq_true rfl) rfl rfl q170 (Or.inl rfl)
theorem fw_q170_2 : hg_Fw "TaxOnLooks$Reader" 107 2 7 false (tyX2 7) := hg_Fw.of (T := TX2) (N := 15) (ty0 := tyX2) rfl in_X2 (Nat.le_of_ble_eq_true rfl) rfl rfl q170 (Or.inl rfl) rfl (fun h => nomatch h) tyX2_ok nmX2 rfl rfl
theorem fr_q173_2 : hg_Fd "TaxOnLooks$Reader" 119 2 8 := hg_Fd.of (T := TX2) (N := 15) rfl in_X2 (Nat.le_of_ble_eq_true rfl) rfl rfl q173 (Or.inl rfl)
theorem fw_q173_2 : hg_Fw "TaxOnLooks$Reader" 119 2 8 false (tyX2 8) := hg_Fw.of (T := TX2) (N := 15) (ty0 := tyX2) rfl in_X2 (Nat.le_of_ble_eq_true rfl) rfl rfl q173 (Or.inl rfl) rfl (fun h => nomatch h) tyX2_ok nmX2 rfl rfl
theorem fr_q176_2 : hg_Fd "TaxOnLooks$Reader" 126 2 9 := hg_Fd.of (T := TX2) (N := 15) rfl in_X2 (Nat.le_of_ble_eq_true rfl) rfl rfl q176 (Or.inl rfl)
theorem fw_q176_2 : hg_Fw "TaxOnLooks$Reader" 126 2 9 false (tyX2 9) := hg_Fw.of (T := TX2) (N := 15) (ty0 := tyX2) rfl in_X2 (Nat.le_of_ble_eq_true rfl) rfl rfl q176 (Or.inl rfl) rfl (fun h => nomatch h) tyX2_ok nmX2 rfl rfl
theorem fw_q156_2 : hg_Fw "TaxOnLooks$Reader" 131 2 1 false (tyX2 1) := hg_Fw.of (T := TX2) (N := 15) (ty0 := tyX2) rfl in_X2 (Nat.le_of_ble_eq_true rfl) rfl rfl q156 (Or.inl rfl) rfl (fun h => nomatch h) tyX2_ok nmX2 rfl rfl
theorem fw_q159_2 : hg_Fw "TaxOnLooks$Reader" 135 2 2 false (tyX2 2) := hg_Fw.of (T := TX2) (N := 15) (ty0 := tyX2) rfl in_X2 (Nat.le_of_ble_eq_true rfl) rfl rfl q159 (Or.inl rfl) rfl (fun h => nomatch h) tyX2_ok nmX2 rfl rfl
theorem fw_q377_6 : hg_Fw "TaxOnLooks$Refused" 7 6 6 true (tyX6 6) := hg_Fw.of (T := TX6) (N := 7) (ty0 := tyX6) rfl in_X6 (Nat.le_of_ble_eq_true rfl) rfl rfl q377 (Or.inl rfl) rfl (fun _ => rfl) tyX6_ok nmX6 rfl rfl
theorem fr_q674_18 : hg_Fd "TaxOnLooks$Shamed" 13 18 2 := hg_Fd.of (T := TX18) (N := 3) rfl in_X18 (Nat.le_of_ble_eq_true rfl) rfl rfl q674 (Or.inr q675)
theorem fr_q670_18 : hg_Fd "TaxOnLooks$Shamed" 35 18 1 := hg_Fd.of (T := TX18) (N := 3) rfl in_X18 (Nat.le_of_ble_eq_true rfl) rfl rfl q670 (Or.inr q671)
theorem fr_q240_4 : hg_Fd "TaxOnLooks$Shelf" 9 4 0 := hg_Fd.of (T := TX4) (N := 1) rfl in_X4 (Nat.le_of_ble_eq_true rfl) rfl rfl q240 (Or.inl rfl)
theorem fr_q653_13 : hg_Fd "TaxOnLooks$Shelf" 32 13 0 := hg_Fd.of (T := TX13) (N := 3) rfl in_X13 (Nat.le_of_ble_eq_true rfl) rfl rfl q653 (Or.inr q654)
theorem fr_q655_14 : hg_Fd "TaxOnLooks$Shelf" 44 14 0 := hg_Fd.of (T := TX14) (N := 3) rfl in_X14 (Nat.le_of_ble_eq_true rfl) rfl rfl q655 (Or.inr q656)
theorem fr_q185_2 : hg_Fd "TaxOnLooks$Shelf" 45 2 13 := hg_Fd.of (T := TX2) (N := 15) rfl in_X2 (Nat.le_of_ble_eq_true rfl) rfl rfl q185 (Or.inl rfl)
theorem fr_q657_15 : hg_Fd "TaxOnLooks$Shelf" 51 15 0 := hg_Fd.of (T := TX15) (N := 3) rfl in_X15 (Nat.le_of_ble_eq_true rfl) rfl rfl q657 (Or.inr q658)
theorem fr_q676_16 : hg_Fd "TaxOnLooks$Shelf" 54 16 2 := hg_Fd.of (T := TX16) (N := 3) rfl in_X16 (Nat.le_of_ble_eq_true rfl) rfl rfl q676 (Or.inr q677)
theorem fr_q659_17 : hg_Fd "TaxOnLooks$Shelf" 59 17 0 := hg_Fd.of (T := TX17) (N := 3) rfl in_X17 (Nat.le_of_ble_eq_true rfl) rfl rfl q659 (Or.inr q660)
theorem fr_q678_18 : hg_Fd "TaxOnLooks$Shelf" 62 18 2 := hg_Fd.of (T := TX18) (N := 3) rfl in_X18 (Nat.le_of_ble_eq_true rfl) rfl rfl q678 (Or.inr q675)
theorem fr_q189_2 : hg_Fd "TaxOnLooks$Shelf" 63 2 14 := hg_Fd.of (T := TX2) (N := 15) rfl in_X2 (Nat.le_of_ble_eq_true rfl) rfl rfl q189 (Or.inl rfl)
theorem fr_q661_12 : hg_Fd "TaxOnLooks$Shelf" 66 12 0 := hg_Fd.of (T := TX12) (N := 3) rfl in_X12 (Nat.le_of_ble_eq_true rfl) rfl rfl q661 (Or.inl rfl)
theorem fr_q661_13 : hg_Fd "TaxOnLooks$Shelf" 66 13 0 := hg_Fd.of (T := TX13) (N := 3) rfl in_X13 (Nat.le_of_ble_eq_true rfl) rfl rfl q661 (Or.inl rfl)
theorem fr_q661_14 : hg_Fd "TaxOnLooks$Shelf" 66 14 0 := hg_Fd.of (T := TX14) (N := 3) rfl in_X14 (Nat.le_of_ble_eq_true rfl) rfl rfl q661 (Or.inl rfl)
theorem fr_q661_15 : hg_Fd "TaxOnLooks$Shelf" 66 15 0 := hg_Fd.of (T := TX15) (N := 3) rfl in_X15 (Nat.le_of_ble_eq_true rfl) rfl rfl q661 (Or.inl rfl)
theorem fr_q661_16 : hg_Fd "TaxOnLooks$Shelf" 66 16 0 := hg_Fd.of (T := TX16) (N := 3) rfl in_X16 (Nat.le_of_ble_eq_true rfl) rfl rfl q661 (Or.inl rfl)
theorem fr_q661_17 : hg_Fd "TaxOnLooks$Shelf" 66 17 0 := hg_Fd.of (T := TX17) (N := 3) rfl in_X17 (Nat.le_of_ble_eq_true rfl) rfl rfl q661 (Or.inl rfl)
theorem fr_q661_18 : hg_Fd "TaxOnLooks$Shelf" 66 18 0 := hg_Fd.of (T := TX18) (N := 3) rfl in_X18 (Nat.le_of_ble_eq_true rfl) rfl rfl q661 (Or.inl rfl)
theorem fr_q426_9 : hg_Fd "TaxOnLooks$Shorts" 7 9 0 := hg_Fd.of (T := TX9) (N := 1) rfl in_X9 (Nat.le_of_ble_eq_true rfl) rfl rfl q426 (Or.inl rfl)
theorem fw_q426_9 : hg_Fw "TaxOnLooks$Shorts" 7 9 0 true (tyX9 0) := hg_Fw.of (T := TX9) (N := 1) (ty0 := tyX9) rfl in_X9 (Nat.le_of_ble_eq_true rfl) rfl rfl q426 (Or.inl rfl) rfl (fun _ => rfl) tyX9_ok nmX9 rfl rfl
theorem fr_q155_2 : hg_Fd "TaxOnLooks$Town" 9 2 1 := hg_Fd.of (T := TX2) (N := 15) rfl in_X2 (Nat.le_of_ble_eq_true rfl) rfl rfl q155 (Or.inl rfl)
theorem fw_q155_2 : hg_Fw "TaxOnLooks$Town" 9 2 1 false (tyX2 1) := hg_Fw.of (T := TX2) (N := 15) (ty0 := tyX2) rfl in_X2 (Nat.le_of_ble_eq_true rfl) rfl rfl q155 (Or.inl rfl) rfl (fun h => nomatch h) tyX2_ok nmX2 rfl rfl
theorem fr_q158_2 : hg_Fd "TaxOnLooks$Town" 15 2 2 := hg_Fd.of (T := TX2) (N := 15) rfl in_X2 (Nat.le_of_ble_eq_true rfl) rfl rfl q158 (Or.inl rfl)
theorem fw_q158_2 : hg_Fw "TaxOnLooks$Town" 15 2 2 false (tyX2 2) := hg_Fw.of (T := TX2) (N := 15) (ty0 := tyX2) rfl in_X2 (Nat.le_of_ble_eq_true rfl) rfl rfl q158 (Or.inl rfl) rfl (fun h => nomatch h) tyX2_ok nmX2 rfl rfl
theorem fr_q167_2 : hg_Fd "TaxOnLooks$Town" 18 2 6 := hg_Fd.of (T := TX2) (N := 15) rfl in_X2 (Nat.le_of_ble_eq_true rfl) rfl rfl q167 (Or.inl rfl)
theorem fw_q167_2 : hg_Fw "TaxOnLooks$Town" 18 2 6 false (tyX2 6) := hg_Fw.of (T := TX2) (N := 15) (ty0 := tyX2) rfl in_X2 (Nat.le_of_ble_eq_true rfl) rfl rfl q167 (Or.inl rfl) rfl (fun h => nomatch h) tyX2_ok nmX2 rfl rfl
theorem fr_q178_2 : hg_Fd "TaxOnLooks$Town" 21 2 10 := hg_Fd.of (T := TX2) (N := 15) rfl in_X2 (Nat.le_of_ble_eq_true rfl) rfl rfl q178 (Or.inl rfl)
theorem fw_q178_2 : hg_Fw "TaxOnLooks$Town" 21 2 10 false (tyX2 10) := hg_Fw.of (T := TX2) (N := 15) (ty0 := tyX2) rfl in_X2 (Nat.le_of_ble_eq_true rfl) rfl rfl q178 (Or.inl rfl) rfl (fun h => nomatch h) tyX2_ok nmX2 rfl rfl
theorem fr_q180_2 : hg_Fd "TaxOnLooks$Town" 26 2 11 := hg_Fd.of (T := TX2) (N := 15) rfl in_X2 (Nat.le_of_ble_eq_true rfl) rfl rfl q180 (Or.inl rfl)
theorem fw_q180_2 : hg_Fw "TaxOnLooks$Town" 26 2 11 true (tyX2 11) := hg_Fw.of (T := TX2) (N := 15) (ty0 := tyX2) rfl in_X2 (Nat.le_of_ble_eq_true rfl) rfl rfl q180 (Or.inl rfl) rfl (fun _ => rfl) tyX2_ok nmX2 rfl rfl
theorem fr_q182_2 : hg_Fd "TaxOnLooks$Town" 30 2 12 := hg_Fd.of (T := TX2) (N := 15) rfl in_X2 (Nat.le_of_ble_eq_true rfl) rfl rfl q182 (Or.inl rfl)
theorem fw_q182_2 : hg_Fw "TaxOnLooks$Town" 30 2 12 true (tyX2 12) := hg_Fw.of (T := TX2) (N := 15) (ty0 := tyX2) rfl in_X2 (Nat.le_of_ble_eq_true rfl) rfl rfl q182 (Or.inl rfl) rfl (fun _ => rfl) tyX2_ok nmX2 rfl rfl
theorem fr_q184_2 : hg_Fd "TaxOnLooks$Town" 34 2 13 := hg_Fd.of (T := TX2) (N := 15) rfl in_X2 (Nat.le_of_ble_eq_true rfl) rfl rfl q184 (Or.inl rfl)
theorem fw_q184_2 : hg_Fw "TaxOnLooks$Town" 34 2 13 true (tyX2 13) := hg_Fw.of (T := TX2) (N := 15) (ty0 := tyX2) rfl in_X2 (Nat.le_of_ble_eq_true rfl) rfl rfl q184 (Or.inl rfl) rfl (fun _ => rfl) tyX2_ok nmX2 rfl rfl
theorem fr_q187_2 : hg_Fd "TaxOnLooks$Town" 37 2 14 := hg_Fd.of (T := TX2) (N := 15) rfl in_X2 (Nat.le_of_ble_eq_true rfl) rfl rfl q187 (Or.inl rfl)
theorem fw_q187_2 : hg_Fw "TaxOnLooks$Town" 37 2 14 true (tyX2 14) := hg_Fw.of (T := TX2) (N := 15) (ty0 := tyX2) rfl in_X2 (Nat.le_of_ble_eq_true rfl) rfl rfl q187 (Or.inl rfl) rfl (fun _ => rfl) tyX2_ok nmX2 rfl rfl
theorem fr_q152_2 : hg_Fd "TaxOnLooks$Town" 40 2 0 := hg_Fd.of (T := TX2) (N := 15) rfl in_X2 (Nat.le_of_ble_eq_true rfl) rfl rfl q152 (Or.inl rfl)
theorem fw_q152_2 : hg_Fw "TaxOnLooks$Town" 40 2 0 false (tyX2 0) := hg_Fw.of (T := TX2) (N := 15) (ty0 := tyX2) rfl in_X2 (Nat.le_of_ble_eq_true rfl) rfl rfl q152 (Or.inl rfl) rfl (fun h => nomatch h) tyX2_ok nmX2 rfl rfl
theorem fr_q161_2 : hg_Fd "TaxOnLooks$Town" 43 2 3 := hg_Fd.of (T := TX2) (N := 15) rfl in_X2 (Nat.le_of_ble_eq_true rfl) rfl rfl q161 (Or.inl rfl)
theorem fw_q161_2 : hg_Fw "TaxOnLooks$Town" 43 2 3 false (tyX2 3) := hg_Fw.of (T := TX2) (N := 15) (ty0 := tyX2) rfl in_X2 (Nat.le_of_ble_eq_true rfl) rfl rfl q161 (Or.inl rfl) rfl (fun h => nomatch h) tyX2_ok nmX2 rfl rfl
theorem fr_q163_2 : hg_Fd "TaxOnLooks$Town" 47 2 4 := hg_Fd.of (T := TX2) (N := 15) rfl in_X2 (Nat.le_of_ble_eq_true rfl) rfl rfl q163 (Or.inl rfl)
theorem fw_q163_2 : hg_Fw "TaxOnLooks$Town" 47 2 4 false (tyX2 4) := hg_Fw.of (T := TX2) (N := 15) (ty0 := tyX2) rfl in_X2 (Nat.le_of_ble_eq_true rfl) rfl rfl q163 (Or.inl rfl) rfl (fun h => nomatch h) tyX2_ok nmX2 rfl rfl
theorem fr_q165_2 : hg_Fd "TaxOnLooks$Town" 50 2 5 := hg_Fd.of (T := TX2) (N := 15) rfl in_X2 (Nat.le_of_ble_eq_true rfl) rfl rfl q165 (Or.inl rfl)
theorem fw_q165_2 : hg_Fw "TaxOnLooks$Town" 50 2 5 false (tyX2 5) := hg_Fw.of (T := TX2) (N := 15) (ty0 := tyX2) rfl in_X2 (Nat.le_of_ble_eq_true rfl) rfl rfl q165 (Or.inl rfl) rfl (fun h => nomatch h) tyX2_ok nmX2 rfl rfl
theorem fr_q169_2 : hg_Fd "TaxOnLooks$Town" 53 2 7 := hg_Fd.of (T := TX2) (N := 15) rfl in_X2 (Nat.le_of_ble_eq_true rfl) rfl rfl q169 (Or.inl rfl)
theorem fw_q169_2 : hg_Fw "TaxOnLooks$Town" 53 2 7 false (tyX2 7) := hg_Fw.of (T := TX2) (N := 15) (ty0 := tyX2) rfl in_X2 (Nat.le_of_ble_eq_true rfl) rfl rfl q169 (Or.inl rfl) rfl (fun h => nomatch h) tyX2_ok nmX2 rfl rfl
theorem fr_q172_2 : hg_Fd "TaxOnLooks$Town" 57 2 8 := hg_Fd.of (T := TX2) (N := 15) rfl in_X2 (Nat.le_of_ble_eq_true rfl) rfl rfl q172 (Or.inl rfl)
theorem fw_q172_2 : hg_Fw "TaxOnLooks$Town" 57 2 8 false (tyX2 8) := hg_Fw.of (T := TX2) (N := 15) (ty0 := tyX2) rfl in_X2 (Nat.le_of_ble_eq_true rfl) rfl rfl q172 (Or.inl rfl) rfl (fun h => nomatch h) tyX2_ok nmX2 rfl rfl
theorem fr_q175_2 : hg_Fd "TaxOnLooks$Town" 60 2 9 := hg_Fd.of (T := TX2) (N := 15) rfl in_X2 (Nat.le_of_ble_eq_true rfl) rfl rfl q175 (Or.inl rfl)
theorem fw_q175_2 : hg_Fw "TaxOnLooks$Town" 60 2 9 false (tyX2 9) := hg_Fw.of (T := TX2) (N := 15) (ty0 := tyX2) rfl in_X2 (Nat.le_of_ble_eq_true rfl) rfl rfl q175 (Or.inl rfl) rfl (fun h => nomatch h) tyX2_ok nmX2 rfl rfl
theorem fr_q679_12 : hg_Fd "TaxOnLooks$Town" 103 12 2 := hg_Fd.of (T := TX12) (N := 3) rfl in_X12 (Nat.le_of_ble_eq_true rfl) rfl rfl q679 (Or.inl rfl)
theorem fr_q679_13 : hg_Fd "TaxOnLooks$Town" 103 13 2 := hg_Fd.of (T := TX13) (N := 3) rfl in_X13 (Nat.le_of_ble_eq_true rfl) rfl rfl q679 (Or.inl rfl)
theorem fr_q679_14 : hg_Fd "TaxOnLooks$Town" 103 14 2 := hg_Fd.of (T := TX14) (N := 3) rfl in_X14 (Nat.le_of_ble_eq_true rfl) rfl rfl q679 (Or.inl rfl)
theorem fr_q679_15 : hg_Fd "TaxOnLooks$Town" 103 15 2 := hg_Fd.of (T := TX15) (N := 3) rfl in_X15 (Nat.le_of_ble_eq_true rfl) rfl rfl q679 (Or.inl rfl)
theorem fr_q679_16 : hg_Fd "TaxOnLooks$Town" 103 16 2 := hg_Fd.of (T := TX16) (N := 3) rfl in_X16 (Nat.le_of_ble_eq_true rfl) rfl rfl q679 (Or.inl rfl)
theorem fr_q679_17 : hg_Fd "TaxOnLooks$Town" 103 17 2 := hg_Fd.of (T := TX17) (N := 3) rfl in_X17 (Nat.le_of_ble_eq_true rfl) rfl rfl q679 (Or.inl rfl)
theorem fr_q679_18 : hg_Fd "TaxOnLooks$Town" 103 18 2 := hg_Fd.of (T := TX18) (N := 3) rfl in_X18 (Nat.le_of_ble_eq_true rfl) rfl rfl q679 (Or.inl rfl)
theorem fr_q134_1 : hg_Fd "TaxOnLooks$Trace" 9 1 0 := hg_Fd.of (T := TX1) (N := 2) rfl in_X1 (Nat.le_of_ble_eq_true rfl) rfl rfl q134 (Or.inl rfl)
theorem fw_q134_1 : hg_Fw "TaxOnLooks$Trace" 9 1 0 true (tyX1 0) := hg_Fw.of (T := TX1) (N := 2) (ty0 := tyX1) rfl in_X1 (Nat.le_of_ble_eq_true rfl) rfl rfl q134 (Or.inl rfl) rfl (fun _ => rfl) tyX1_ok nmX1 rfl rfl
theorem fr_q136_1 : hg_Fd "TaxOnLooks$Trace" 15 1 1 := hg_Fd.of (T := TX1) (N := 2) rfl in_X1 (Nat.le_of_ble_eq_true rfl) rfl rfl q136 (Or.inl rfl)
theorem fw_q136_1 : hg_Fw "TaxOnLooks$Trace" 15 1 1 false (tyX1 1) := hg_Fw.of (T := TX1) (N := 2) (ty0 := tyX1) rfl in_X1 (Nat.le_of_ble_eq_true rfl) rfl rfl q136 (Or.inl rfl) rfl (fun h => nomatch h) tyX1_ok nmX1 rfl rfl
theorem fr_q228_3 : hg_Fd "TaxOnLooks$Walks" 9 3 0 := hg_Fd.of (T := TX3) (N := 2) rfl in_X3 (Nat.le_of_ble_eq_true rfl) rfl rfl q228 (Or.inl rfl)
theorem fw_q228_3 : hg_Fw "TaxOnLooks$Walks" 9 3 0 true (tyX3 0) := hg_Fw.of (T := TX3) (N := 2) (ty0 := tyX3) rfl in_X3 (Nat.le_of_ble_eq_true rfl) rfl rfl q228 (Or.inl rfl) rfl (fun _ => rfl) tyX3_ok nmX3 rfl rfl
theorem fr_q229_3 : hg_Fd "TaxOnLooks$Walks" 15 3 1 := hg_Fd.of (T := TX3) (N := 2) rfl in_X3 (Nat.le_of_ble_eq_true rfl) rfl rfl q229 (Or.inl rfl)
theorem fw_q229_3 : hg_Fw "TaxOnLooks$Walks" 15 3 1 true (tyX3 1) := hg_Fw.of (T := TX3) (N := 2) (ty0 := tyX3) rfl in_X3 (Nat.le_of_ble_eq_true rfl) rfl rfl q229 (Or.inl rfl) rfl (fun _ => rfl) tyX3_ok nmX3 rfl rfl
theorem fr_q188_2 : hg_Fd "TaxOnLooks$Walks" 18 2 14 := hg_Fd.of (T := TX2) (N := 15) rfl in_X2 (Nat.le_of_ble_eq_true rfl) rfl rfl q188 (Or.inl rfl)
theorem fr_q1383_5 : hg_Fd "TaxOnLooksModel" 7 5 1 := hg_Fd.of (T := TX5) (N := 44) rfl in_X5 (Nat.le_of_ble_eq_true rfl) rfl rfl q1383 (Or.inl rfl)
theorem fw_q1383_5 : hg_Fw "TaxOnLooksModel" 7 5 1 false (tyX5 1) := hg_Fw.of (T := TX5) (N := 44) (ty0 := tyX5) rfl in_X5 (Nat.le_of_ble_eq_true rfl) rfl rfl q1383 (Or.inl rfl) rfl (fun h => nomatch h) tyX5_ok nmX5 rfl rfl
theorem fr_q1384_5 : hg_Fd "TaxOnLooksModel" 13 5 2 := hg_Fd.of (T := TX5) (N := 44) rfl in_X5 (Nat.le_of_ble_eq_true rfl) rfl rfl q1384 (Or.inl rfl)
theorem fw_q1384_5 : hg_Fw "TaxOnLooksModel" 13 5 2 false (tyX5 2) := hg_Fw.of (T := TX5) (N := 44) (ty0 := tyX5) rfl in_X5 (Nat.le_of_ble_eq_true rfl) rfl rfl q1384 (Or.inl rfl) rfl (fun h => nomatch h) tyX5_ok nmX5 rfl rfl
theorem fr_q1388_5 : hg_Fd "TaxOnLooksModel" 16 5 6 := hg_Fd.of (T := TX5) (N := 44) rfl in_X5 (Nat.le_of_ble_eq_true rfl) rfl rfl q1388 (Or.inl rfl)
theorem fw_q1388_5 : hg_Fw "TaxOnLooksModel" 16 5 6 false (tyX5 6) := hg_Fw.of (T := TX5) (N := 44) (ty0 := tyX5) rfl in_X5 (Nat.le_of_ble_eq_true rfl) rfl rfl q1388 (Or.inl rfl) rfl (fun h => nomatch h) tyX5_ok nmX5 rfl rfl
theorem fr_q1389_5 : hg_Fd "TaxOnLooksModel" 19 5 7 := hg_Fd.of (T := TX5) (N := 44) rfl in_X5 (Nat.le_of_ble_eq_true rfl) rfl rfl q1389 (Or.inl rfl)
theorem fw_q1389_5 : hg_Fw "TaxOnLooksModel" 19 5 7 false (tyX5 7) := hg_Fw.of (T := TX5) (N := 44) (ty0 := tyX5) rfl in_X5 (Nat.le_of_ble_eq_true rfl) rfl rfl q1389 (Or.inl rfl) rfl (fun h => nomatch h) tyX5_ok nmX5 rfl rfl
theorem fr_q1390_5 : hg_Fd "TaxOnLooksModel" 22 5 8 := hg_Fd.of (T := TX5) (N := 44) rfl in_X5 (Nat.le_of_ble_eq_true rfl) rfl rfl q1390 (Or.inl rfl)
theorem fw_q1390_5 : hg_Fw "TaxOnLooksModel" 22 5 8 true (tyX5 8) := hg_Fw.of (T := TX5) (N := 44) (ty0 := tyX5) rfl in_X5 (Nat.le_of_ble_eq_true rfl) rfl rfl q1390 (Or.inl rfl) rfl (fun _ => rfl) tyX5_ok nmX5 rfl rfl
theorem fr_q1391_5 : hg_Fd "TaxOnLooksModel" 26 5 9 := hg_Fd.of (T := TX5) (N := 44) rfl in_X5 (Nat.le_of_ble_eq_true rfl) rfl rfl q1391 (Or.inl rfl)
theorem fw_q1391_5 : hg_Fw "TaxOnLooksModel" 26 5 9 true (tyX5 9) := hg_Fw.of (T := TX5) (N := 44) (ty0 := tyX5) rfl in_X5 (Nat.le_of_ble_eq_true rfl) rfl rfl q1391 (Or.inl rfl) rfl (fun _ => rfl) tyX5_ok nmX5 rfl rfl
theorem fr_q1392_5 : hg_Fd "TaxOnLooksModel" 29 5 10 := hg_Fd.of (T := TX5) (N := 44) rfl in_X5 (Nat.le_of_ble_eq_true rfl) rfl rfl q1392 (Or.inl rfl)
theorem fw_q1392_5 : hg_Fw "TaxOnLooksModel" 29 5 10 true (tyX5 10) := hg_Fw.of (T := TX5) (N := 44) (ty0 := tyX5) rfl in_X5 (Nat.le_of_ble_eq_true rfl) rfl rfl q1392 (Or.inl rfl) rfl (fun _ => rfl) tyX5_ok nmX5 rfl rfl
theorem fr_q1393_5 : hg_Fd "TaxOnLooksModel" 32 5 11 := hg_Fd.of (T := TX5) (N := 44) rfl in_X5 (Nat.le_of_ble_eq_true rfl) rfl rfl q1393 (Or.inl rfl)
theorem fw_q1393_5 : hg_Fw "TaxOnLooksModel" 32 5 11 true (tyX5 11) := hg_Fw.of (T := TX5) (N := 44) (ty0 := tyX5) rfl in_X5 (Nat.le_of_ble_eq_true rfl) rfl rfl q1393 (Or.inl rfl) rfl (fun _ => rfl) tyX5_ok nmX5 rfl rfl
theorem fr_q1394_5 : hg_Fd "TaxOnLooksModel" 35 5 12 := hg_Fd.of (T := TX5) (N := 44) rfl in_X5 (Nat.le_of_ble_eq_true rfl) rfl rfl q1394 (Or.inl rfl)
theorem fw_q1394_5 : hg_Fw "TaxOnLooksModel" 35 5 12 true (tyX5 12) := hg_Fw.of (T := TX5) (N := 44) (ty0 := tyX5) rfl in_X5 (Nat.le_of_ble_eq_true rfl) rfl rfl q1394 (Or.inl rfl) rfl (fun _ => rfl) tyX5_ok nmX5 rfl rfl
theorem fr_q1395_5 : hg_Fd "TaxOnLooksModel" 38 5 13 := hg_Fd.of (T := TX5) (N := 44) rfl in_X5 (Nat.le_of_ble_eq_true rfl) rfl rfl q1395 (Or.inl rfl)
theorem fw_q1395_5 : hg_Fw "TaxOnLooksModel" 38 5 13 true (tyX5 13) := hg_Fw.of (T := TX5) (N := 44) (ty0 := tyX5) rfl in_X5 (Nat.le_of_ble_eq_true rfl) rfl rfl q1395 (Or.inl rfl) rfl (fun _ => rfl) tyX5_ok nmX5 rfl rfl
theorem fr_q1396_5 : hg_Fd "TaxOnLooksModel" 41 5 14 := hg_Fd.of (T := TX5) (N := 44) rfl in_X5 (Nat.le_of_ble_eq_true rfl) rfl rfl q1396 (Or.inl rfl)
theorem fw_q1396_5 : hg_Fw "TaxOnLooksModel" 41 5 14 true (tyX5 14) := hg_Fw.of (T := TX5) (N := 44) (ty0 := tyX5) rfl in_X5 (Nat.le_of_ble_eq_true rfl) rfl rfl q1396 (Or.inl rfl) rfl (fun _ => rfl) tyX5_ok nmX5 rfl rfl
theorem fr_q1397_5 : hg_Fd "TaxOnLooksModel" 44 5 15 := hg_Fd.of (T := TX5) (N := 44) rfl in_X5 (Nat.le_of_ble_eq_true rfl) rfl rfl q1397 (Or.inl rfl)
theorem fw_q1397_5 : hg_Fw "TaxOnLooksModel" 44 5 15 true (tyX5 15) := hg_Fw.of (T := TX5) (N := 44) (ty0 := tyX5) rfl in_X5 (Nat.le_of_ble_eq_true rfl) rfl rfl q1397 (Or.inl rfl) rfl (fun _ => rfl) tyX5_ok nmX5 rfl rfl
theorem fr_q1398_5 : hg_Fd "TaxOnLooksModel" 47 5 16 := hg_Fd.of (T := TX5) (N := 44) rfl in_X5 (Nat.le_of_ble_eq_true rfl) rfl rfl q1398 (Or.inl rfl)
theorem fw_q1398_5 : hg_Fw "TaxOnLooksModel" 47 5 16 true (tyX5 16) := hg_Fw.of (T := TX5) (N := 44) (ty0 := tyX5) rfl in_X5 (Nat.le_of_ble_eq_true rfl) rfl rfl q1398 (Or.inl rfl) rfl (fun _ => rfl) tyX5_ok nmX5 rfl rfl
theorem fr_q1399_5 : hg_Fd "TaxOnLooksModel" 50 5 17 := hg_Fd.of (T := TX5) (N := 44) rfl in_X5 (Nat.le_of_ble_eq_true rfl) rfl rfl q1399 (Or.inl rfl)
theorem fw_q1399_5 : hg_Fw "TaxOnLooksModel" 50 5 17 true (tyX5 17) := hg_Fw.of (T := TX5) (N := 44) (ty0 := tyX5) rfl in_X5 (Nat.le_of_ble_eq_true rfl) rfl rfl q1399 (Or.inl rfl) rfl (fun _ => rfl) tyX5_ok nmX5 rfl rfl
theorem fr_q1400_5 : hg_Fd "TaxOnLooksModel" 53 5 18 := hg_Fd.of (T := TX5) (N := 44) rfl in_X5 (Nat.le_of_ble_eq_true rfl) rfl rfl q1400 (Or.inl rfl)
theorem fw_q1400_5 : hg_Fw "TaxOnLooksModel" 53 5 18 true (tyX5 18) := hg_Fw.of (T := TX5) (N := 44) (ty0 := tyX5) rfl in_X5 (Nat.le_of_ble_eq_true rfl) rfl rfl q1400 (Or.inl rfl) rfl (fun _ => rfl) tyX5_ok nmX5 rfl rfl
theorem fr_q1401_5 : hg_Fd "TaxOnLooksModel" 56 5 19 := hg_Fd.of (T := TX5) (N := 44) rfl in_X5 (Nat.le_of_ble_eq_true rfl) rfl rfl q1401 (Or.inl rfl)
theorem fw_q1401_5 : hg_Fw "TaxOnLooksModel" 56 5 19 true (tyX5 19) := hg_Fw.of (T := TX5) (N := 44) (ty0 := tyX5) rfl in_X5 (Nat.le_of_ble_eq_true rfl) rfl rfl q1401 (Or.inl rfl) rfl (fun _ => rfl) tyX5_ok nmX5 rfl rfl
theorem fr_q1402_5 : hg_Fd "TaxOnLooksModel" 59 5 20 := hg_Fd.of (T := TX5) (N := 44) rfl in_X5 (Nat.le_of_ble_eq_true rfl) rfl rfl q1402 (Or.inl rfl)
theorem fw_q1402_5 : hg_Fw "TaxOnLooksModel" 59 5 20 true (tyX5 20) := hg_Fw.of (T := TX5) (N := 44) (ty0 := tyX5) rfl in_X5 (Nat.le_of_ble_eq_true rfl) rfl rfl q1402 (Or.inl rfl) rfl (fun _ => rfl) tyX5_ok nmX5 rfl rfl
theorem fr_q1403_5 : hg_Fd "TaxOnLooksModel" 62 5 21 := hg_Fd.of (T := TX5) (N := 44) rfl in_X5 (Nat.le_of_ble_eq_true rfl) rfl rfl q1403 (Or.inl rfl)
theorem fw_q1403_5 : hg_Fw "TaxOnLooksModel" 62 5 21 true (tyX5 21) := hg_Fw.of (T := TX5) (N := 44) (ty0 := tyX5) rfl in_X5 (Nat.le_of_ble_eq_true rfl) rfl rfl q1403 (Or.inl rfl) rfl (fun _ => rfl) tyX5_ok nmX5 rfl rfl
theorem fr_q1404_5 : hg_Fd "TaxOnLooksModel" 65 5 22 := hg_Fd.of (T := TX5) (N := 44) rfl in_X5 (Nat.le_of_ble_eq_true rfl) rfl rfl q1404 (Or.inl rfl)
theorem fw_q1404_5 : hg_Fw "TaxOnLooksModel" 65 5 22 true (tyX5 22) := hg_Fw.of (T := TX5) (N := 44) (ty0 := tyX5) rfl in_X5 (Nat.le_of_ble_eq_true rfl) rfl rfl q1404 (Or.inl rfl) rfl (fun _ => rfl) tyX5_ok nmX5 rfl rfl
theorem fr_q1405_5 : hg_Fd "TaxOnLooksModel" 69 5 23 := hg_Fd.of (T := TX5) (N := 44) rfl in_X5 (Nat.le_of_ble_eq_true rfl) rfl rfl q1405 (Or.inl rfl)
theorem fw_q1405_5 : hg_Fw "TaxOnLooksModel" 69 5 23 true (tyX5 23) := hg_Fw.of (T := TX5) (N := 44) (ty0 := tyX5) rfl in_X5 (Nat.le_of_ble_eq_true rfl) rfl rfl q1405 (Or.inl rfl) rfl (fun _ => rfl) tyX5_ok nmX5 rfl rfl
theorem fr_q1406_5 : hg_Fd "TaxOnLooksModel" 72 5 24 := hg_Fd.of (T := TX5) (N := 44) rfl in_X5 (Nat.le_of_ble_eq_true rfl) rfl rfl q1406 (Or.inl rfl)
theorem fw_q1406_5 : hg_Fw "TaxOnLooksModel" 72 5 24 true (tyX5 24) := hg_Fw.of (T := TX5) (N := 44) (ty0 := tyX5) rfl in_X5 (Nat.le_of_ble_eq_true rfl) rfl rfl q1406 (Or.inl rfl) rfl (fun _ => rfl) tyX5_ok nmX5 rfl rfl
theorem fr_q1407_5 : hg_Fd "TaxOnLooksModel" 75 5 25 := hg_Fd.of (T := TX5) (N := 44) rfl in_X5 (Nat.le_of_ble_eq_true rfl) rfl rfl q1407 (Or.inl rfl)
theorem fw_q1407_5 : hg_Fw "TaxOnLooksModel" 75 5 25 true (tyX5 25) := hg_Fw.of (T := TX5) (N := 44) (ty0 := tyX5) rfl in_X5 (Nat.le_of_ble_eq_true rfl) rfl rfl q1407 (Or.inl rfl) rfl (fun _ => rfl) tyX5_ok nmX5 rfl rfl
theorem fr_q1408_5 : hg_Fd "TaxOnLooksModel" 78 5 26 := hg_Fd.of (T := TX5) (N := 44) rfl in_X5 (Nat.le_of_ble_eq_true rfl) rfl rfl q1408 (Or.inl rfl)
theorem fw_q1408_5 : hg_Fw "TaxOnLooksModel" 78 5 26 true (tyX5 26) := hg_Fw.of (T := TX5) (N := 44) (ty0 := tyX5) rfl in_X5 (Nat.le_of_ble_eq_true rfl) rfl rfl q1408 (Or.inl rfl) rfl (fun _ => rfl) tyX5_ok nmX5 rfl rfl
theorem fr_q1409_5 : hg_Fd "TaxOnLooksModel" 81 5 27 := hg_Fd.of (T := TX5) (N := 44) rfl in_X5 (Nat.le_of_ble_eq_true rfl) rfl rfl q1409 (Or.inl rfl)
theorem fw_q1409_5 : hg_Fw "TaxOnLooksModel" 81 5 27 true (tyX5 27) := hg_Fw.of (T := TX5) (N := 44) (ty0 := tyX5) rfl in_X5 (Nat.le_of_ble_eq_true rfl) rfl rfl q1409 (Or.inl rfl) rfl (fun _ => rfl) tyX5_ok nmX5 rfl rfl
theorem fr_q1415_5 : hg_Fd "TaxOnLooksModel" 84 5 33 := hg_Fd.of (T := TX5) (N := 44) rfl in_X5 (Nat.le_of_ble_eq_true rfl) rfl rfl q1415 (Or.inl rfl)
theorem fw_q1415_5 : hg_Fw "TaxOnLooksModel" 84 5 33 true (tyX5 33) := hg_Fw.of (T := TX5) (N := 44) (ty0 := tyX5) rfl in_X5 (Nat.le_of_ble_eq_true rfl) rfl rfl q1415 (Or.inl rfl) rfl (fun _ => rfl) tyX5_ok nmX5 rfl rfl
theorem fr_q1416_5 : hg_Fd "TaxOnLooksModel" 87 5 34 := hg_Fd.of (T := TX5) (N := 44) rfl in_X5 (Nat.le_of_ble_eq_true rfl) rfl rfl q1416 (Or.inl rfl)
theorem fw_q1416_5 : hg_Fw "TaxOnLooksModel" 87 5 34 true (tyX5 34) := hg_Fw.of (T := TX5) (N := 44) (ty0 := tyX5) rfl in_X5 (Nat.le_of_ble_eq_true rfl) rfl rfl q1416 (Or.inl rfl) rfl (fun _ => rfl) tyX5_ok nmX5 rfl rfl
theorem fr_q1417_5 : hg_Fd "TaxOnLooksModel" 90 5 35 := hg_Fd.of (T := TX5) (N := 44) rfl in_X5 (Nat.le_of_ble_eq_true rfl) rfl rfl q1417 (Or.inl rfl)
theorem fw_q1417_5 : hg_Fw "TaxOnLooksModel" 90 5 35 true (tyX5 35) := hg_Fw.of (T := TX5) (N := 44) (ty0 := tyX5) rfl in_X5 (Nat.le_of_ble_eq_true rfl) rfl rfl q1417 (Or.inl rfl) rfl (fun _ => rfl) tyX5_ok nmX5 rfl rfl
theorem fr_q1418_5 : hg_Fd "TaxOnLooksModel" 93 5 36 := hg_Fd.of (T := TX5) (N := 44) rfl in_X5 (Nat.le_of_ble_eq_true rfl) rfl rfl q1418 (Or.inl rfl)
theorem fw_q1418_5 : hg_Fw "TaxOnLooksModel" 93 5 36 false (tyX5 36) := hg_Fw.of (T := TX5) (N := 44) (ty0 := tyX5) rfl in_X5 (Nat.le_of_ble_eq_true rfl) rfl rfl q1418 (Or.inl rfl) rfl (fun h => nomatch h) tyX5_ok nmX5 rfl rfl
theorem fr_q1419_5 : hg_Fd "TaxOnLooksModel" 96 5 37 := hg_Fd.of (T := TX5) (N := 44) rfl in_X5 (Nat.le_of_ble_eq_true rfl) rfl rfl q1419 (Or.inl rfl)
theorem fw_q1419_5 : hg_Fw "TaxOnLooksModel" 96 5 37 true (tyX5 37) := hg_Fw.of (T := TX5) (N := 44) (ty0 := tyX5) rfl in_X5 (Nat.le_of_ble_eq_true rfl) rfl rfl q1419 (Or.inl rfl) rfl (fun _ => rfl) tyX5_ok nmX5 rfl rfl
theorem fr_q1420_5 : hg_Fd "TaxOnLooksModel" 99 5 38 := hg_Fd.of (T := TX5) (N := 44) rfl in_X5 (Nat.le_of_ble_eq_true rfl) rfl rfl q1420 (Or.inl rfl)
theorem fw_q1420_5 : hg_Fw "TaxOnLooksModel" 99 5 38 true (tyX5 38) := hg_Fw.of (T := TX5) (N := 44) (ty0 := tyX5) rfl in_X5 (Nat.le_of_ble_eq_true rfl) rfl rfl q1420 (Or.inl rfl) rfl (fun _ => rfl) tyX5_ok nmX5 rfl rfl
theorem fr_q1421_5 : hg_Fd "TaxOnLooksModel" 102 5 39 := hg_Fd.of (T := TX5) (N := 44) rfl in_X5 (Nat.le_of_ble_eq_true rfl) rfl rfl q1421 (Or.inl rfl)
theorem fw_q1421_5 : hg_Fw "TaxOnLooksModel" 102 5 39 true (tyX5 39) := hg_Fw.of (T := TX5) (N := 44) (ty0 := tyX5) rfl in_X5 (Nat.le_of_ble_eq_true rfl) rfl rfl q1421 (Or.inl rfl) rfl (fun _ => rfl) tyX5_ok nmX5 rfl rfl
theorem fr_q1423_5 : hg_Fd "TaxOnLooksModel" 105 5 41 := hg_Fd.of (T := TX5) (N := 44) rfl in_X5 (Nat.le_of_ble_eq_true rfl) rfl rfl q1423 (Or.inl rfl)
theorem fw_q1423_5 : hg_Fw "TaxOnLooksModel" 105 5 41 true (tyX5 41) := hg_Fw.of (T := TX5) (N := 44) (ty0 := tyX5) rfl in_X5 (Nat.le_of_ble_eq_true rfl) rfl rfl q1423 (Or.inl rfl) rfl (fun _ => rfl) tyX5_ok nmX5 rfl rfl
theorem fr_q1382_5 : hg_Fd "TaxOnLooksModel" 108 5 0 := hg_Fd.of (T := TX5) (N := 44) rfl in_X5 (Nat.le_of_ble_eq_true rfl) rfl rfl q1382 (Or.inl rfl)
theorem fw_q1382_5 : hg_Fw "TaxOnLooksModel" 108 5 0 false (tyX5 0) := hg_Fw.of (T := TX5) (N := 44) (ty0 := tyX5) rfl in_X5 (Nat.le_of_ble_eq_true rfl) rfl rfl q1382 (Or.inl rfl) rfl (fun h => nomatch h) tyX5_ok nmX5 rfl rfl
theorem fr_q1385_5 : hg_Fd "TaxOnLooksModel" 139 5 3 := hg_Fd.of (T := TX5) (N := 44) rfl in_X5 (Nat.le_of_ble_eq_true rfl) rfl rfl q1385 (Or.inl rfl)
theorem fw_q1385_5 : hg_Fw "TaxOnLooksModel" 139 5 3 false (tyX5 3) := hg_Fw.of (T := TX5) (N := 44) (ty0 := tyX5) rfl in_X5 (Nat.le_of_ble_eq_true rfl) rfl rfl q1385 (Or.inl rfl) rfl (fun h => nomatch h) tyX5_ok nmX5 rfl rfl
theorem fr_q1414_5 : hg_Fd "TaxOnLooksModel" 150 5 32 := hg_Fd.of (T := TX5) (N := 44) rfl in_X5 (Nat.le_of_ble_eq_true rfl) rfl rfl q1414 (Or.inl rfl)
theorem fw_q1414_5 : hg_Fw "TaxOnLooksModel" 150 5 32 false (tyX5 32) := hg_Fw.of (T := TX5) (N := 44) (ty0 := tyX5) rfl in_X5 (Nat.le_of_ble_eq_true rfl) rfl rfl q1414 (Or.inl rfl) rfl (fun h => nomatch h) tyX5_ok nmX5 rfl rfl
theorem fr_q1411_5 : hg_Fd "TaxOnLooksModel" 153 5 29 := hg_Fd.of (T := TX5) (N := 44) rfl in_X5 (Nat.le_of_ble_eq_true rfl) rfl rfl q1411 (Or.inl rfl)
theorem fw_q1411_5 : hg_Fw "TaxOnLooksModel" 153 5 29 false (tyX5 29) := hg_Fw.of (T := TX5) (N := 44) (ty0 := tyX5) rfl in_X5 (Nat.le_of_ble_eq_true rfl) rfl rfl q1411 (Or.inl rfl) rfl (fun h => nomatch h) tyX5_ok nmX5 rfl rfl
theorem fr_q1412_5 : hg_Fd "TaxOnLooksModel" 156 5 30 := hg_Fd.of (T := TX5) (N := 44) rfl in_X5 (Nat.le_of_ble_eq_true rfl) rfl rfl q1412 (Or.inl rfl)
theorem fw_q1412_5 : hg_Fw "TaxOnLooksModel" 156 5 30 false (tyX5 30) := hg_Fw.of (T := TX5) (N := 44) (ty0 := tyX5) rfl in_X5 (Nat.le_of_ble_eq_true rfl) rfl rfl q1412 (Or.inl rfl) rfl (fun h => nomatch h) tyX5_ok nmX5 rfl rfl
theorem fr_q1410_5 : hg_Fd "TaxOnLooksModel" 159 5 28 := hg_Fd.of (T := TX5) (N := 44) rfl in_X5 (Nat.le_of_ble_eq_true rfl) rfl rfl q1410 (Or.inl rfl)
theorem fw_q1410_5 : hg_Fw "TaxOnLooksModel" 159 5 28 false (tyX5 28) := hg_Fw.of (T := TX5) (N := 44) (ty0 := tyX5) rfl in_X5 (Nat.le_of_ble_eq_true rfl) rfl rfl q1410 (Or.inl rfl) rfl (fun h => nomatch h) tyX5_ok nmX5 rfl rfl
theorem fr_q1413_5 : hg_Fd "TaxOnLooksModel" 162 5 31 := hg_Fd.of (T := TX5) (N := 44) rfl in_X5 (Nat.le_of_ble_eq_true rfl) rfl rfl q1413 (Or.inl rfl)
theorem fw_q1413_5 : hg_Fw "TaxOnLooksModel" 162 5 31 false (tyX5 31) := hg_Fw.of (T := TX5) (N := 44) (ty0 := tyX5) rfl in_X5 (Nat.le_of_ble_eq_true rfl) rfl rfl q1413 (Or.inl rfl) rfl (fun h => nomatch h) tyX5_ok nmX5 rfl rfl
theorem fr_q1386_5 : hg_Fd "TaxOnLooksModel" 189 5 4 := hg_Fd.of (T := TX5) (N := 44) rfl in_X5 (Nat.le_of_ble_eq_true rfl) rfl rfl q1386 (Or.inl rfl)
theorem fw_q1386_5 : hg_Fw "TaxOnLooksModel" 189 5 4 false (tyX5 4) := hg_Fw.of (T := TX5) (N := 44) (ty0 := tyX5) rfl in_X5 (Nat.le_of_ble_eq_true rfl) rfl rfl q1386 (Or.inl rfl) rfl (fun h => nomatch h) tyX5_ok nmX5 rfl rfl
theorem fr_q1387_5 : hg_Fd "TaxOnLooksModel" 192 5 5 := hg_Fd.of (T := TX5) (N := 44) rfl in_X5 (Nat.le_of_ble_eq_true rfl) rfl rfl q1387 (Or.inl rfl)
theorem fw_q1387_5 : hg_Fw "TaxOnLooksModel" 192 5 5 false (tyX5 5) := hg_Fw.of (T := TX5) (N := 44) (ty0 := tyX5) rfl in_X5 (Nat.le_of_ble_eq_true rfl) rfl rfl q1387 (Or.inl rfl) rfl (fun h => nomatch h) tyX5_ok nmX5 rfl rfl
theorem fr_q1422_5 : hg_Fd "TaxOnLooksModel" 265 5 40 := hg_Fd.of (T := TX5) (N := 44) rfl in_X5 (Nat.le_of_ble_eq_true rfl) rfl rfl q1422 (Or.inl rfl)
theorem fw_q1422_5 : hg_Fw "TaxOnLooksModel" 265 5 40 false (tyX5 40) := hg_Fw.of (T := TX5) (N := 44) (ty0 := tyX5) rfl in_X5 (Nat.le_of_ble_eq_true rfl) rfl rfl q1422 (Or.inl rfl) rfl (fun h => nomatch h) tyX5_ok nmX5 rfl rfl
theorem fr_q1424_5 : hg_Fd "TaxOnLooksModel" 284 5 42 := hg_Fd.of (T := TX5) (N := 44) rfl in_X5 (Nat.le_of_ble_eq_true rfl) rfl rfl q1424 (Or.inl rfl)
theorem fw_q1424_5 : hg_Fw "TaxOnLooksModel" 284 5 42 false (tyX5 42) := hg_Fw.of (T := TX5) (N := 44) (ty0 := tyX5) rfl in_X5 (Nat.le_of_ble_eq_true rfl) rfl rfl q1424 (Or.inl rfl) rfl (fun h => nomatch h) tyX5_ok nmX5 rfl rfl
theorem fr_q1425_5 : hg_Fd "TaxOnLooksModel" 299 5 43 := hg_Fd.of (T := TX5) (N := 44) rfl in_X5 (Nat.le_of_ble_eq_true rfl) rfl rfl q1425 (Or.inl rfl)
theorem fw_q1425_5 : hg_Fw "TaxOnLooksModel" 299 5 43 false (tyX5 43) := hg_Fw.of (T := TX5) (N := 44) (ty0 := tyX5) rfl in_X5 (Nat.le_of_ble_eq_true rfl) rfl rfl q1425 (Or.inl rfl) rfl (fun h => nomatch h) tyX5_ok nmX5 rfl rfl
theorem fr_q1880_20 : hg_Fd "java/lang/String" 9 20 0 := hg_Fd.of (T := TJ5) (N := 2) rfl in_J5 (Nat.le_of_ble_eq_true rfl) rfl rfl q1880 (Or.inl rfl)
theorem fr_q1881_20 : hg_Fd "java/lang/String" 15 20 1 := hg_Fd.of (T := TJ5) (N := 2) rfl in_J5 (Nat.le_of_ble_eq_true rfl) rfl rfl q1881 (Or.inl rfl)
theorem fw_q319_6 : hg_Fw "java/lang/Throwable" 7 6 0 false (tyX6 0) := hg_Fw.of (T := TX6) (N := 7) (ty0 := tyX6) rfl in_X6 (Nat.le_of_ble_eq_true rfl) rfl rfl q319 (Or.inl rfl) rfl (fun h => nomatch h) tyX6_ok nmX6 rfl rfl
theorem fw_q319_7 : hg_Fw "java/lang/Throwable" 7 7 0 false (tyX20 0) := hg_Fw.of (T := TX20) (N := 7) (ty0 := tyX20) rfl in_X20 (Nat.le_of_ble_eq_true rfl) rfl rfl q319 (Or.inl rfl) rfl (fun h => nomatch h) tyX20_ok nmX20 rfl rfl
theorem fw_q320_6 : hg_Fw "java/lang/Throwable" 17 6 1 false (tyX6 1) := hg_Fw.of (T := TX6) (N := 7) (ty0 := tyX6) rfl in_X6 (Nat.le_of_ble_eq_true rfl) rfl rfl q320 (Or.inl rfl) rfl (fun h => nomatch h) tyX6_ok nmX6 rfl rfl
theorem fw_q320_7 : hg_Fw "java/lang/Throwable" 17 7 1 false (tyX20 1) := hg_Fw.of (T := TX20) (N := 7) (ty0 := tyX20) rfl in_X20 (Nat.le_of_ble_eq_true rfl) rfl rfl q320 (Or.inl rfl) rfl (fun h => nomatch h) tyX20_ok nmX20 rfl rfl
theorem fw_q321_6 : hg_Fw "java/lang/Throwable" 24 6 2 false (tyX6 2) := hg_Fw.of (T := TX6) (N := 7) (ty0 := tyX6) rfl in_X6 (Nat.le_of_ble_eq_true rfl) rfl rfl q321 (Or.inl rfl) rfl (fun h => nomatch h) tyX6_ok nmX6 rfl rfl
theorem fw_q321_7 : hg_Fw "java/lang/Throwable" 24 7 2 false (tyX20 2) := hg_Fw.of (T := TX20) (N := 7) (ty0 := tyX20) rfl in_X20 (Nat.le_of_ble_eq_true rfl) rfl rfl q321 (Or.inl rfl) rfl (fun h => nomatch h) tyX20_ok nmX20 rfl rfl
theorem fw_q318_6 : hg_Fw "java/lang/Throwable" 31 6 3 false (tyX6 3) := hg_Fw.of (T := TX6) (N := 7) (ty0 := tyX6) rfl in_X6 (Nat.le_of_ble_eq_true rfl) rfl rfl q318 (Or.inl rfl) rfl (fun h => nomatch h) tyX6_ok nmX6 rfl rfl
theorem fw_q318_7 : hg_Fw "java/lang/Throwable" 31 7 3 false (tyX20 3) := hg_Fw.of (T := TX20) (N := 7) (ty0 := tyX20) rfl in_X20 (Nat.le_of_ble_eq_true rfl) rfl rfl q318 (Or.inl rfl) rfl (fun h => nomatch h) tyX20_ok nmX20 rfl rfl
theorem cj_X0_init : hg_ci_ yX0_init (Cond.code yX0_init cX0_init 2 (none)) 0 := ⟨q121, q82, q122, rfl, ⟨by decide +kernel, by decide +kernel, by decide +kernel⟩⟩
theorem cv_X0_row : hg_cv_ yX0_row (Cond.codeWith yX0_row cX0_row 5 ((some FieldType.int)) [(0, 63, 64, 21)]) RX0 3 := ⟨q274, q275, q82, q276, rfl, ⟨by decide +kernel, by decide +kernel, by decide +kernel⟩⟩
theorem cv_X0_shelf : hg_cv_ yX0_shelf (Cond.codeWith yX0_shelf cX0_shelf 3 ((some (FieldType.object "TaxOnLooks$Shelf"))) [(0, 6, 7, 99)]) RX0 1 := ⟨q280, qs0, q82, q281, rfl, ⟨by decide +kernel, by decide +kernel, by decide +kernel⟩⟩
theorem cs_X0_need : hg_cs_ yX0_need (Cond.code yX0_need cX0_need 2 (none)) 2 := ⟨q384, q82, q385, ⟨by decide +kernel, by decide +kernel, by decide +kernel⟩⟩
theorem cs_X0_in : hg_cs_ yX0_in (Cond.code yX0_in cX0_in 6 ((some FieldType.boolean))) 3 := ⟨q388, q82, q389, ⟨by decide +kernel, by decide +kernel, by decide +kernel⟩⟩
theorem cs_X0_newRow : hg_cs_ yX0_newRow (Cond.codeWith yX0_newRow cX0_newRow 3 ((some (FieldType.object "TaxOnLooks$Row"))) [(0, 40, 78, 135), (41, 49, 78, 135), (50, 58, 78, 135), (59, 67, 78, 135), (68, 78, 78, 135)]) 2 := ⟨q391, q82, q392, ⟨by decide +kernel, by decide +kernel, by decide +kernel⟩⟩
theorem cv_X0_refused : hg_cv_ yX0_refused (Cond.code yX0_refused cX0_refused 2 ((some FieldType.int))) RX0 1 := ⟨q454, qs2, q82, q455, rfl, ⟨by decide +kernel, by decide +kernel, by decide +kernel⟩⟩
theorem cv_X0_set : hg_cv_ yX0_set (Cond.codeWith yX0_set cX0_set 7 ((some FieldType.int)) [(10, 17, 20, 99), (0, 33, 34, 21)]) RX0 3 := ⟨q457, q458, q82, q459, rfl, ⟨by decide +kernel, by decide +kernel, by decide +kernel⟩⟩
theorem cv_X0_copy : hg_cv_ yX0_copy (Cond.codeWith yX0_copy cX0_copy 11 ((some FieldType.int)) [(114, 132, 135, 165), (0, 148, 149, 21)]) RX0 5 := ⟨q498, q499, q82, q500, rfl, ⟨by decide +kernel, by decide +kernel, by decide +kernel⟩⟩
theorem cv_X0_element : hg_cv_ yX0_element (Cond.codeWith yX0_element cX0_element 4 ((some FieldType.long)) [(0, 12, 13, 21), (0, 12, 16, 99)]) RX0 2 := ⟨q541, q542, q82, q543, rfl, ⟨by decide +kernel, by decide +kernel, by decide +kernel⟩⟩
theorem cv_X0_show : hg_cv_ yX0_show (Cond.codeWith yX0_show cX0_show 4 ((some FieldType.int)) [(0, 17, 38, 21), (18, 37, 38, 21)]) RX0 2 := ⟨q560, q561, q82, q562, rfl, ⟨by decide +kernel, by decide +kernel, by decide +kernel⟩⟩
theorem cv_X0_mustPerson : hg_cv_ yX0_mustPerson (Cond.code yX0_mustPerson cX0_mustPerson 2 (none)) RX0 1 := ⟨q565, qs3, q82, q566, rfl, ⟨by decide +kernel, by decide +kernel, by decide +kernel⟩⟩
theorem cv_X0_holds : hg_cv_ yX0_holds (Cond.code yX0_holds cX0_holds 3 ((some FieldType.int))) RX0 1 := ⟨q572, q573, q82, q574, rfl, ⟨by decide +kernel, by decide +kernel, by decide +kernel⟩⟩
theorem cv_X0_says : hg_cv_ yX0_says (Cond.codeWith yX0_says cX0_says 4 ((some FieldType.int)) [(0, 28, 29, 21)]) RX0 2 := ⟨q578, q579, q82, q580, rfl, ⟨by decide +kernel, by decide +kernel, by decide +kernel⟩⟩
theorem cv_X0_person : hg_cv_ yX0_person (Cond.codeWith yX0_person cX0_person 8 ((some FieldType.int)) [(0, 152, 153, 21)]) RX0 6 := ⟨q626, q627, q82, q628, rfl, ⟨by decide +kernel, by decide +kernel, by decide +kernel⟩⟩
theorem cs_X0_personOfKind : hg_cs_ yX0_personOfKind (Cond.code yX0_personOfKind cX0_personOfKind 4 ((some (FieldType.object "TaxOnLooks$Person")))) 4 := ⟨q641, q82, q642, ⟨by decide +kernel, by decide +kernel, by decide +kernel⟩⟩
theorem cv_X0_build : hg_cv_ yX0_build (Cond.codeWith yX0_build cX0_build 6 ((some FieldType.int)) [(0, 159, 160, 21)]) RX0 3 := ⟨q745, q746, q82, q747, rfl, ⟨by decide +kernel, by decide +kernel, by decide +kernel⟩⟩
theorem cs_X0_changed : hg_cs_ yX0_changed (Cond.code yX0_changed cX0_changed 4 ((some FieldType.long))) 3 := ⟨q754, q82, q755, ⟨by decide +kernel, by decide +kernel, by decide +kernel⟩⟩
theorem cv_X0_put : hg_cv_ yX0_put (Cond.codeWith yX0_put cX0_put 4 ((some FieldType.int)) [(0, 39, 40, 21)]) RX0 2 := ⟨q758, q759, q82, q760, rfl, ⟨by decide +kernel, by decide +kernel, by decide +kernel⟩⟩
theorem cv_X0_sack : hg_cv_ yX0_sack (Cond.codeWith yX0_sack cX0_sack 4 ((some FieldType.int)) [(0, 56, 57, 21)]) RX0 2 := ⟨q762, q763, q82, q764, rfl, ⟨by decide +kernel, by decide +kernel, by decide +kernel⟩⟩
theorem cv_X0_ask : hg_cv_ yX0_ask (Cond.codeWith yX0_ask cX0_ask 4 ((some FieldType.int)) [(0, 6, 7, 21)]) RX0 2 := ⟨q766, q767, q82, q768, rfl, ⟨by decide +kernel, by decide +kernel, by decide +kernel⟩⟩
theorem cv_X0_asked : hg_cv_ yX0_asked (Cond.code yX0_asked cX0_asked 4 ((some FieldType.int))) RX0 2 := ⟨q771, qs4, q82, q772, rfl, ⟨by decide +kernel, by decide +kernel, by decide +kernel⟩⟩
theorem cv_X0_personOf : hg_cv_ yX0_personOf (Cond.code yX0_personOf cX0_personOf 3 ((some FieldType.int))) RX0 2 := ⟨q775, q776, q82, q777, rfl, ⟨by decide +kernel, by decide +kernel, by decide +kernel⟩⟩
theorem cv_X0_beyond : hg_cv_ yX0_beyond (Cond.code yX0_beyond cX0_beyond 1 ((some FieldType.int))) RX0 0 := ⟨q780, qs5, q82, q781, rfl, ⟨by decide +kernel, by decide +kernel, by decide +kernel⟩⟩
theorem cv_X0_squareOf : hg_cv_ yX0_squareOf (Cond.code yX0_squareOf cX0_squareOf 3 ((some FieldType.int))) RX0 2 := ⟨q807, q808, q82, q809, rfl, ⟨by decide +kernel, by decide +kernel, by decide +kernel⟩⟩
theorem cv_X0_town : hg_cv_ yX0_town (Cond.codeWith yX0_town cX0_town 5 ((some FieldType.int)) [(29, 50, 51, 277), (0, 50, 72, 21), (51, 72, 72, 21)]) RX0 1 := ⟨q812, q813, q82, q814, rfl, ⟨by decide +kernel, by decide +kernel, by decide +kernel⟩⟩
theorem cv_X0_fault : hg_cv_ yX0_fault (Cond.code yX0_fault cX0_fault 1 ((some FieldType.int))) RX0 0 := ⟨q993, q994, q82, q995, rfl, ⟨by decide +kernel, by decide +kernel, by decide +kernel⟩⟩
theorem cv_X0_view : hg_cv_ yX0_view (Cond.codeWith yX0_view cX0_view 4 ((some FieldType.int)) [(0, 51, 52, 21)]) RX0 2 := ⟨q997, q998, q82, q999, rfl, ⟨by decide +kernel, by decide +kernel, by decide +kernel⟩⟩
theorem cv_X0_glances : hg_cv_ yX0_glances (Cond.codeWith yX0_glances cX0_glances 4 ((some FieldType.int)) [(0, 40, 41, 21)]) RX0 2 := ⟨q1015, q1016, q82, q1017, rfl, ⟨by decide +kernel, by decide +kernel, by decide +kernel⟩⟩
theorem cv_X0_duty : hg_cv_ yX0_duty (Cond.codeWith yX0_duty cX0_duty 4 ((some FieldType.int)) [(0, 40, 41, 21)]) RX0 2 := ⟨q1064, q1065, q82, q1066, rfl, ⟨by decide +kernel, by decide +kernel, by decide +kernel⟩⟩
theorem cv_X0_all : hg_cv_ yX0_all (Cond.codeWith yX0_all cX0_all 6 ((some FieldType.int)) [(0, 143, 144, 21)]) RX0 1 := ⟨q1106, q1107, q82, q1108, rfl, ⟨by decide +kernel, by decide +kernel, by decide +kernel⟩⟩
theorem cv_X0_walk : hg_cv_ yX0_walk (Cond.codeWith yX0_walk cX0_walk 5 ((some FieldType.int)) [(0, 76, 124, 21), (77, 123, 124, 21)]) RX0 3 := ⟨q1115, q1116, q82, q1117, rfl, ⟨by decide +kernel, by decide +kernel, by decide +kernel⟩⟩
theorem cv_X0_stand : hg_cv_ yX0_stand (Cond.codeWith yX0_stand cX0_stand 5 ((some FieldType.int)) [(0, 125, 126, 21)]) RX0 2 := ⟨q1158, q1159, q82, q1160, rfl, ⟨by decide +kernel, by decide +kernel, by decide +kernel⟩⟩
theorem cv_X0_sacks : hg_cv_ yX0_sacks (Cond.codeWith yX0_sacks cX0_sacks 4 ((some FieldType.int)) [(0, 50, 51, 21)]) RX0 2 := ⟨q1166, q1167, q82, q1168, rfl, ⟨by decide +kernel, by decide +kernel, by decide +kernel⟩⟩
theorem cv_X0_bestSacks : hg_cv_ yX0_bestSacks (Cond.code yX0_bestSacks cX0_bestSacks 5 ((some FieldType.int))) RX0 1 := ⟨q1171, qs21, q82, q1172, rfl, ⟨by decide +kernel, by decide +kernel, by decide +kernel⟩⟩
theorem cv_X0_dutiesWith : hg_cv_ yX0_dutiesWith (Cond.code yX0_dutiesWith cX0_dutiesWith 2 ((some FieldType.int))) RX0 1 := ⟨q1176, qs22, q82, q1177, rfl, ⟨by decide +kernel, by decide +kernel, by decide +kernel⟩⟩
theorem cv_X0_balconies : hg_cv_ yX0_balconies (Cond.codeWith yX0_balconies cX0_balconies 6 ((some FieldType.int)) [(0, 69, 70, 21)]) RX0 1 := ⟨q1179, q1180, q82, q1181, rfl, ⟨by decide +kernel, by decide +kernel, by decide +kernel⟩⟩
theorem cv_X0_enteredWith : hg_cv_ yX0_enteredWith (Cond.code yX0_enteredWith cX0_enteredWith 2 ((some FieldType.int))) RX0 1 := ⟨q1184, qs23, q82, q1185, rfl, ⟨by decide +kernel, by decide +kernel, by decide +kernel⟩⟩
theorem cv_X0_fits : hg_cv_ yX0_fits (Cond.codeWith yX0_fits cX0_fits 7 ((some FieldType.int)) [(0, 108, 109, 21)]) RX0 2 := ⟨q1192, q1193, q82, q1194, rfl, ⟨by decide +kernel, by decide +kernel, by decide +kernel⟩⟩
theorem cv_X0_isRoll : hg_cv_ yX0_isRoll (Cond.code yX0_isRoll cX0_isRoll 3 ((some FieldType.boolean))) RX0 1 := ⟨q1198, qs24, q82, q1199, rfl, ⟨by decide +kernel, by decide +kernel, by decide +kernel⟩⟩
theorem cv_X0_most : hg_cv_ yX0_most (Cond.codeWith yX0_most cX0_most 5 ((some FieldType.int)) [(0, 114, 115, 21)]) RX0 1 := ⟨q1202, q1203, q82, q1204, rfl, ⟨by decide +kernel, by decide +kernel, by decide +kernel⟩⟩
theorem cv_X0_dutiesWithout : hg_cv_ yX0_dutiesWithout (Cond.code yX0_dutiesWithout cX0_dutiesWithout 2 ((some FieldType.int))) RX0 1 := ⟨q1207, qs25, q82, q1208, rfl, ⟨by decide +kernel, by decide +kernel, by decide +kernel⟩⟩
theorem cv_X0_crowd : hg_cv_ yX0_crowd (Cond.codeWith yX0_crowd cX0_crowd 5 ((some FieldType.int)) [(0, 82, 83, 21)]) RX0 1 := ⟨q1210, q1211, q82, q1212, rfl, ⟨by decide +kernel, by decide +kernel, by decide +kernel⟩⟩
theorem cv_X0_lookersAt : hg_cv_ yX0_lookersAt (Cond.code yX0_lookersAt cX0_lookersAt 4 ((some FieldType.int))) RX0 1 := ⟨q1215, qs26, q82, q1216, rfl, ⟨by decide +kernel, by decide +kernel, by decide +kernel⟩⟩
theorem cv_X0_judge : hg_cv_ yX0_judge (Cond.codeWith yX0_judge cX0_judge 4 ((some FieldType.int)) [(0, 29, 30, 21)]) RX0 2 := ⟨q1220, q1221, q82, q1222, rfl, ⟨by decide +kernel, by decide +kernel, by decide +kernel⟩⟩
theorem cv_X0_toldAt : hg_cv_ yX0_toldAt (Cond.code yX0_toldAt cX0_toldAt 4 ((some (FieldType.object "TaxOnLooks$Row")))) RX0 2 := ⟨q1225, qs27, q82, q1226, rfl, ⟨by decide +kernel, by decide +kernel, by decide +kernel⟩⟩
theorem cv_X0_wrongIn : hg_cv_ yX0_wrongIn (Cond.code yX0_wrongIn cX0_wrongIn 7 ((some FieldType.int))) RX0 2 := ⟨q1229, qs28, q82, q1230, rfl, ⟨by decide +kernel, by decide +kernel, by decide +kernel⟩⟩
theorem cv_X0_behind : hg_cv_ yX0_behind (Cond.codeWith yX0_behind cX0_behind 5 ((some FieldType.int)) [(0, 129, 130, 21)]) RX0 3 := ⟨q1237, q1238, q82, q1239, rfl, ⟨by decide +kernel, by decide +kernel, by decide +kernel⟩⟩
theorem cv_X0_emptyPurses : hg_cv_ yX0_emptyPurses (Cond.code yX0_emptyPurses cX0_emptyPurses 3 ((some FieldType.int))) RX0 0 := ⟨q1242, qs29, q82, q1243, rfl, ⟨by decide +kernel, by decide +kernel, by decide +kernel⟩⟩
theorem cv_X0_done : hg_cv_ yX0_done (Cond.codeWith yX0_done cX0_done 4 ((some FieldType.int)) [(0, 81, 82, 21)]) RX0 2 := ⟨q1245, q1246, q82, q1247, rfl, ⟨by decide +kernel, by decide +kernel, by decide +kernel⟩⟩
theorem cv_X0_hours : hg_cv_ yX0_hours (Cond.codeWith yX0_hours cX0_hours 3 ((some FieldType.int)) [(0, 38, 39, 21)]) RX0 1 := ⟨q1249, q1250, q82, q1251, rfl, ⟨by decide +kernel, by decide +kernel, by decide +kernel⟩⟩
theorem cv_X0_goesHour : hg_cv_ yX0_goesHour (Cond.code yX0_goesHour cX0_goesHour 4 (none)) RX0 0 := ⟨q1255, qs30, q82, q1256, rfl, ⟨by decide +kernel, by decide +kernel, by decide +kernel⟩⟩
theorem cv_X0_seed : hg_cv_ yX0_seed (Cond.code yX0_seed cX0_seed 3 ((some FieldType.int))) RX0 1 := ⟨q1263, q1264, q82, q1265, rfl, ⟨by decide +kernel, by decide +kernel, by decide +kernel⟩⟩
theorem cv_X0_act : hg_cv_ yX0_act (Cond.code yX0_act cX0_act 5 ((some FieldType.int))) RX0 3 := ⟨q1267, q1268, q82, q1269, rfl, ⟨by decide +kernel, by decide +kernel, by decide +kernel⟩⟩
theorem cv_X0_trace : hg_cv_ yX0_trace (Cond.code yX0_trace cX0_trace 2 ((some FieldType.int))) RX0 1 := ⟨q1344, q1345, q82, q1346, rfl, ⟨by decide +kernel, by decide +kernel, by decide +kernel⟩⟩
theorem cv_X0_image : hg_cv_ yX0_image (Cond.code yX0_image cX0_image 1 ((some FieldType.int))) RX0 0 := ⟨q1349, q1350, q82, q1351, rfl, ⟨by decide +kernel, by decide +kernel, by decide +kernel⟩⟩
theorem cv_X0_restore : hg_cv_ yX0_restore (Cond.codeWith yX0_restore cX0_restore 2 ((some FieldType.int)) [(0, 46, 47, 21)]) RX0 0 := ⟨q1353, q1354, q82, q1355, rfl, ⟨by decide +kernel, by decide +kernel, by decide +kernel⟩⟩
theorem cv_X0_shelvesFollow : hg_cv_ yX0_shelvesFollow (Cond.code yX0_shelvesFollow cX0_shelvesFollow 6 (none)) RX0 0 := ⟨q1358, qs31, q82, q1359, rfl, ⟨by decide +kernel, by decide +kernel, by decide +kernel⟩⟩
theorem cv_X0_status : hg_cv_ yX0_status (Cond.code yX0_status cX0_status 2 ((some FieldType.int))) RX0 1 := ⟨q1361, q1362, q82, q1363, rfl, ⟨by decide +kernel, by decide +kernel, by decide +kernel⟩⟩
theorem cj_X1_init : hg_ci_ yX1_init (Cond.code yX1_init cX1_init 1 (none)) 0 := ⟨q131, q83, q132, rfl, ⟨by decide +kernel, by decide +kernel, by decide +kernel⟩⟩
theorem cv_X1_runs : hg_cv_ yX1_runs (Cond.code yX1_runs cX1_runs 2 (none)) RX1 1 := ⟨q1278, q1279, q83, q1280, rfl, ⟨by decide +kernel, by decide +kernel, by decide +kernel⟩⟩
theorem cj_X2_init : hg_ci_ yX2_init (Cond.code yX2_init cX2_init 1 (none)) 0 := ⟨q147, q84, q148, rfl, ⟨by decide +kernel, by decide +kernel, by decide +kernel⟩⟩
theorem cv_X2_isPerson : hg_cv_ yX2_isPerson (Cond.code yX2_isPerson cX2_isPerson 2 ((some FieldType.boolean))) RX2 1 := ⟨q568, q569, q84, q570, rfl, ⟨by decide +kernel, by decide +kernel, by decide +kernel⟩⟩
theorem cv_X2_show : hg_cv_ yX2_show (Cond.code yX2_show cX2_show 3 ((some FieldType.int))) RX2 1 := ⟨q588, q589, q84, q590, rfl, ⟨by decide +kernel, by decide +kernel, by decide +kernel⟩⟩
theorem cv_X2_isFree : hg_cv_ yX2_isFree (Cond.code yX2_isFree cX2_isFree 2 ((some FieldType.boolean))) RX2 1 := ⟨q633, q634, q84, q635, rfl, ⟨by decide +kernel, by decide +kernel, by decide +kernel⟩⟩
theorem cv_X2_isWall : hg_cv_ yX2_isWall (Cond.code yX2_isWall cX2_isWall 2 ((some FieldType.boolean))) RX2 1 := ⟨q637, q638, q84, q639, rfl, ⟨by decide +kernel, by decide +kernel, by decide +kernel⟩⟩
theorem cv_X2_addPerson : hg_cv_ yX2_addPerson (Cond.code yX2_addPerson cX2_addPerson 5 (none)) RX2 4 := ⟨q741, q742, q84, q743, rfl, ⟨by decide +kernel, by decide +kernel, by decide +kernel⟩⟩
theorem cv_X2_standAt : hg_cv_ yX2_standAt (Cond.code yX2_standAt cX2_standAt 4 ((some FieldType.int))) RX2 1 := ⟨q750, q751, q84, q752, rfl, ⟨by decide +kernel, by decide +kernel, by decide +kernel⟩⟩
theorem cv_X2_take : hg_cv_ yX2_take (Cond.code yX2_take cX2_take 2 ((some (FieldType.object "TaxOnLooks$Town")))) RX2 1 := ⟨q817, q818, q84, q819, rfl, ⟨by decide +kernel, by decide +kernel, by decide +kernel⟩⟩
theorem cv_X2_isInView : hg_cv_ yX2_isInView (Cond.code yX2_isInView cX2_isInView 6 ((some FieldType.boolean))) RX2 2 := ⟨q1001, q1002, q84, q1003, rfl, ⟨by decide +kernel, by decide +kernel, by decide +kernel⟩⟩
theorem cs_X2_distance : hg_cs_ yX2_distance (Cond.code yX2_distance cX2_distance 2 ((some FieldType.int))) 2 := ⟨q1005, q84, q1006, ⟨by decide +kernel, by decide +kernel, by decide +kernel⟩⟩
theorem cv_X2_glancers : hg_cv_ yX2_glancers (Cond.code yX2_glancers cX2_glancers 4 ((some FieldType.int))) RX2 1 := ⟨q1019, q1020, q84, q1021, rfl, ⟨by decide +kernel, by decide +kernel, by decide +kernel⟩⟩
theorem cv_X2_glances : hg_cv_ yX2_glances (Cond.code yX2_glances cX2_glances 5 ((some FieldType.int))) RX2 1 := ⟨q1023, q1024, q84, q1025, rfl, ⟨by decide +kernel, by decide +kernel, by decide +kernel⟩⟩
theorem cv_X2_catches : hg_cv_ yX2_catches (Cond.code yX2_catches cX2_catches 3 ((some FieldType.boolean))) RX2 2 := ⟨q1028, qs17, q84, q1029, rfl, ⟨by decide +kernel, by decide +kernel, by decide +kernel⟩⟩
theorem cv_X2_isBefore : hg_cv_ yX2_isBefore (Cond.code yX2_isBefore cX2_isBefore 5 ((some FieldType.boolean))) RX2 3 := ⟨q1047, qs18, q84, q1048, rfl, ⟨by decide +kernel, by decide +kernel, by decide +kernel⟩⟩
theorem cv_X2_duty : hg_cv_ yX2_duty (Cond.code yX2_duty cX2_duty 2 ((some FieldType.int))) RX2 1 := ⟨q1068, q1069, q84, q1070, rfl, ⟨by decide +kernel, by decide +kernel, by decide +kernel⟩⟩
theorem cv_X2_entered : hg_cv_ yX2_entered (Cond.code yX2_entered cX2_entered 2 ((some FieldType.int))) RX2 1 := ⟨q1072, q1073, q84, q1074, rfl, ⟨by decide +kernel, by decide +kernel, by decide +kernel⟩⟩
theorem cv_X2_isLit : hg_cv_ yX2_isLit (Cond.code yX2_isLit cX2_isLit 3 ((some FieldType.boolean))) RX2 1 := ⟨q1076, q1077, q84, q1078, rfl, ⟨by decide +kernel, by decide +kernel, by decide +kernel⟩⟩
theorem cv_X2_fine : hg_cv_ yX2_fine (Cond.code yX2_fine cX2_fine 5 ((some FieldType.int))) RX2 1 := ⟨q1102, q1103, q84, q1104, rfl, ⟨by decide +kernel, by decide +kernel, by decide +kernel⟩⟩
theorem cv_X2_duties : hg_cv_ yX2_duties (Cond.code yX2_duties cX2_duties 3 ((some FieldType.int))) RX2 0 := ⟨q1110, q1111, q84, q1112, rfl, ⟨by decide +kernel, by decide +kernel, by decide +kernel⟩⟩
theorem cv_X2_beside : hg_cv_ yX2_beside (Cond.code yX2_beside cX2_beside 6 ((some FieldType.int))) RX2 2 := ⟨q1131, q1132, q84, q1133, rfl, ⟨by decide +kernel, by decide +kernel, by decide +kernel⟩⟩
theorem cv_X2_enteredTogether : hg_cv_ yX2_enteredTogether (Cond.code yX2_enteredTogether cX2_enteredTogether 3 ((some FieldType.int))) RX2 0 := ⟨q1187, q1188, q84, q1189, rfl, ⟨by decide +kernel, by decide +kernel, by decide +kernel⟩⟩
theorem cv_X2_pays : hg_cv_ yX2_pays (Cond.code yX2_pays cX2_pays 3 ((some FieldType.int))) RX2 1 := ⟨q1233, q1234, q84, q1235, rfl, ⟨by decide +kernel, by decide +kernel, by decide +kernel⟩⟩
theorem cv_X2_draw : hg_cv_ yX2_draw (Cond.code yX2_draw cX2_draw 2 ((some FieldType.int))) RX2 1 := ⟨q1258, q1259, q84, q1260, rfl, ⟨by decide +kernel, by decide +kernel, by decide +kernel⟩⟩
theorem cv_X2_pursesTogether : hg_cv_ yX2_pursesTogether (Cond.code yX2_pursesTogether cX2_pursesTogether 3 ((some FieldType.int))) RX2 0 := ⟨q1371, q1372, q84, q1373, rfl, ⟨by decide +kernel, by decide +kernel, by decide +kernel⟩⟩
theorem cj_X3_init : hg_ci_ yX3_init (Cond.code yX3_init cX3_init 1 (none)) 0 := ⟨q225, q85, q226, rfl, ⟨by decide +kernel, by decide +kernel, by decide +kernel⟩⟩
theorem cv_X3_find : hg_cv_ yX3_find (Cond.code yX3_find cX3_find 7 (none)) RX3 3 := ⟨q1120, q1121, q85, q1122, rfl, ⟨by decide +kernel, by decide +kernel, by decide +kernel⟩⟩
theorem cv_X3_shortens : hg_cv_ yX3_shortens (Cond.code yX3_shortens cX3_shortens 6 ((some FieldType.boolean))) RX3 2 := ⟨q1128, qs19, q85, q1129, rfl, ⟨by decide +kernel, by decide +kernel, by decide +kernel⟩⟩
theorem cv_X3_by : hg_cv_ yX3_by (Cond.code yX3_by cX3_by 2 ((some FieldType.int))) RX3 1 := ⟨q1139, qs20, q85, q1140, rfl, ⟨by decide +kernel, by decide +kernel, by decide +kernel⟩⟩
theorem cv_X3_comes : hg_cv_ yX3_comes (Cond.code yX3_comes cX3_comes 2 ((some FieldType.boolean))) RX3 1 := ⟨q1142, q1143, q85, q1144, rfl, ⟨by decide +kernel, by decide +kernel, by decide +kernel⟩⟩
theorem cv_X3_cost : hg_cv_ yX3_cost (Cond.code yX3_cost cX3_cost 2 ((some FieldType.int))) RX3 1 := ⟨q1146, q1147, q85, q1148, rfl, ⟨by decide +kernel, by decide +kernel, by decide +kernel⟩⟩
theorem cv_X3_steps : hg_cv_ yX3_steps (Cond.code yX3_steps cX3_steps 2 ((some FieldType.int))) RX3 1 := ⟨q1150, q1151, q85, q1152, rfl, ⟨by decide +kernel, by decide +kernel, by decide +kernel⟩⟩
theorem cv_X3_first : hg_cv_ yX3_first (Cond.code yX3_first cX3_first 7 ((some FieldType.int))) RX3 2 := ⟨q1154, q1155, q85, q1156, rfl, ⟨by decide +kernel, by decide +kernel, by decide +kernel⟩⟩
theorem cv_X3_owes : hg_cv_ yX3_owes (Cond.code yX3_owes cX3_owes 2 ((some FieldType.int))) RX3 1 := ⟨q1162, q1163, q85, q1164, rfl, ⟨by decide +kernel, by decide +kernel, by decide +kernel⟩⟩
theorem cj_X4_init : hg_ci_ yX4_init (Cond.code yX4_init cX4_init 1 (none)) 0 := ⟨q237, q86, q238, rfl, ⟨by decide +kernel, by decide +kernel, by decide +kernel⟩⟩
theorem cv_X4_row : hg_cv_ yX4_row (Cond.codeWith yX4_row cX4_row 2 ((some (FieldType.object "TaxOnLooks$Row"))) [(0, 23, 24, 21)]) RX4 0 := ⟨q461, q462, q86, q463, rfl, ⟨by decide +kernel, by decide +kernel, by decide +kernel⟩⟩
theorem cv_X4_holdsPerson : hg_cv_ yX4_holdsPerson (Cond.code yX4_holdsPerson cX4_holdsPerson 1 ((some FieldType.boolean))) RX4 0 := ⟨q503, q504, q86, q505, rfl, ⟨by decide +kernel, by decide +kernel, by decide +kernel⟩⟩
theorem cv_X4_says : hg_cv_ yX4_says (Cond.codeWith yX4_says cX4_says 4 ((some FieldType.int)) [(0, 253, 254, 21)]) RX4 2 := ⟨q583, q584, q86, q585, rfl, ⟨by decide +kernel, by decide +kernel, by decide +kernel⟩⟩
theorem cj_X5_init : hg_ci_ yX5_init (Cond.code yX5_init cX5_init 1 (none)) 0 := ⟨q1379, q87, q1380, rfl, ⟨by decide +kernel, by decide +kernel, by decide +kernel⟩⟩
theorem cv_X5_row : hg_cv_ yX5_row (Cond.code yX5_row cX5_row 5 ((some FieldType.int))) RX5 3 := ⟨q1516, q1517, q87, q1518, rfl, ⟨by decide +kernel, by decide +kernel, by decide +kernel⟩⟩
theorem cv_X5_isShelf : hg_cv_ yX5_isShelf (Cond.code yX5_isShelf cX5_isShelf 2 ((some FieldType.boolean))) RX5 1 := ⟨q1521, qs32, q87, q1522, rfl, ⟨by decide +kernel, by decide +kernel, by decide +kernel⟩⟩
theorem cv_X5_no : hg_cv_ yX5_no (Cond.code yX5_no cX5_no 2 ((some FieldType.int))) RX5 1 := ⟨q1525, qs33, q87, q1526, rfl, ⟨by decide +kernel, by decide +kernel, by decide +kernel⟩⟩
theorem cv_X5_set : hg_cv_ yX5_set (Cond.code yX5_set cX5_set 5 ((some FieldType.int))) RX5 3 := ⟨q1528, q1529, q87, q1530, rfl, ⟨by decide +kernel, by decide +kernel, by decide +kernel⟩⟩
theorem cv_X5_copy : hg_cv_ yX5_copy (Cond.code yX5_copy cX5_copy 7 ((some FieldType.int))) RX5 5 := ⟨q1532, q1533, q87, q1534, rfl, ⟨by decide +kernel, by decide +kernel, by decide +kernel⟩⟩
theorem cv_X5_element : hg_cv_ yX5_element (Cond.code yX5_element cX5_element 3 ((some FieldType.long))) RX5 2 := ⟨q1536, q1537, q87, q1538, rfl, ⟨by decide +kernel, by decide +kernel, by decide +kernel⟩⟩
theorem cv_X5_show : hg_cv_ yX5_show (Cond.code yX5_show cX5_show 3 ((some FieldType.int))) RX5 2 := ⟨q1540, q1541, q87, q1542, rfl, ⟨by decide +kernel, by decide +kernel, by decide +kernel⟩⟩
theorem cv_X5_isOne : hg_cv_ yX5_isOne (Cond.code yX5_isOne cX5_isOne 2 ((some FieldType.boolean))) RX5 1 := ⟨q1545, qs34, q87, q1546, rfl, ⟨by decide +kernel, by decide +kernel, by decide +kernel⟩⟩
theorem cv_X5_holds : hg_cv_ yX5_holds (Cond.code yX5_holds cX5_holds 2 ((some FieldType.int))) RX5 1 := ⟨q1548, q1549, q87, q1550, rfl, ⟨by decide +kernel, by decide +kernel, by decide +kernel⟩⟩
theorem cv_X5_says : hg_cv_ yX5_says (Cond.code yX5_says cX5_says 6 ((some FieldType.int))) RX5 2 := ⟨q1552, q1553, q87, q1554, rfl, ⟨by decide +kernel, by decide +kernel, by decide +kernel⟩⟩
theorem cv_X5_shows : hg_cv_ yX5_shows (Cond.code yX5_shows cX5_shows 3 ((some FieldType.int))) RX5 1 := ⟨q1557, qs35, q87, q1558, rfl, ⟨by decide +kernel, by decide +kernel, by decide +kernel⟩⟩
theorem cv_X5_person : hg_cv_ yX5_person (Cond.code yX5_person cX5_person 7 ((some FieldType.int))) RX5 6 := ⟨q1560, q1561, q87, q1562, rfl, ⟨by decide +kernel, by decide +kernel, by decide +kernel⟩⟩
theorem cv_X5_isFrom : hg_cv_ yX5_isFrom (Cond.code yX5_isFrom cX5_isFrom 4 ((some FieldType.boolean))) RX5 3 := ⟨q1565, qs36, q87, q1566, rfl, ⟨by decide +kernel, by decide +kernel, by decide +kernel⟩⟩
theorem cv_X5_isSquare : hg_cv_ yX5_isSquare (Cond.code yX5_isSquare cX5_isSquare 2 ((some FieldType.boolean))) RX5 1 := ⟨q1569, qs37, q87, q1570, rfl, ⟨by decide +kernel, by decide +kernel, by decide +kernel⟩⟩
theorem cv_X5_adds : hg_cv_ yX5_adds (Cond.code yX5_adds cX5_adds 7 ((some FieldType.int))) RX5 6 := ⟨q1573, qs38, q87, q1574, rfl, ⟨by decide +kernel, by decide +kernel, by decide +kernel⟩⟩
theorem cv_X5_build : hg_cv_ yX5_build (Cond.code yX5_build cX5_build 5 ((some FieldType.int))) RX5 3 := ⟨q1576, q1577, q87, q1578, rfl, ⟨by decide +kernel, by decide +kernel, by decide +kernel⟩⟩
theorem cv_X5_thereAt : hg_cv_ yX5_thereAt (Cond.code yX5_thereAt cX5_thereAt 4 ((some FieldType.int))) RX5 1 := ⟨q1581, qs39, q87, q1582, rfl, ⟨by decide +kernel, by decide +kernel, by decide +kernel⟩⟩
theorem cv_X5_put : hg_cv_ yX5_put (Cond.code yX5_put cX5_put 4 ((some FieldType.int))) RX5 2 := ⟨q1584, q1585, q87, q1586, rfl, ⟨by decide +kernel, by decide +kernel, by decide +kernel⟩⟩
theorem cv_X5_sack : hg_cv_ yX5_sack (Cond.code yX5_sack cX5_sack 4 ((some FieldType.int))) RX5 2 := ⟨q1588, q1589, q87, q1590, rfl, ⟨by decide +kernel, by decide +kernel, by decide +kernel⟩⟩
theorem cv_X5_ask : hg_cv_ yX5_ask (Cond.code yX5_ask cX5_ask 4 ((some FieldType.int))) RX5 2 := ⟨q1592, q1593, q87, q1594, rfl, ⟨by decide +kernel, by decide +kernel, by decide +kernel⟩⟩
theorem cv_X5_isAsked : hg_cv_ yX5_isAsked (Cond.code yX5_isAsked cX5_isAsked 3 ((some FieldType.boolean))) RX5 2 := ⟨q1597, qs40, q87, q1598, rfl, ⟨by decide +kernel, by decide +kernel, by decide +kernel⟩⟩
theorem cv_X5_asks : hg_cv_ yX5_asks (Cond.code yX5_asks cX5_asks 3 (none)) RX5 2 := ⟨q1601, qs41, q87, q1602, rfl, ⟨by decide +kernel, by decide +kernel, by decide +kernel⟩⟩
theorem cv_X5_personOf : hg_cv_ yX5_personOf (Cond.code yX5_personOf cX5_personOf 3 ((some FieldType.int))) RX5 2 := ⟨q1604, q1605, q87, q1606, rfl, ⟨by decide +kernel, by decide +kernel, by decide +kernel⟩⟩
theorem cv_X5_squareOf : hg_cv_ yX5_squareOf (Cond.code yX5_squareOf cX5_squareOf 3 ((some FieldType.int))) RX5 2 := ⟨q1608, q1609, q87, q1610, rfl, ⟨by decide +kernel, by decide +kernel, by decide +kernel⟩⟩
theorem cv_X5_town : hg_cv_ yX5_town (Cond.code yX5_town cX5_town 5 ((some FieldType.int))) RX5 1 := ⟨q1612, q1613, q87, q1614, rfl, ⟨by decide +kernel, by decide +kernel, by decide +kernel⟩⟩
theorem cv_X5_wanted : hg_cv_ yX5_wanted (Cond.code yX5_wanted cX5_wanted 2 ((some FieldType.int))) RX5 1 := ⟨q1617, qs42, q87, q1618, rfl, ⟨by decide +kernel, by decide +kernel, by decide +kernel⟩⟩
theorem cv_X5_carriesAll : hg_cv_ yX5_carriesAll (Cond.code yX5_carriesAll cX5_carriesAll 4 (none)) RX5 2 := ⟨q1621, qs43, q87, q1622, rfl, ⟨by decide +kernel, by decide +kernel, by decide +kernel⟩⟩
theorem cv_X5_carries : hg_cv_ yX5_carries (Cond.code yX5_carries cX5_carries 7 ((some FieldType.int))) RX5 5 := ⟨q1625, qs44, q87, q1626, rfl, ⟨by decide +kernel, by decide +kernel, by decide +kernel⟩⟩
theorem cv_X5_item : hg_cv_ yX5_item (Cond.code yX5_item cX5_item 4 ((some FieldType.boolean))) RX5 0 := ⟨q1629, qs45, q87, q1630, rfl, ⟨by decide +kernel, by decide +kernel, by decide +kernel⟩⟩
theorem cv_X5_stands : hg_cv_ yX5_stands (Cond.code yX5_stands cX5_stands 4 ((some FieldType.boolean))) RX5 1 := ⟨q1633, qs46, q87, q1634, rfl, ⟨by decide +kernel, by decide +kernel, by decide +kernel⟩⟩
theorem cv_X5_wrong : hg_cv_ yX5_wrong (Cond.code yX5_wrong cX5_wrong 2 ((some FieldType.boolean))) RX5 1 := ⟨q1637, qs47, q87, q1638, rfl, ⟨by decide +kernel, by decide +kernel, by decide +kernel⟩⟩
theorem cv_X5_word : hg_cv_ yX5_word (Cond.code yX5_word cX5_word 6 ((some FieldType.int))) RX5 0 := ⟨q1641, qs48, q87, q1642, rfl, ⟨by decide +kernel, by decide +kernel, by decide +kernel⟩⟩
theorem cv_X5_reads : hg_cv_ yX5_reads (Cond.code yX5_reads cX5_reads 2 ((some FieldType.boolean))) RX5 0 := ⟨q1645, qs49, q87, q1646, rfl, ⟨by decide +kernel, by decide +kernel, by decide +kernel⟩⟩
theorem cv_X5_isDigit : hg_cv_ yX5_isDigit (Cond.code yX5_isDigit cX5_isDigit 1 ((some FieldType.boolean))) RX5 0 := ⟨q1649, qs50, q87, q1650, rfl, ⟨by decide +kernel, by decide +kernel, by decide +kernel⟩⟩
theorem cv_X5_isSo : hg_cv_ yX5_isSo (Cond.code yX5_isSo cX5_isSo 3 ((some FieldType.boolean))) RX5 2 := ⟨q1653, qs51, q87, q1654, rfl, ⟨by decide +kernel, by decide +kernel, by decide +kernel⟩⟩
theorem cv_X5_fault : hg_cv_ yX5_fault (Cond.code yX5_fault cX5_fault 1 ((some FieldType.int))) RX5 0 := ⟨q1656, q1657, q87, q1658, rfl, ⟨by decide +kernel, by decide +kernel, by decide +kernel⟩⟩
theorem cv_X5_view : hg_cv_ yX5_view (Cond.code yX5_view cX5_view 3 ((some FieldType.int))) RX5 2 := ⟨q1660, q1661, q87, q1662, rfl, ⟨by decide +kernel, by decide +kernel, by decide +kernel⟩⟩
theorem cv_X5_sees : hg_cv_ yX5_sees (Cond.code yX5_sees cX5_sees 7 ((some FieldType.boolean))) RX5 2 := ⟨q1665, qs52, q87, q1666, rfl, ⟨by decide +kernel, by decide +kernel, by decide +kernel⟩⟩
theorem cv_X5_distance : hg_cv_ yX5_distance (Cond.code yX5_distance cX5_distance 6 ((some FieldType.int))) RX5 2 := ⟨q1669, qs53, q87, q1670, rfl, ⟨by decide +kernel, by decide +kernel, by decide +kernel⟩⟩
theorem cv_X5_glances : hg_cv_ yX5_glances (Cond.code yX5_glances cX5_glances 3 ((some FieldType.int))) RX5 2 := ⟨q1672, q1673, q87, q1674, rfl, ⟨by decide +kernel, by decide +kernel, by decide +kernel⟩⟩
theorem cv_X5_lookers : hg_cv_ yX5_lookers (Cond.code yX5_lookers cX5_lookers 4 ((some FieldType.int))) RX5 1 := ⟨q1677, qs54, q87, q1678, rfl, ⟨by decide +kernel, by decide +kernel, by decide +kernel⟩⟩
theorem cv_X5_lookedAt : hg_cv_ yX5_lookedAt (Cond.code yX5_lookedAt cX5_lookedAt 6 ((some FieldType.int))) RX5 1 := ⟨q1681, qs55, q87, q1682, rfl, ⟨by decide +kernel, by decide +kernel, by decide +kernel⟩⟩
theorem cv_X5_would : hg_cv_ yX5_would (Cond.code yX5_would cX5_would 3 ((some FieldType.boolean))) RX5 2 := ⟨q1685, qs56, q87, q1686, rfl, ⟨by decide +kernel, by decide +kernel, by decide +kernel⟩⟩
theorem cv_X5_duty : hg_cv_ yX5_duty (Cond.code yX5_duty cX5_duty 3 ((some FieldType.int))) RX5 2 := ⟨q1688, q1689, q87, q1690, rfl, ⟨by decide +kernel, by decide +kernel, by decide +kernel⟩⟩
theorem cv_X5_owes : hg_cv_ yX5_owes (Cond.code yX5_owes cX5_owes 3 ((some FieldType.int))) RX5 1 := ⟨q1693, qs57, q87, q1694, rfl, ⟨by decide +kernel, by decide +kernel, by decide +kernel⟩⟩
theorem cv_X5_isLit : hg_cv_ yX5_isLit (Cond.code yX5_isLit cX5_isLit 3 ((some FieldType.boolean))) RX5 1 := ⟨q1697, qs58, q87, q1698, rfl, ⟨by decide +kernel, by decide +kernel, by decide +kernel⟩⟩
theorem cv_X5_many : hg_cv_ yX5_many (Cond.code yX5_many cX5_many 4 ((some FieldType.int))) RX5 1 := ⟨q1701, qs59, q87, q1702, rfl, ⟨by decide +kernel, by decide +kernel, by decide +kernel⟩⟩
theorem cv_X5_wouldPay : hg_cv_ yX5_wouldPay (Cond.code yX5_wouldPay cX5_wouldPay 5 ((some FieldType.int))) RX5 1 := ⟨q1705, qs60, q87, q1706, rfl, ⟨by decide +kernel, by decide +kernel, by decide +kernel⟩⟩
theorem cv_X5_all : hg_cv_ yX5_all (Cond.code yX5_all cX5_all 5 ((some FieldType.int))) RX5 1 := ⟨q1708, q1709, q87, q1710, rfl, ⟨by decide +kernel, by decide +kernel, by decide +kernel⟩⟩
theorem cv_X5_walk : hg_cv_ yX5_walk (Cond.code yX5_walk cX5_walk 5 ((some FieldType.int))) RX5 3 := ⟨q1712, q1713, q87, q1714, rfl, ⟨by decide +kernel, by decide +kernel, by decide +kernel⟩⟩
theorem cv_X5_noTen : hg_cv_ yX5_noTen (Cond.code yX5_noTen cX5_noTen 2 ((some FieldType.int))) RX5 1 := ⟨q1717, qs61, q87, q1718, rfl, ⟨by decide +kernel, by decide +kernel, by decide +kernel⟩⟩
theorem cv_X5_tellsDuties : hg_cv_ yX5_tellsDuties (Cond.code yX5_tellsDuties cX5_tellsDuties 4 (none)) RX5 1 := ⟨q1721, qs62, q87, q1722, rfl, ⟨by decide +kernel, by decide +kernel, by decide +kernel⟩⟩
theorem cv_X5_tellsWays : hg_cv_ yX5_tellsWays (Cond.code yX5_tellsWays cX5_tellsWays 6 (none)) RX5 1 := ⟨q1726, qs63, q87, q1727, rfl, ⟨by decide +kernel, by decide +kernel, by decide +kernel⟩⟩
theorem cv_X5_beside : hg_cv_ yX5_beside (Cond.code yX5_beside cX5_beside 5 ((some FieldType.int))) RX5 2 := ⟨q1730, qs64, q87, q1731, rfl, ⟨by decide +kernel, by decide +kernel, by decide +kernel⟩⟩
theorem cv_X5_firstOn : hg_cv_ yX5_firstOn (Cond.code yX5_firstOn cX5_firstOn 5 ((some FieldType.int))) RX5 1 := ⟨q1734, qs65, q87, q1735, rfl, ⟨by decide +kernel, by decide +kernel, by decide +kernel⟩⟩
theorem cv_X5_stand : hg_cv_ yX5_stand (Cond.code yX5_stand cX5_stand 5 ((some FieldType.int))) RX5 2 := ⟨q1737, q1738, q87, q1739, rfl, ⟨by decide +kernel, by decide +kernel, by decide +kernel⟩⟩
theorem cv_X5_sacks : hg_cv_ yX5_sacks (Cond.code yX5_sacks cX5_sacks 7 ((some FieldType.int))) RX5 2 := ⟨q1741, q1742, q87, q1743, rfl, ⟨by decide +kernel, by decide +kernel, by decide +kernel⟩⟩
theorem cv_X5_allDuties : hg_cv_ yX5_allDuties (Cond.code yX5_allDuties cX5_allDuties 3 ((some FieldType.int))) RX5 0 := ⟨q1746, qs66, q87, q1747, rfl, ⟨by decide +kernel, by decide +kernel, by decide +kernel⟩⟩
theorem cv_X5_balconies : hg_cv_ yX5_balconies (Cond.code yX5_balconies cX5_balconies 7 ((some FieldType.int))) RX5 1 := ⟨q1749, q1750, q87, q1751, rfl, ⟨by decide +kernel, by decide +kernel, by decide +kernel⟩⟩
theorem cv_X5_allEntered : hg_cv_ yX5_allEntered (Cond.code yX5_allEntered cX5_allEntered 3 ((some FieldType.int))) RX5 0 := ⟨q1754, qs67, q87, q1755, rfl, ⟨by decide +kernel, by decide +kernel, by decide +kernel⟩⟩
theorem cv_X5_fits : hg_cv_ yX5_fits (Cond.code yX5_fits cX5_fits 9 ((some FieldType.int))) RX5 2 := ⟨q1757, q1758, q87, q1759, rfl, ⟨by decide +kernel, by decide +kernel, by decide +kernel⟩⟩
theorem cv_X5_intAt : hg_cv_ yX5_intAt (Cond.code yX5_intAt cX5_intAt 3 ((some FieldType.int))) RX5 2 := ⟨q1762, qs68, q87, q1763, rfl, ⟨by decide +kernel, by decide +kernel, by decide +kernel⟩⟩
theorem cv_X5_most : hg_cv_ yX5_most (Cond.code yX5_most cX5_most 4 ((some FieldType.int))) RX5 1 := ⟨q1765, q1766, q87, q1767, rfl, ⟨by decide +kernel, by decide +kernel, by decide +kernel⟩⟩
theorem cv_X5_without : hg_cv_ yX5_without (Cond.code yX5_without cX5_without 5 ((some FieldType.int))) RX5 0 := ⟨q1770, qs69, q87, q1771, rfl, ⟨by decide +kernel, by decide +kernel, by decide +kernel⟩⟩
theorem cv_X5_crowd : hg_cv_ yX5_crowd (Cond.code yX5_crowd cX5_crowd 5 ((some FieldType.int))) RX5 1 := ⟨q1773, q1774, q87, q1775, rfl, ⟨by decide +kernel, by decide +kernel, by decide +kernel⟩⟩
theorem cv_X5_seers : hg_cv_ yX5_seers (Cond.code yX5_seers cX5_seers 4 ((some FieldType.int))) RX5 1 := ⟨q1778, qs70, q87, q1779, rfl, ⟨by decide +kernel, by decide +kernel, by decide +kernel⟩⟩
theorem cv_X5_judge : hg_cv_ yX5_judge (Cond.code yX5_judge cX5_judge 5 ((some FieldType.int))) RX5 2 := ⟨q1781, q1782, q87, q1783, rfl, ⟨by decide +kernel, by decide +kernel, by decide +kernel⟩⟩
theorem cv_X5_barsOf : hg_cv_ yX5_barsOf (Cond.code yX5_barsOf cX5_barsOf 4 ((some FieldType.int))) RX5 2 := ⟨q1786, qs71, q87, q1787, rfl, ⟨by decide +kernel, by decide +kernel, by decide +kernel⟩⟩
theorem cv_X5_strolls : hg_cv_ yX5_strolls (Cond.code yX5_strolls cX5_strolls 7 ((some FieldType.int))) RX5 2 := ⟨q1790, qs72, q87, q1791, rfl, ⟨by decide +kernel, by decide +kernel, by decide +kernel⟩⟩
theorem cv_X5_pays : hg_cv_ yX5_pays (Cond.code yX5_pays cX5_pays 3 (none)) RX5 1 := ⟨q1794, qs73, q87, q1795, rfl, ⟨by decide +kernel, by decide +kernel, by decide +kernel⟩⟩
theorem cv_X5_behind : hg_cv_ yX5_behind (Cond.code yX5_behind cX5_behind 7 ((some FieldType.int))) RX5 3 := ⟨q1797, q1798, q87, q1799, rfl, ⟨by decide +kernel, by decide +kernel, by decide +kernel⟩⟩
theorem cv_X5_empty : hg_cv_ yX5_empty (Cond.code yX5_empty cX5_empty 3 ((some FieldType.int))) RX5 0 := ⟨q1802, qs74, q87, q1803, rfl, ⟨by decide +kernel, by decide +kernel, by decide +kernel⟩⟩
theorem cv_X5_done : hg_cv_ yX5_done (Cond.code yX5_done cX5_done 4 ((some FieldType.int))) RX5 2 := ⟨q1805, q1806, q87, q1807, rfl, ⟨by decide +kernel, by decide +kernel, by decide +kernel⟩⟩
theorem cv_X5_hours : hg_cv_ yX5_hours (Cond.code yX5_hours cX5_hours 6 ((some FieldType.int))) RX5 1 := ⟨q1809, q1810, q87, q1811, rfl, ⟨by decide +kernel, by decide +kernel, by decide +kernel⟩⟩
theorem cv_X5_draw : hg_cv_ yX5_draw (Cond.code yX5_draw cX5_draw 2 ((some FieldType.int))) RX5 1 := ⟨q1814, qs75, q87, q1815, rfl, ⟨by decide +kernel, by decide +kernel, by decide +kernel⟩⟩
theorem cv_X5_seed : hg_cv_ yX5_seed (Cond.code yX5_seed cX5_seed 3 ((some FieldType.int))) RX5 1 := ⟨q1818, q1819, q87, q1820, rfl, ⟨by decide +kernel, by decide +kernel, by decide +kernel⟩⟩
theorem cv_X5_act : hg_cv_ yX5_act (Cond.code yX5_act cX5_act 4 ((some FieldType.int))) RX5 3 := ⟨q1822, q1823, q87, q1824, rfl, ⟨by decide +kernel, by decide +kernel, by decide +kernel⟩⟩
theorem cv_X5_looking : hg_cv_ yX5_looking (Cond.code yX5_looking cX5_looking 8 ((some FieldType.int))) RX5 2 := ⟨q1827, qs76, q87, q1828, rfl, ⟨by decide +kernel, by decide +kernel, by decide +kernel⟩⟩
theorem cv_X5_body : hg_cv_ yX5_body (Cond.code yX5_body cX5_body 2 (none)) RX5 1 := ⟨q1831, qs77, q87, q1832, rfl, ⟨by decide +kernel, by decide +kernel, by decide +kernel⟩⟩
theorem cv_X5_walking : hg_cv_ yX5_walking (Cond.code yX5_walking cX5_walking 7 ((some FieldType.int))) RX5 2 := ⟨q1835, qs78, q87, q1836, rfl, ⟨by decide +kernel, by decide +kernel, by decide +kernel⟩⟩
theorem cv_X5_paying : hg_cv_ yX5_paying (Cond.code yX5_paying cX5_paying 6 ((some FieldType.int))) RX5 2 := ⟨q1839, qs79, q87, q1840, rfl, ⟨by decide +kernel, by decide +kernel, by decide +kernel⟩⟩
theorem cv_X5_trace : hg_cv_ yX5_trace (Cond.code yX5_trace cX5_trace 2 ((some FieldType.int))) RX5 1 := ⟨q1842, q1843, q87, q1844, rfl, ⟨by decide +kernel, by decide +kernel, by decide +kernel⟩⟩
theorem cv_X5_image : hg_cv_ yX5_image (Cond.code yX5_image cX5_image 1 ((some FieldType.int))) RX5 0 := ⟨q1846, q1847, q87, q1848, rfl, ⟨by decide +kernel, by decide +kernel, by decide +kernel⟩⟩
theorem cv_X5_restore : hg_cv_ yX5_restore (Cond.code yX5_restore cX5_restore 2 ((some FieldType.int))) RX5 0 := ⟨q1850, q1851, q87, q1852, rfl, ⟨by decide +kernel, by decide +kernel, by decide +kernel⟩⟩
theorem cv_X5_status : hg_cv_ yX5_status (Cond.code yX5_status cX5_status 2 ((some FieldType.int))) RX5 1 := ⟨q1854, q1855, q87, q1856, rfl, ⟨by decide +kernel, by decide +kernel, by decide +kernel⟩⟩
theorem cv_X5_together : hg_cv_ yX5_together (Cond.code yX5_together cX5_together 5 ((some FieldType.int))) RX5 2 := ⟨q1859, qs80, q87, q1860, rfl, ⟨by decide +kernel, by decide +kernel, by decide +kernel⟩⟩
theorem cj_X6_init : hg_ci_ yX6_init (Cond.code yX6_init cX6_init 2 (none)) 1 := ⟨q369, q94, q370, rfl, ⟨by decide +kernel, by decide +kernel, by decide +kernel⟩⟩
theorem cj_X7_init : hg_ci_ yX7_init (Cond.code yX7_init cX7_init 1 (none)) 0 := ⟨q413, q96, q414, rfl, ⟨by decide +kernel, by decide +kernel, by decide +kernel⟩⟩
theorem cj_X8_init : hg_ci_ yX8_init (Cond.code yX8_init cX8_init 2 (none)) 1 := ⟨q410, q97, q411, rfl, ⟨by decide +kernel, by decide +kernel, by decide +kernel⟩⟩
theorem cj_X9_init : hg_ci_ yX9_init (Cond.code yX9_init cX9_init 2 (none)) 1 := ⟨q423, q98, q424, rfl, ⟨by decide +kernel, by decide +kernel, by decide +kernel⟩⟩
theorem cj_X10_init : hg_ci_ yX10_init (Cond.code yX10_init cX10_init 2 (none)) 1 := ⟨q434, q99, q435, rfl, ⟨by decide +kernel, by decide +kernel, by decide +kernel⟩⟩
theorem cj_X11_init : hg_ci_ yX11_init (Cond.code yX11_init cX11_init 2 (none)) 1 := ⟨q444, q100, q445, rfl, ⟨by decide +kernel, by decide +kernel, by decide +kernel⟩⟩
theorem cv_X12_shows : hg_cv_ yX12_shows (Cond.code yX12_shows cX12_shows 2 ((some FieldType.int))) RX12 1 := ⟨q592, q593, q104, q604, rfl, ⟨by decide +kernel, by decide +kernel, by decide +kernel⟩⟩
theorem cj_X12_init : hg_ci_ yX12_init (Cond.code yX12_init cX12_init 4 (none)) 3 := ⟨q649, q104, q650, rfl, ⟨by decide +kernel, by decide +kernel, by decide +kernel⟩⟩
theorem cv_X12_kind : hg_cv_ yX12_kind (Cond.code yX12_kind cX12_kind 1 ((some FieldType.int))) RX12 0 := ⟨q783, q784, q104, q804, rfl, ⟨by decide +kernel, by decide +kernel, by decide +kernel⟩⟩
theorem cv_X12_looksAtAll : hg_cv_ yX12_looksAtAll (Cond.code yX12_looksAtAll cX12_looksAtAll 1 ((some FieldType.boolean))) RX12 0 := ⟨q1031, q1032, q104, q1042, rfl, ⟨by decide +kernel, by decide +kernel, by decide +kernel⟩⟩
theorem cv_X12_looksAtOne : hg_cv_ yX12_looksAtOne (Cond.code yX12_looksAtOne cX12_looksAtOne 1 ((some FieldType.boolean))) RX12 0 := ⟨q1050, q1051, q104, q1061, rfl, ⟨by decide +kernel, by decide +kernel, by decide +kernel⟩⟩
theorem cv_X12_owes : hg_cv_ yX12_owes (Cond.code yX12_owes cX12_owes 2 ((some FieldType.int))) RX12 1 := ⟨q1087, q1088, q104, q1100, rfl, ⟨by decide +kernel, by decide +kernel, by decide +kernel⟩⟩
theorem cv_X12_looking : hg_cv_ yX12_looking (Cond.code yX12_looking cX12_looking 3 ((some FieldType.int))) RX12 2 := ⟨q1271, q1272, q104, q1286, rfl, ⟨by decide +kernel, by decide +kernel, by decide +kernel⟩⟩
theorem cv_X12_walking : hg_cv_ yX12_walking (Cond.code yX12_walking cX12_walking 3 ((some FieldType.int))) RX12 2 := ⟨q1302, q1303, q104, q1312, rfl, ⟨by decide +kernel, by decide +kernel, by decide +kernel⟩⟩
theorem cv_X12_paying : hg_cv_ yX12_paying (Cond.code yX12_paying cX12_paying 4 ((some FieldType.int))) RX12 2 := ⟨q1323, q1324, q104, q1336, rfl, ⟨by decide +kernel, by decide +kernel, by decide +kernel⟩⟩
theorem cj_X13_init : hg_ci_ yX13_init (Cond.code yX13_init cX13_init 4 (none)) 3 := ⟨q646, q105, q647, rfl, ⟨by decide +kernel, by decide +kernel, by decide +kernel⟩⟩
theorem cj_X14_init : hg_ci_ yX14_init (Cond.code yX14_init cX14_init 4 (none)) 3 := ⟨q690, q106, q691, rfl, ⟨by decide +kernel, by decide +kernel, by decide +kernel⟩⟩
theorem cj_X15_init : hg_ci_ yX15_init (Cond.code yX15_init cX15_init 4 (none)) 3 := ⟨q699, q107, q700, rfl, ⟨by decide +kernel, by decide +kernel, by decide +kernel⟩⟩
theorem cj_X16_init : hg_ci_ yX16_init (Cond.code yX16_init cX16_init 4 (none)) 3 := ⟨q709, q108, q710, rfl, ⟨by decide +kernel, by decide +kernel, by decide +kernel⟩⟩
theorem cj_X17_init : hg_ci_ yX17_init (Cond.code yX17_init cX17_init 4 (none)) 3 := ⟨q718, q109, q719, rfl, ⟨by decide +kernel, by decide +kernel, by decide +kernel⟩⟩
theorem cj_X18_init : hg_ci_ yX18_init (Cond.code yX18_init cX18_init 4 (none)) 3 := ⟨q728, q110, q729, rfl, ⟨by decide +kernel, by decide +kernel, by decide +kernel⟩⟩
theorem cj_X19_init : hg_ci_ yX19_init (Cond.code yX19_init cX19_init 3 (none)) 2 := ⟨q824, q111, q825, rfl, ⟨by decide +kernel, by decide +kernel, by decide +kernel⟩⟩
theorem cv_X19_items : hg_cv_ yX19_items (Cond.code yX19_items cX19_items 2 ((some FieldType.int))) RX19 0 := ⟨q841, q842, q111, q843, rfl, ⟨by decide +kernel, by decide +kernel, by decide +kernel⟩⟩
theorem cv_X19_item : hg_cv_ yX19_item (Cond.code yX19_item cX19_item 2 (none)) RX19 0 := ⟨q846, qs6, q111, q847, rfl, ⟨by decide +kernel, by decide +kernel, by decide +kernel⟩⟩
theorem cv_X19_sees : hg_cv_ yX19_sees (Cond.code yX19_sees cX19_sees 2 ((some FieldType.boolean))) RX19 1 := ⟨q850, qs7, q111, q851, rfl, ⟨by decide +kernel, by decide +kernel, by decide +kernel⟩⟩
theorem cv_X19_ends : hg_cv_ yX19_ends (Cond.code yX19_ends cX19_ends 1 ((some FieldType.boolean))) RX19 0 := ⟨q854, qs8, q111, q855, rfl, ⟨by decide +kernel, by decide +kernel, by decide +kernel⟩⟩
theorem cv_X19_wall : hg_cv_ yX19_wall (Cond.code yX19_wall cX19_wall 2 (none)) RX19 0 := ⟨q882, qs9, q111, q883, rfl, ⟨by decide +kernel, by decide +kernel, by decide +kernel⟩⟩
theorem cv_X19_word : hg_cv_ yX19_word (Cond.code yX19_word cX19_word 3 (none)) RX19 1 := ⟨q887, qs10, q111, q888, rfl, ⟨by decide +kernel, by decide +kernel, by decide +kernel⟩⟩
theorem cv_X19_must : hg_cv_ yX19_must (Cond.code yX19_must cX19_must 2 (none)) RX19 1 := ⟨q939, qs11, q111, q940, rfl, ⟨by decide +kernel, by decide +kernel, by decide +kernel⟩⟩
theorem cv_X19_square : hg_cv_ yX19_square (Cond.code yX19_square cX19_square 1 ((some FieldType.int))) RX19 0 := ⟨q962, qs12, q111, q963, rfl, ⟨by decide +kernel, by decide +kernel, by decide +kernel⟩⟩
theorem cv_X19_number : hg_cv_ yX19_number (Cond.code yX19_number cX19_number 5 ((some FieldType.int))) RX19 2 := ⟨q966, qs13, q111, q967, rfl, ⟨by decide +kernel, by decide +kernel, by decide +kernel⟩⟩
theorem cv_X19_digit : hg_cv_ yX19_digit (Cond.code yX19_digit cX19_digit 1 ((some FieldType.boolean))) RX19 0 := ⟨q970, qs14, q111, q971, rfl, ⟨by decide +kernel, by decide +kernel, by decide +kernel⟩⟩
theorem cv_X19_hasRoom : hg_cv_ yX19_hasRoom (Cond.code yX19_hasRoom cX19_hasRoom 3 (none)) RX19 2 := ⟨q975, qs15, q111, q976, rfl, ⟨by decide +kernel, by decide +kernel, by decide +kernel⟩⟩
theorem cv_X19_person : hg_cv_ yX19_person (Cond.code yX19_person cX19_person 8 (none)) RX19 1 := ⟨q983, qs16, q111, q984, rfl, ⟨by decide +kernel, by decide +kernel, by decide +kernel⟩⟩
theorem cj_X20_init : hg_ci_ yX20_init (Cond.code yX20_init cX20_init 2 (none)) 1 := ⟨q951, q115, q952, rfl, ⟨by decide +kernel, by decide +kernel, by decide +kernel⟩⟩
theorem cj_J0_init : hg_ci_ yJ0_init (Cond.code yJ0_init cJ0_init 2 (none)) 1 := ⟨q296, q88, q297, rfl, ⟨by decide +kernel, by decide +kernel, by decide +kernel⟩⟩
theorem cj_J0_init_2 : hg_ci_ yJ0_init_2 (Cond.code yJ0_init_2 cJ0_init_2 1 (none)) 0 := ⟨q352, q88, q353, rfl, ⟨by decide +kernel, by decide +kernel, by decide +kernel⟩⟩
theorem cj_J0_init_3 : hg_ci_ yJ0_init_3 (Cond.code yJ0_init_3 cJ0_init_3 5 (none)) 4 := ⟨q375, q88, q376, rfl, ⟨by decide +kernel, by decide +kernel, by decide +kernel⟩⟩
theorem cj_J1_init : hg_ci_ yJ1_init (Cond.code yJ1_init cJ1_init 2 (none)) 1 := ⟨q293, q89, q294, rfl, ⟨by decide +kernel, by decide +kernel, by decide +kernel⟩⟩
theorem cj_J1_init_2 : hg_ci_ yJ1_init_2 (Cond.code yJ1_init_2 cJ1_init_2 5 (none)) 4 := ⟨q372, q89, q373, rfl, ⟨by decide +kernel, by decide +kernel, by decide +kernel⟩⟩
theorem cj_J2_init : hg_ci_ yJ2_init (Cond.code yJ2_init cJ2_init 2 (none)) 1 := ⟨q290, q90, q291, rfl, ⟨by decide +kernel, by decide +kernel, by decide +kernel⟩⟩
theorem cj_J3_init : hg_ci_ yJ3_init (Cond.code yJ3_init cJ3_init 2 (none)) 1 := ⟨q287, q91, q288, rfl, ⟨by decide +kernel, by decide +kernel, by decide +kernel⟩⟩
theorem cj_J4_init : hg_ci_ yJ4_init (Cond.code yJ4_init cJ4_init 2 (none)) 1 := ⟨q284, q92, q285, rfl, ⟨by decide +kernel, by decide +kernel, by decide +kernel⟩⟩
theorem cv_J5_length : hg_cv_ yJ5_length (Cond.code yJ5_length cJ5_length 1 ((some FieldType.int))) RJ5 0 := ⟨q890, q891, q93, q892, rfl, ⟨by decide +kernel, by decide +kernel, by decide +kernel⟩⟩
theorem cv_J5_coder : hg_cv_ yJ5_coder (Cond.code yJ5_coder cJ5_coder 1 ((some FieldType.byte))) RJ5 0 := ⟨q894, q895, q93, q896, rfl, ⟨by decide +kernel, by decide +kernel, by decide +kernel⟩⟩
theorem cv_J5_charAt : hg_cv_ yJ5_charAt (Cond.code yJ5_charAt cJ5_charAt 2 ((some FieldType.char))) RJ5 1 := ⟨q900, q901, q93, q902, rfl, ⟨by decide +kernel, by decide +kernel, by decide +kernel⟩⟩
theorem cv_J5_isLatin1 : hg_cv_ yJ5_isLatin1 (Cond.code yJ5_isLatin1 cJ5_isLatin1 1 ((some FieldType.boolean))) RJ5 0 := ⟨q904, q905, q93, q906, rfl, ⟨by decide +kernel, by decide +kernel, by decide +kernel⟩⟩
theorem cs_J5_checkIndex : hg_cs_ yJ5_checkIndex (Cond.code yJ5_checkIndex cJ5_checkIndex 2 (none)) 2 := ⟨q911, q93, q912, ⟨by decide +kernel, by decide +kernel, by decide +kernel⟩⟩
theorem cj_J6_init : hg_ci_ yJ6_init (Cond.code yJ6_init cJ6_init 2 (none)) 1 := ⟨q395, q95, q396, rfl, ⟨by decide +kernel, by decide +kernel, by decide +kernel⟩⟩
theorem cj_J7_init : hg_ci_ yJ7_init (Cond.code yJ7_init cJ7_init 2 (none)) 1 := ⟨q466, q101, q467, rfl, ⟨by decide +kernel, by decide +kernel, by decide +kernel⟩⟩
theorem cs_J8_max : hg_cs_ yJ8_max (Cond.code yJ8_max cJ8_max 2 ((some FieldType.int))) 2 := ⟨q618, q103, q619, ⟨by decide +kernel, by decide +kernel, by decide +kernel⟩⟩
theorem cs_J8_abs : hg_cs_ yJ8_abs (Cond.code yJ8_abs cJ8_abs 1 ((some FieldType.int))) 1 := ⟨q1008, q103, q1009, ⟨by decide +kernel, by decide +kernel, by decide +kernel⟩⟩
theorem cs_J8_min : hg_cs_ yJ8_min (Cond.code yJ8_min cJ8_min 2 ((some FieldType.int))) 2 := ⟨q1011, q103, q1012, ⟨by decide +kernel, by decide +kernel, by decide +kernel⟩⟩
theorem cs_J9_charAt : hg_cs_ yJ9_charAt (Cond.code yJ9_charAt cJ9_charAt 2 ((some FieldType.char))) 2 := ⟨q908, q112, q909, ⟨by decide +kernel, by decide +kernel, by decide +kernel⟩⟩
theorem cs_J10_checkIndex : hg_cs_ yJ10_checkIndex (Cond.code yJ10_checkIndex cJ10_checkIndex 3 ((some FieldType.int))) 3 := ⟨q916, q113, q917, ⟨by decide +kernel, by decide +kernel, by decide +kernel⟩⟩
theorem cs_J11_charAt : hg_cs_ yJ11_charAt (Cond.code yJ11_charAt cJ11_charAt 2 ((some FieldType.char))) 2 := ⟨q919, q114, q920, ⟨by decide +kernel, by decide +kernel, by decide +kernel⟩⟩
theorem cs_J11_checkIndex : hg_cs_ yJ11_checkIndex (Cond.code yJ11_checkIndex cJ11_checkIndex 2 (none)) 2 := ⟨q922, q114, q923, ⟨by decide +kernel, by decide +kernel, by decide +kernel⟩⟩
theorem cs_J11_length : hg_cs_ yJ11_length (Cond.code yJ11_length cJ11_length 1 ((some FieldType.int))) 1 := ⟨q925, q114, q926, ⟨by decide +kernel, by decide +kernel, by decide +kernel⟩⟩
theorem cs_J11_getChar : hg_cs_ yJ11_getChar (Cond.code yJ11_getChar cJ11_getChar 2 ((some FieldType.char))) 2 := ⟨q929, q114, q930, ⟨by decide +kernel, by decide +kernel, by decide +kernel⟩⟩
theorem cs_J12_bitCount : hg_cs_ yJ12_bitCount (Cond.code yJ12_bitCount cJ12_bitCount 1 ((some FieldType.int))) 1 := ⟨q1081, q116, q1082, ⟨by decide +kernel, by decide +kernel, by decide +kernel⟩⟩
theorem cs_J13_bitCount : hg_cs_ yJ13_bitCount (Cond.code yJ13_bitCount cJ13_bitCount 2 ((some FieldType.int))) 1 := ⟨q1365, q117, q1366, ⟨by decide +kernel, by decide +kernel, by decide +kernel⟩⟩
