/-! the fixed shape of the two objects, printed by tools/shape.py -/
def twT : List (Nat × Nat × Nat × Nat) := [(2, 474, 101, 10), (3, 475, 100, 10), (4, 476, 101, 10), (5, 477, 100, 10), (6, 478, 100, 10), (7, 479, 100, 10), (8, 480, 101, 10), (9, 481, 100, 10), (10, 482, 101, 100), (18, 483, 100, 6), (19, 484, 100, 6), (20, 485, 100, 6), (21, 486, 100, 60), (22, 487, 101, 60), (23, 488, 100, 60), (24, 489, 101, 60), (25, 490, 100, 60), (27, 491, 100, 500), (28, 492, 100, 500), (29, 493, 100, 500), (30, 494, 101, 300), (31, 495, 100, 300), (32, 496, 100, 30), (33, 497, 100, 10), (34, 498, 100, 640), (35, 499, 100, 10), (36, 500, 100, 11264), (38, 501, 100, 10), (39, 502, 101, 11264), (40, 503, 102, 400), (42, 504, 102, 2400), (43, 505, 100, 6), (44, 506, 100, 6), (45, 507, 102, 400), (60, 508, 100, 121), (61, 509, 100, 121), (64, 510, 100, 7), (65, 511, 100, 7), (66, 512, 100, 7), (67, 513, 100, 49), (68, 514, 100, 7), (69, 515, 100, 7), (75, 516, 100, 6), (76, 517, 100, 6), (77, 518, 101, 10)]
def twS (S : Sh) : Prop := S.1 473 = 1 ∧ (∀ q ∈ twT, S.2.2.1 473 q.1 = some q.2.1 ∧ S.1 q.2.1 = q.2.2.1 ∧ S.2.1 q.2.1 = q.2.2.2)
theorem twR_shares {S : Sh} (h : twS S) : S.2.2.1 473 2 = some 474 := (h.2 (2, 474, 101, 10) (List.mem_of_getElem? (i := 0) rfl)).1
theorem twA_shares {S : Sh} (h : twS S) : S.1 474 = 101 := (h.2 (2, 474, 101, 10) (List.mem_of_getElem? (i := 0) rfl)).2.1
theorem twN_shares {S : Sh} (h : twS S) : S.2.1 474 = 10 := (h.2 (2, 474, 101, 10) (List.mem_of_getElem? (i := 0) rfl)).2.2
theorem twR_sort {S : Sh} (h : twS S) : S.2.2.1 473 3 = some 475 := (h.2 (3, 475, 100, 10) (List.mem_of_getElem? (i := 1) rfl)).1
theorem twA_sort {S : Sh} (h : twS S) : S.1 475 = 100 := (h.2 (3, 475, 100, 10) (List.mem_of_getElem? (i := 1) rfl)).2.1
theorem twN_sort {S : Sh} (h : twS S) : S.2.1 475 = 10 := (h.2 (3, 475, 100, 10) (List.mem_of_getElem? (i := 1) rfl)).2.2
theorem twR_low {S : Sh} (h : twS S) : S.2.2.1 473 4 = some 476 := (h.2 (4, 476, 101, 10) (List.mem_of_getElem? (i := 2) rfl)).1
theorem twA_low {S : Sh} (h : twS S) : S.1 476 = 101 := (h.2 (4, 476, 101, 10) (List.mem_of_getElem? (i := 2) rfl)).2.1
theorem twN_low {S : Sh} (h : twS S) : S.2.1 476 = 10 := (h.2 (4, 476, 101, 10) (List.mem_of_getElem? (i := 2) rfl)).2.2
theorem twR_diet {S : Sh} (h : twS S) : S.2.2.1 473 5 = some 477 := (h.2 (5, 477, 100, 10) (List.mem_of_getElem? (i := 3) rfl)).1
theorem twA_diet {S : Sh} (h : twS S) : S.1 477 = 100 := (h.2 (5, 477, 100, 10) (List.mem_of_getElem? (i := 3) rfl)).2.1
theorem twN_diet {S : Sh} (h : twS S) : S.2.1 477 = 10 := (h.2 (5, 477, 100, 10) (List.mem_of_getElem? (i := 3) rfl)).2.2
theorem twR_from {S : Sh} (h : twS S) : S.2.2.1 473 6 = some 478 := (h.2 (6, 478, 100, 10) (List.mem_of_getElem? (i := 4) rfl)).1
theorem twA_from {S : Sh} (h : twS S) : S.1 478 = 100 := (h.2 (6, 478, 100, 10) (List.mem_of_getElem? (i := 4) rfl)).2.1
theorem twN_from {S : Sh} (h : twS S) : S.2.1 478 = 10 := (h.2 (6, 478, 100, 10) (List.mem_of_getElem? (i := 4) rfl)).2.2
theorem twR_to {S : Sh} (h : twS S) : S.2.2.1 473 7 = some 479 := (h.2 (7, 479, 100, 10) (List.mem_of_getElem? (i := 5) rfl)).1
theorem twA_to {S : Sh} (h : twS S) : S.1 479 = 100 := (h.2 (7, 479, 100, 10) (List.mem_of_getElem? (i := 5) rfl)).2.1
theorem twN_to {S : Sh} (h : twS S) : S.2.1 479 = 10 := (h.2 (7, 479, 100, 10) (List.mem_of_getElem? (i := 5) rfl)).2.2
theorem twR_isGone {S : Sh} (h : twS S) : S.2.2.1 473 8 = some 480 := (h.2 (8, 480, 101, 10) (List.mem_of_getElem? (i := 6) rfl)).1
theorem twA_isGone {S : Sh} (h : twS S) : S.1 480 = 101 := (h.2 (8, 480, 101, 10) (List.mem_of_getElem? (i := 6) rfl)).2.1
theorem twN_isGone {S : Sh} (h : twS S) : S.2.1 480 = 10 := (h.2 (8, 480, 101, 10) (List.mem_of_getElem? (i := 6) rfl)).2.2
theorem twR_friend {S : Sh} (h : twS S) : S.2.2.1 473 9 = some 481 := (h.2 (9, 481, 100, 10) (List.mem_of_getElem? (i := 7) rfl)).1
theorem twA_friend {S : Sh} (h : twS S) : S.1 481 = 100 := (h.2 (9, 481, 100, 10) (List.mem_of_getElem? (i := 7) rfl)).2.1
theorem twN_friend {S : Sh} (h : twS S) : S.2.1 481 = 10 := (h.2 (9, 481, 100, 10) (List.mem_of_getElem? (i := 7) rfl)).2.2
theorem twR_bars {S : Sh} (h : twS S) : S.2.2.1 473 10 = some 482 := (h.2 (10, 482, 101, 100) (List.mem_of_getElem? (i := 8) rfl)).1
theorem twA_bars {S : Sh} (h : twS S) : S.1 482 = 101 := (h.2 (10, 482, 101, 100) (List.mem_of_getElem? (i := 8) rfl)).2.1
theorem twN_bars {S : Sh} (h : twS S) : S.2.1 482 = 100 := (h.2 (10, 482, 101, 100) (List.mem_of_getElem? (i := 8) rfl)).2.2
theorem twR_long0 {S : Sh} (h : twS S) : S.2.2.1 473 18 = some 483 := (h.2 (18, 483, 100, 6) (List.mem_of_getElem? (i := 9) rfl)).1
theorem twA_long0 {S : Sh} (h : twS S) : S.1 483 = 100 := (h.2 (18, 483, 100, 6) (List.mem_of_getElem? (i := 9) rfl)).2.1
theorem twN_long0 {S : Sh} (h : twS S) : S.2.1 483 = 6 := (h.2 (18, 483, 100, 6) (List.mem_of_getElem? (i := 9) rfl)).2.2
theorem twR_first {S : Sh} (h : twS S) : S.2.2.1 473 19 = some 484 := (h.2 (19, 484, 100, 6) (List.mem_of_getElem? (i := 10) rfl)).1
theorem twA_first {S : Sh} (h : twS S) : S.1 484 = 100 := (h.2 (19, 484, 100, 6) (List.mem_of_getElem? (i := 10) rfl)).2.1
theorem twN_first {S : Sh} (h : twS S) : S.2.1 484 = 6 := (h.2 (19, 484, 100, 6) (List.mem_of_getElem? (i := 10) rfl)).2.2
theorem twR_rooms {S : Sh} (h : twS S) : S.2.2.1 473 20 = some 485 := (h.2 (20, 485, 100, 6) (List.mem_of_getElem? (i := 11) rfl)).1
theorem twA_rooms {S : Sh} (h : twS S) : S.1 485 = 100 := (h.2 (20, 485, 100, 6) (List.mem_of_getElem? (i := 11) rfl)).2.1
theorem twN_rooms {S : Sh} (h : twS S) : S.2.1 485 = 6 := (h.2 (20, 485, 100, 6) (List.mem_of_getElem? (i := 11) rfl)).2.2
theorem twR_beds {S : Sh} (h : twS S) : S.2.2.1 473 21 = some 486 := (h.2 (21, 486, 100, 60) (List.mem_of_getElem? (i := 12) rfl)).1
theorem twA_beds {S : Sh} (h : twS S) : S.1 486 = 100 := (h.2 (21, 486, 100, 60) (List.mem_of_getElem? (i := 12) rfl)).2.1
theorem twN_beds {S : Sh} (h : twS S) : S.2.1 486 = 60 := (h.2 (21, 486, 100, 60) (List.mem_of_getElem? (i := 12) rfl)).2.2
theorem twR_lowRoom {S : Sh} (h : twS S) : S.2.2.1 473 22 = some 487 := (h.2 (22, 487, 101, 60) (List.mem_of_getElem? (i := 13) rfl)).1
theorem twA_lowRoom {S : Sh} (h : twS S) : S.1 487 = 101 := (h.2 (22, 487, 101, 60) (List.mem_of_getElem? (i := 13) rfl)).2.1
theorem twN_lowRoom {S : Sh} (h : twS S) : S.2.1 487 = 60 := (h.2 (22, 487, 101, 60) (List.mem_of_getElem? (i := 13) rfl)).2.2
theorem twR_price {S : Sh} (h : twS S) : S.2.2.1 473 23 = some 488 := (h.2 (23, 488, 100, 60) (List.mem_of_getElem? (i := 14) rfl)).1
theorem twA_price {S : Sh} (h : twS S) : S.1 488 = 100 := (h.2 (23, 488, 100, 60) (List.mem_of_getElem? (i := 14) rfl)).2.1
theorem twN_price {S : Sh} (h : twS S) : S.2.1 488 = 60 := (h.2 (23, 488, 100, 60) (List.mem_of_getElem? (i := 14) rfl)).2.2
theorem twR_held {S : Sh} (h : twS S) : S.2.2.1 473 24 = some 489 := (h.2 (24, 489, 101, 60) (List.mem_of_getElem? (i := 15) rfl)).1
theorem twA_held {S : Sh} (h : twS S) : S.1 489 = 101 := (h.2 (24, 489, 101, 60) (List.mem_of_getElem? (i := 15) rfl)).2.1
theorem twN_held {S : Sh} (h : twS S) : S.2.1 489 = 60 := (h.2 (24, 489, 101, 60) (List.mem_of_getElem? (i := 15) rfl)).2.2
theorem twR_list {S : Sh} (h : twS S) : S.2.2.1 473 25 = some 490 := (h.2 (25, 490, 100, 60) (List.mem_of_getElem? (i := 16) rfl)).1
theorem twA_list {S : Sh} (h : twS S) : S.1 490 = 100 := (h.2 (25, 490, 100, 60) (List.mem_of_getElem? (i := 16) rfl)).2.1
theorem twN_list {S : Sh} (h : twS S) : S.2.1 490 = 60 := (h.2 (25, 490, 100, 60) (List.mem_of_getElem? (i := 16) rfl)).2.2
theorem twR_noteDay {S : Sh} (h : twS S) : S.2.2.1 473 27 = some 491 := (h.2 (27, 491, 100, 500) (List.mem_of_getElem? (i := 17) rfl)).1
theorem twA_noteDay {S : Sh} (h : twS S) : S.1 491 = 100 := (h.2 (27, 491, 100, 500) (List.mem_of_getElem? (i := 17) rfl)).2.1
theorem twN_noteDay {S : Sh} (h : twS S) : S.2.1 491 = 500 := (h.2 (27, 491, 100, 500) (List.mem_of_getElem? (i := 17) rfl)).2.2
theorem twR_notePlace {S : Sh} (h : twS S) : S.2.2.1 473 28 = some 492 := (h.2 (28, 492, 100, 500) (List.mem_of_getElem? (i := 18) rfl)).1
theorem twA_notePlace {S : Sh} (h : twS S) : S.1 492 = 100 := (h.2 (28, 492, 100, 500) (List.mem_of_getElem? (i := 18) rfl)).2.1
theorem twN_notePlace {S : Sh} (h : twS S) : S.2.1 492 = 500 := (h.2 (28, 492, 100, 500) (List.mem_of_getElem? (i := 18) rfl)).2.2
theorem twR_noteRoom {S : Sh} (h : twS S) : S.2.2.1 473 29 = some 493 := (h.2 (29, 493, 100, 500) (List.mem_of_getElem? (i := 19) rfl)).1
theorem twA_noteRoom {S : Sh} (h : twS S) : S.1 493 = 100 := (h.2 (29, 493, 100, 500) (List.mem_of_getElem? (i := 19) rfl)).2.1
theorem twN_noteRoom {S : Sh} (h : twS S) : S.2.1 493 = 500 := (h.2 (29, 493, 100, 500) (List.mem_of_getElem? (i := 19) rfl)).2.2
theorem twR_isAbsent {S : Sh} (h : twS S) : S.2.2.1 473 30 = some 494 := (h.2 (30, 494, 101, 300) (List.mem_of_getElem? (i := 20) rfl)).1
theorem twA_isAbsent {S : Sh} (h : twS S) : S.1 494 = 101 := (h.2 (30, 494, 101, 300) (List.mem_of_getElem? (i := 20) rfl)).2.1
theorem twN_isAbsent {S : Sh} (h : twS S) : S.2.1 494 = 300 := (h.2 (30, 494, 101, 300) (List.mem_of_getElem? (i := 20) rfl)).2.2
theorem twR_lay {S : Sh} (h : twS S) : S.2.2.1 473 31 = some 495 := (h.2 (31, 495, 100, 300) (List.mem_of_getElem? (i := 21) rfl)).1
theorem twA_lay {S : Sh} (h : twS S) : S.1 495 = 100 := (h.2 (31, 495, 100, 300) (List.mem_of_getElem? (i := 21) rfl)).2.1
theorem twN_lay {S : Sh} (h : twS S) : S.2.1 495 = 300 := (h.2 (31, 495, 100, 300) (List.mem_of_getElem? (i := 21) rfl)).2.2
theorem twR_bills {S : Sh} (h : twS S) : S.2.2.1 473 32 = some 496 := (h.2 (32, 496, 100, 30) (List.mem_of_getElem? (i := 22) rfl)).1
theorem twA_bills {S : Sh} (h : twS S) : S.1 496 = 100 := (h.2 (32, 496, 100, 30) (List.mem_of_getElem? (i := 22) rfl)).2.1
theorem twN_bills {S : Sh} (h : twS S) : S.2.1 496 = 30 := (h.2 (32, 496, 100, 30) (List.mem_of_getElem? (i := 22) rfl)).2.2
theorem twR_owed {S : Sh} (h : twS S) : S.2.2.1 473 33 = some 497 := (h.2 (33, 497, 100, 10) (List.mem_of_getElem? (i := 23) rfl)).1
theorem twA_owed {S : Sh} (h : twS S) : S.1 497 = 100 := (h.2 (33, 497, 100, 10) (List.mem_of_getElem? (i := 23) rfl)).2.1
theorem twN_owed {S : Sh} (h : twS S) : S.2.1 497 = 10 := (h.2 (33, 497, 100, 10) (List.mem_of_getElem? (i := 23) rfl)).2.2
theorem twR_may {S : Sh} (h : twS S) : S.2.2.1 473 34 = some 498 := (h.2 (34, 498, 100, 640) (List.mem_of_getElem? (i := 24) rfl)).1
theorem twA_may {S : Sh} (h : twS S) : S.1 498 = 100 := (h.2 (34, 498, 100, 640) (List.mem_of_getElem? (i := 24) rfl)).2.1
theorem twN_may {S : Sh} (h : twS S) : S.2.1 498 = 640 := (h.2 (34, 498, 100, 640) (List.mem_of_getElem? (i := 24) rfl)).2.2
theorem twR_mayMany {S : Sh} (h : twS S) : S.2.2.1 473 35 = some 499 := (h.2 (35, 499, 100, 10) (List.mem_of_getElem? (i := 25) rfl)).1
theorem twA_mayMany {S : Sh} (h : twS S) : S.1 499 = 100 := (h.2 (35, 499, 100, 10) (List.mem_of_getElem? (i := 25) rfl)).2.1
theorem twN_mayMany {S : Sh} (h : twS S) : S.2.1 499 = 10 := (h.2 (35, 499, 100, 10) (List.mem_of_getElem? (i := 25) rfl)).2.2
theorem twR_least {S : Sh} (h : twS S) : S.2.2.1 473 36 = some 500 := (h.2 (36, 500, 100, 11264) (List.mem_of_getElem? (i := 26) rfl)).1
theorem twA_least {S : Sh} (h : twS S) : S.1 500 = 100 := (h.2 (36, 500, 100, 11264) (List.mem_of_getElem? (i := 26) rfl)).2.1
theorem twN_least {S : Sh} (h : twS S) : S.2.1 500 = 11264 := (h.2 (36, 500, 100, 11264) (List.mem_of_getElem? (i := 26) rfl)).2.2
theorem twR_fresh {S : Sh} (h : twS S) : S.2.2.1 473 38 = some 501 := (h.2 (38, 501, 100, 10) (List.mem_of_getElem? (i := 27) rfl)).1
theorem twA_fresh {S : Sh} (h : twS S) : S.1 501 = 100 := (h.2 (38, 501, 100, 10) (List.mem_of_getElem? (i := 27) rfl)).2.1
theorem twN_fresh {S : Sh} (h : twS S) : S.2.1 501 = 10 := (h.2 (38, 501, 100, 10) (List.mem_of_getElem? (i := 27) rfl)).2.2
theorem twR_reached {S : Sh} (h : twS S) : S.2.2.1 473 39 = some 502 := (h.2 (39, 502, 101, 11264) (List.mem_of_getElem? (i := 28) rfl)).1
theorem twA_reached {S : Sh} (h : twS S) : S.1 502 = 101 := (h.2 (39, 502, 101, 11264) (List.mem_of_getElem? (i := 28) rfl)).2.1
theorem twN_reached {S : Sh} (h : twS S) : S.2.1 502 = 11264 := (h.2 (39, 502, 101, 11264) (List.mem_of_getElem? (i := 28) rfl)).2.2
theorem twR_tape {S : Sh} (h : twS S) : S.2.2.1 473 40 = some 503 := (h.2 (40, 503, 102, 400) (List.mem_of_getElem? (i := 29) rfl)).1
theorem twA_tape {S : Sh} (h : twS S) : S.1 503 = 102 := (h.2 (40, 503, 102, 400) (List.mem_of_getElem? (i := 29) rfl)).2.1
theorem twN_tape {S : Sh} (h : twS S) : S.2.1 503 = 400 := (h.2 (40, 503, 102, 400) (List.mem_of_getElem? (i := 29) rfl)).2.2
theorem twR_texts {S : Sh} (h : twS S) : S.2.2.1 473 42 = some 504 := (h.2 (42, 504, 102, 2400) (List.mem_of_getElem? (i := 30) rfl)).1
theorem twA_texts {S : Sh} (h : twS S) : S.1 504 = 102 := (h.2 (42, 504, 102, 2400) (List.mem_of_getElem? (i := 30) rfl)).2.1
theorem twN_texts {S : Sh} (h : twS S) : S.2.1 504 = 2400 := (h.2 (42, 504, 102, 2400) (List.mem_of_getElem? (i := 30) rfl)).2.2
theorem twR_textLong {S : Sh} (h : twS S) : S.2.2.1 473 43 = some 505 := (h.2 (43, 505, 100, 6) (List.mem_of_getElem? (i := 31) rfl)).1
theorem twA_textLong {S : Sh} (h : twS S) : S.1 505 = 100 := (h.2 (43, 505, 100, 6) (List.mem_of_getElem? (i := 31) rfl)).2.1
theorem twN_textLong {S : Sh} (h : twS S) : S.2.1 505 = 6 := (h.2 (43, 505, 100, 6) (List.mem_of_getElem? (i := 31) rfl)).2.2
theorem twR_rules {S : Sh} (h : twS S) : S.2.2.1 473 44 = some 506 := (h.2 (44, 506, 100, 6) (List.mem_of_getElem? (i := 32) rfl)).1
theorem twA_rules {S : Sh} (h : twS S) : S.1 506 = 100 := (h.2 (44, 506, 100, 6) (List.mem_of_getElem? (i := 32) rfl)).2.1
theorem twN_rules {S : Sh} (h : twS S) : S.2.1 506 = 6 := (h.2 (44, 506, 100, 6) (List.mem_of_getElem? (i := 32) rfl)).2.2
theorem twR_text {S : Sh} (h : twS S) : S.2.2.1 473 45 = some 507 := (h.2 (45, 507, 102, 400) (List.mem_of_getElem? (i := 33) rfl)).1
theorem twA_text {S : Sh} (h : twS S) : S.1 507 = 102 := (h.2 (45, 507, 102, 400) (List.mem_of_getElem? (i := 33) rfl)).2.1
theorem twN_text {S : Sh} (h : twS S) : S.2.1 507 = 400 := (h.2 (45, 507, 102, 400) (List.mem_of_getElem? (i := 33) rfl)).2.2
theorem twR_loss {S : Sh} (h : twS S) : S.2.2.1 473 60 = some 508 := (h.2 (60, 508, 100, 121) (List.mem_of_getElem? (i := 34) rfl)).1
theorem twA_loss {S : Sh} (h : twS S) : S.1 508 = 100 := (h.2 (60, 508, 100, 121) (List.mem_of_getElem? (i := 34) rfl)).2.1
theorem twN_loss {S : Sh} (h : twS S) : S.2.1 508 = 121 := (h.2 (60, 508, 100, 121) (List.mem_of_getElem? (i := 34) rfl)).2.2
theorem twR_later {S : Sh} (h : twS S) : S.2.2.1 473 61 = some 509 := (h.2 (61, 509, 100, 121) (List.mem_of_getElem? (i := 35) rfl)).1
theorem twA_later {S : Sh} (h : twS S) : S.1 509 = 100 := (h.2 (61, 509, 100, 121) (List.mem_of_getElem? (i := 35) rfl)).2.1
theorem twN_later {S : Sh} (h : twS S) : S.2.1 509 = 121 := (h.2 (61, 509, 100, 121) (List.mem_of_getElem? (i := 35) rfl)).2.2
theorem twR_opens {S : Sh} (h : twS S) : S.2.2.1 473 64 = some 510 := (h.2 (64, 510, 100, 7) (List.mem_of_getElem? (i := 36) rfl)).1
theorem twA_opens {S : Sh} (h : twS S) : S.1 510 = 100 := (h.2 (64, 510, 100, 7) (List.mem_of_getElem? (i := 36) rfl)).2.1
theorem twN_opens {S : Sh} (h : twS S) : S.2.1 510 = 7 := (h.2 (64, 510, 100, 7) (List.mem_of_getElem? (i := 36) rfl)).2.2
theorem twR_shuts {S : Sh} (h : twS S) : S.2.2.1 473 65 = some 511 := (h.2 (65, 511, 100, 7) (List.mem_of_getElem? (i := 37) rfl)).1
theorem twA_shuts {S : Sh} (h : twS S) : S.1 511 = 100 := (h.2 (65, 511, 100, 7) (List.mem_of_getElem? (i := 37) rfl)).2.1
theorem twN_shuts {S : Sh} (h : twS S) : S.2.1 511 = 7 := (h.2 (65, 511, 100, 7) (List.mem_of_getElem? (i := 37) rfl)).2.2
theorem twR_stay {S : Sh} (h : twS S) : S.2.2.1 473 66 = some 512 := (h.2 (66, 512, 100, 7) (List.mem_of_getElem? (i := 38) rfl)).1
theorem twA_stay {S : Sh} (h : twS S) : S.1 512 = 100 := (h.2 (66, 512, 100, 7) (List.mem_of_getElem? (i := 38) rfl)).2.1
theorem twN_stay {S : Sh} (h : twS S) : S.2.1 512 = 7 := (h.2 (66, 512, 100, 7) (List.mem_of_getElem? (i := 38) rfl)).2.2
theorem twR_way {S : Sh} (h : twS S) : S.2.2.1 473 67 = some 513 := (h.2 (67, 513, 100, 49) (List.mem_of_getElem? (i := 39) rfl)).1
theorem twA_way {S : Sh} (h : twS S) : S.1 513 = 100 := (h.2 (67, 513, 100, 49) (List.mem_of_getElem? (i := 39) rfl)).2.1
theorem twN_way {S : Sh} (h : twS S) : S.2.1 513 = 49 := (h.2 (67, 513, 100, 49) (List.mem_of_getElem? (i := 39) rfl)).2.2
theorem twR_gone {S : Sh} (h : twS S) : S.2.2.1 473 68 = some 514 := (h.2 (68, 514, 100, 7) (List.mem_of_getElem? (i := 40) rfl)).1
theorem twA_gone {S : Sh} (h : twS S) : S.1 514 = 100 := (h.2 (68, 514, 100, 7) (List.mem_of_getElem? (i := 40) rfl)).2.1
theorem twN_gone {S : Sh} (h : twS S) : S.2.1 514 = 7 := (h.2 (68, 514, 100, 7) (List.mem_of_getElem? (i := 40) rfl)).2.2
theorem twR_begins {S : Sh} (h : twS S) : S.2.2.1 473 69 = some 515 := (h.2 (69, 515, 100, 7) (List.mem_of_getElem? (i := 41) rfl)).1
theorem twA_begins {S : Sh} (h : twS S) : S.1 515 = 100 := (h.2 (69, 515, 100, 7) (List.mem_of_getElem? (i := 41) rfl)).2.1
theorem twN_begins {S : Sh} (h : twS S) : S.2.1 515 = 7 := (h.2 (69, 515, 100, 7) (List.mem_of_getElem? (i := 41) rfl)).2.2
theorem twR_tripSight {S : Sh} (h : twS S) : S.2.2.1 473 75 = some 516 := (h.2 (75, 516, 100, 6) (List.mem_of_getElem? (i := 42) rfl)).1
theorem twA_tripSight {S : Sh} (h : twS S) : S.1 516 = 100 := (h.2 (75, 516, 100, 6) (List.mem_of_getElem? (i := 42) rfl)).2.1
theorem twN_tripSight {S : Sh} (h : twS S) : S.2.1 516 = 6 := (h.2 (75, 516, 100, 6) (List.mem_of_getElem? (i := 42) rfl)).2.2
theorem twR_tripBegins {S : Sh} (h : twS S) : S.2.2.1 473 76 = some 517 := (h.2 (76, 517, 100, 6) (List.mem_of_getElem? (i := 43) rfl)).1
theorem twA_tripBegins {S : Sh} (h : twS S) : S.1 517 = 100 := (h.2 (76, 517, 100, 6) (List.mem_of_getElem? (i := 43) rfl)).2.1
theorem twN_tripBegins {S : Sh} (h : twS S) : S.2.1 517 = 6 := (h.2 (76, 517, 100, 6) (List.mem_of_getElem? (i := 43) rfl)).2.2
theorem twR_isFree {S : Sh} (h : twS S) : S.2.2.1 473 77 = some 518 := (h.2 (77, 518, 101, 10) (List.mem_of_getElem? (i := 44) rfl)).1
theorem twA_isFree {S : Sh} (h : twS S) : S.1 518 = 101 := (h.2 (77, 518, 101, 10) (List.mem_of_getElem? (i := 44) rfl)).2.1
theorem twN_isFree {S : Sh} (h : twS S) : S.2.1 518 = 10 := (h.2 (77, 518, 101, 10) (List.mem_of_getElem? (i := 44) rfl)).2.2
def coT : List (Nat × Nat × Nat × Nat) := [(0, 1, 104, 10), (1, 2, 105, 6), (12, 3, 100, 500), (13, 4, 100, 500), (14, 5, 100, 500), (15, 6, 100, 500), (16, 7, 102, 400), (18, 8, 2, 0), (19, 9, 109, 30), (20, 40, 108, 30), (21, 71, 100, 30), (22, 72, 110, 11), (23, 84, 100, 10), (24, 85, 111, 31), (26, 458, 100, 7), (27, 459, 100, 7), (28, 460, 100, 7), (29, 461, 108, 7), (31, 469, 100, 6), (32, 470, 100, 6), (33, 471, 100, 6), (34, 472, 100, 6)]
def coS (S : Sh) : Prop := S.1 0 = 0 ∧ (∀ q ∈ coT, S.2.2.1 0 q.1 = some q.2.1 ∧ S.1 q.2.1 = q.2.2.1 ∧ S.2.1 q.2.1 = q.2.2.2) ∧ (∀ i, i < 30 → S.2.2.1 9 i = some (10 + i) ∧ S.1 (10 + i) = 101 ∧ S.2.1 (10 + i) = 10) ∧ (∀ i, i < 30 → S.2.2.1 40 i = some (41 + i) ∧ S.1 (41 + i) = 100 ∧ S.2.1 (41 + i) = 10) ∧ (∀ i, i < 11 → S.2.2.1 72 i = some (73 + i) ∧ S.1 (73 + i) = 103 ∧ S.2.1 (73 + i) = 1024) ∧ (∀ i, i < 31 → S.2.2.1 85 i = some (86 + 12 * i) ∧ S.1 (86 + 12 * i) = 108 ∧ S.2.1 (86 + 12 * i) = 11) ∧ (∀ i j, i < 31 → j < 11 → S.2.2.1 (86 + 12 * i) j = some (87 + 12 * i + j) ∧ S.1 (87 + 12 * i + j) = 100 ∧ S.2.1 (87 + 12 * i + j) = 11) ∧ (∀ i, i < 7 → S.2.2.1 461 i = some (462 + i) ∧ S.1 (462 + i) = 100 ∧ S.2.1 (462 + i) = 7)
theorem coR_people {S : Sh} (h : coS S) : S.2.2.1 0 0 = some 1 := (h.2.1 (0, 1, 104, 10) (List.mem_of_getElem? (i := 0) rfl)).1
theorem coA_people {S : Sh} (h : coS S) : S.1 1 = 104 := (h.2.1 (0, 1, 104, 10) (List.mem_of_getElem? (i := 0) rfl)).2.1
theorem coN_people {S : Sh} (h : coS S) : S.2.1 1 = 10 := (h.2.1 (0, 1, 104, 10) (List.mem_of_getElem? (i := 0) rfl)).2.2
theorem coR_towns {S : Sh} (h : coS S) : S.2.2.1 0 1 = some 2 := (h.2.1 (1, 2, 105, 6) (List.mem_of_getElem? (i := 1) rfl)).1
theorem coA_towns {S : Sh} (h : coS S) : S.1 2 = 105 := (h.2.1 (1, 2, 105, 6) (List.mem_of_getElem? (i := 1) rfl)).2.1
theorem coN_towns {S : Sh} (h : coS S) : S.2.1 2 = 6 := (h.2.1 (1, 2, 105, 6) (List.mem_of_getElem? (i := 1) rfl)).2.2
theorem coR_noteTown {S : Sh} (h : coS S) : S.2.2.1 0 12 = some 3 := (h.2.1 (12, 3, 100, 500) (List.mem_of_getElem? (i := 2) rfl)).1
theorem coA_noteTown {S : Sh} (h : coS S) : S.1 3 = 100 := (h.2.1 (12, 3, 100, 500) (List.mem_of_getElem? (i := 2) rfl)).2.1
theorem coN_noteTown {S : Sh} (h : coS S) : S.2.1 3 = 500 := (h.2.1 (12, 3, 100, 500) (List.mem_of_getElem? (i := 2) rfl)).2.2
theorem coR_notePerson {S : Sh} (h : coS S) : S.2.2.1 0 13 = some 4 := (h.2.1 (13, 4, 100, 500) (List.mem_of_getElem? (i := 3) rfl)).1
theorem coA_notePerson {S : Sh} (h : coS S) : S.1 4 = 100 := (h.2.1 (13, 4, 100, 500) (List.mem_of_getElem? (i := 3) rfl)).2.1
theorem coN_notePerson {S : Sh} (h : coS S) : S.2.1 4 = 500 := (h.2.1 (13, 4, 100, 500) (List.mem_of_getElem? (i := 3) rfl)).2.2
theorem coR_noteRoom {S : Sh} (h : coS S) : S.2.2.1 0 14 = some 5 := (h.2.1 (14, 5, 100, 500) (List.mem_of_getElem? (i := 4) rfl)).1
theorem coA_noteRoom {S : Sh} (h : coS S) : S.1 5 = 100 := (h.2.1 (14, 5, 100, 500) (List.mem_of_getElem? (i := 4) rfl)).2.1
theorem coN_noteRoom {S : Sh} (h : coS S) : S.2.1 5 = 500 := (h.2.1 (14, 5, 100, 500) (List.mem_of_getElem? (i := 4) rfl)).2.2
theorem coR_noteDay {S : Sh} (h : coS S) : S.2.2.1 0 15 = some 6 := (h.2.1 (15, 6, 100, 500) (List.mem_of_getElem? (i := 5) rfl)).1
theorem coA_noteDay {S : Sh} (h : coS S) : S.1 6 = 100 := (h.2.1 (15, 6, 100, 500) (List.mem_of_getElem? (i := 5) rfl)).2.1
theorem coN_noteDay {S : Sh} (h : coS S) : S.2.1 6 = 500 := (h.2.1 (15, 6, 100, 500) (List.mem_of_getElem? (i := 5) rfl)).2.2
theorem coR_tape {S : Sh} (h : coS S) : S.2.2.1 0 16 = some 7 := (h.2.1 (16, 7, 102, 400) (List.mem_of_getElem? (i := 6) rfl)).1
theorem coA_tape {S : Sh} (h : coS S) : S.1 7 = 102 := (h.2.1 (16, 7, 102, 400) (List.mem_of_getElem? (i := 6) rfl)).2.1
theorem coN_tape {S : Sh} (h : coS S) : S.2.1 7 = 400 := (h.2.1 (16, 7, 102, 400) (List.mem_of_getElem? (i := 6) rfl)).2.2
theorem coR_state {S : Sh} (h : coS S) : S.2.2.1 0 18 = some 8 := (h.2.1 (18, 8, 2, 0) (List.mem_of_getElem? (i := 7) rfl)).1
theorem coA_state {S : Sh} (h : coS S) : S.1 8 = 2 := (h.2.1 (18, 8, 2, 0) (List.mem_of_getElem? (i := 7) rfl)).2.1
theorem coR_absent {S : Sh} (h : coS S) : S.2.2.1 0 19 = some 9 := (h.2.1 (19, 9, 109, 30) (List.mem_of_getElem? (i := 8) rfl)).1
theorem coA_absent {S : Sh} (h : coS S) : S.1 9 = 109 := (h.2.1 (19, 9, 109, 30) (List.mem_of_getElem? (i := 8) rfl)).2.1
theorem coN_absent {S : Sh} (h : coS S) : S.2.1 9 = 30 := (h.2.1 (19, 9, 109, 30) (List.mem_of_getElem? (i := 8) rfl)).2.2
theorem coR_lay {S : Sh} (h : coS S) : S.2.2.1 0 20 = some 40 := (h.2.1 (20, 40, 108, 30) (List.mem_of_getElem? (i := 9) rfl)).1
theorem coA_lay {S : Sh} (h : coS S) : S.1 40 = 108 := (h.2.1 (20, 40, 108, 30) (List.mem_of_getElem? (i := 9) rfl)).2.1
theorem coN_lay {S : Sh} (h : coS S) : S.2.1 40 = 30 := (h.2.1 (20, 40, 108, 30) (List.mem_of_getElem? (i := 9) rfl)).2.2
theorem coR_bills {S : Sh} (h : coS S) : S.2.2.1 0 21 = some 71 := (h.2.1 (21, 71, 100, 30) (List.mem_of_getElem? (i := 10) rfl)).1
theorem coA_bills {S : Sh} (h : coS S) : S.1 71 = 100 := (h.2.1 (21, 71, 100, 30) (List.mem_of_getElem? (i := 10) rfl)).2.1
theorem coN_bills {S : Sh} (h : coS S) : S.2.1 71 = 30 := (h.2.1 (21, 71, 100, 30) (List.mem_of_getElem? (i := 10) rfl)).2.2
theorem coR_worths {S : Sh} (h : coS S) : S.2.2.1 0 22 = some 72 := (h.2.1 (22, 72, 110, 11) (List.mem_of_getElem? (i := 11) rfl)).1
theorem coA_worths {S : Sh} (h : coS S) : S.1 72 = 110 := (h.2.1 (22, 72, 110, 11) (List.mem_of_getElem? (i := 11) rfl)).2.1
theorem coN_worths {S : Sh} (h : coS S) : S.2.1 72 = 11 := (h.2.1 (22, 72, 110, 11) (List.mem_of_getElem? (i := 11) rfl)).2.2
theorem coR_fresh {S : Sh} (h : coS S) : S.2.2.1 0 23 = some 84 := (h.2.1 (23, 84, 100, 10) (List.mem_of_getElem? (i := 12) rfl)).1
theorem coA_fresh {S : Sh} (h : coS S) : S.1 84 = 100 := (h.2.1 (23, 84, 100, 10) (List.mem_of_getElem? (i := 12) rfl)).2.1
theorem coN_fresh {S : Sh} (h : coS S) : S.2.1 84 = 10 := (h.2.1 (23, 84, 100, 10) (List.mem_of_getElem? (i := 12) rfl)).2.2
theorem coR_losses {S : Sh} (h : coS S) : S.2.2.1 0 24 = some 85 := (h.2.1 (24, 85, 111, 31) (List.mem_of_getElem? (i := 13) rfl)).1
theorem coA_losses {S : Sh} (h : coS S) : S.1 85 = 111 := (h.2.1 (24, 85, 111, 31) (List.mem_of_getElem? (i := 13) rfl)).2.1
theorem coN_losses {S : Sh} (h : coS S) : S.2.1 85 = 31 := (h.2.1 (24, 85, 111, 31) (List.mem_of_getElem? (i := 13) rfl)).2.2
theorem coR_opens {S : Sh} (h : coS S) : S.2.2.1 0 26 = some 458 := (h.2.1 (26, 458, 100, 7) (List.mem_of_getElem? (i := 14) rfl)).1
theorem coA_opens {S : Sh} (h : coS S) : S.1 458 = 100 := (h.2.1 (26, 458, 100, 7) (List.mem_of_getElem? (i := 14) rfl)).2.1
theorem coN_opens {S : Sh} (h : coS S) : S.2.1 458 = 7 := (h.2.1 (26, 458, 100, 7) (List.mem_of_getElem? (i := 14) rfl)).2.2
theorem coR_shuts {S : Sh} (h : coS S) : S.2.2.1 0 27 = some 459 := (h.2.1 (27, 459, 100, 7) (List.mem_of_getElem? (i := 15) rfl)).1
theorem coA_shuts {S : Sh} (h : coS S) : S.1 459 = 100 := (h.2.1 (27, 459, 100, 7) (List.mem_of_getElem? (i := 15) rfl)).2.1
theorem coN_shuts {S : Sh} (h : coS S) : S.2.1 459 = 7 := (h.2.1 (27, 459, 100, 7) (List.mem_of_getElem? (i := 15) rfl)).2.2
theorem coR_stays {S : Sh} (h : coS S) : S.2.2.1 0 28 = some 460 := (h.2.1 (28, 460, 100, 7) (List.mem_of_getElem? (i := 16) rfl)).1
theorem coA_stays {S : Sh} (h : coS S) : S.1 460 = 100 := (h.2.1 (28, 460, 100, 7) (List.mem_of_getElem? (i := 16) rfl)).2.1
theorem coN_stays {S : Sh} (h : coS S) : S.2.1 460 = 7 := (h.2.1 (28, 460, 100, 7) (List.mem_of_getElem? (i := 16) rfl)).2.2
theorem coR_ways {S : Sh} (h : coS S) : S.2.2.1 0 29 = some 461 := (h.2.1 (29, 461, 108, 7) (List.mem_of_getElem? (i := 17) rfl)).1
theorem coA_ways {S : Sh} (h : coS S) : S.1 461 = 108 := (h.2.1 (29, 461, 108, 7) (List.mem_of_getElem? (i := 17) rfl)).2.1
theorem coN_ways {S : Sh} (h : coS S) : S.2.1 461 = 7 := (h.2.1 (29, 461, 108, 7) (List.mem_of_getElem? (i := 17) rfl)).2.2
theorem coR_tried {S : Sh} (h : coS S) : S.2.2.1 0 31 = some 469 := (h.2.1 (31, 469, 100, 6) (List.mem_of_getElem? (i := 18) rfl)).1
theorem coA_tried {S : Sh} (h : coS S) : S.1 469 = 100 := (h.2.1 (31, 469, 100, 6) (List.mem_of_getElem? (i := 18) rfl)).2.1
theorem coN_tried {S : Sh} (h : coS S) : S.2.1 469 = 6 := (h.2.1 (31, 469, 100, 6) (List.mem_of_getElem? (i := 18) rfl)).2.2
theorem coR_begun {S : Sh} (h : coS S) : S.2.2.1 0 32 = some 470 := (h.2.1 (32, 470, 100, 6) (List.mem_of_getElem? (i := 19) rfl)).1
theorem coA_begun {S : Sh} (h : coS S) : S.1 470 = 100 := (h.2.1 (32, 470, 100, 6) (List.mem_of_getElem? (i := 19) rfl)).2.1
theorem coN_begun {S : Sh} (h : coS S) : S.2.1 470 = 6 := (h.2.1 (32, 470, 100, 6) (List.mem_of_getElem? (i := 19) rfl)).2.2
theorem coR_bestSights {S : Sh} (h : coS S) : S.2.2.1 0 33 = some 471 := (h.2.1 (33, 471, 100, 6) (List.mem_of_getElem? (i := 20) rfl)).1
theorem coA_bestSights {S : Sh} (h : coS S) : S.1 471 = 100 := (h.2.1 (33, 471, 100, 6) (List.mem_of_getElem? (i := 20) rfl)).2.1
theorem coN_bestSights {S : Sh} (h : coS S) : S.2.1 471 = 6 := (h.2.1 (33, 471, 100, 6) (List.mem_of_getElem? (i := 20) rfl)).2.2
theorem coR_bestBegun {S : Sh} (h : coS S) : S.2.2.1 0 34 = some 472 := (h.2.1 (34, 472, 100, 6) (List.mem_of_getElem? (i := 21) rfl)).1
theorem coA_bestBegun {S : Sh} (h : coS S) : S.1 472 = 100 := (h.2.1 (34, 472, 100, 6) (List.mem_of_getElem? (i := 21) rfl)).2.1
theorem coN_bestBegun {S : Sh} (h : coS S) : S.2.1 472 = 6 := (h.2.1 (34, 472, 100, 6) (List.mem_of_getElem? (i := 21) rfl)).2.2
abbrev Qe (v : Option Value) (S : Sh) (I : Mi) (J : Ml) : Option Value → Sh → Mi → Ml → Prop := fun r S' I' J' => r = v ∧ S = S' ∧ I = I' ∧ J = J' 
theorem nI_inc (k : Nat) : nI k + Int32.ofInt 1 = nI (k + 1) := nI_1 k
section Rows3
variable {w : Wd} {κ : Cx} {Z : State → Prop} {y : MethodName} {cc : ByteArray} {nL d mc ms : Nat} {rt : Option FieldType} {cs sl pc n : Nat} {L L' : List (Option Value)} {sk : List Value} {S : Sh} {I : Mi} {J : Ml}
theorem x_ifeqN (C : Cok w y cc nL rt d mc ms κ) {a : Nat} {z : Int} (hd : decode cc pc = .ok (.ifCond .eq z, 3)) (n tgt : Nat) (hn : pc + 3 = n) (ht : (pc : Int) + z = (tgt : Int)) (ha : a < 2 ^ 31) (kt : a = 0 → XX w κ Z cs sl tgt L sk S I J) (kf : ¬ a = 0 → XX w κ Z cs sl n L sk S I J) : XX w κ Z cs sl pc L (.int (nI a) :: sk) S I J := by
  exact x_ifeq C hd n tgt hn ht (fun h => kt ((nI_eq ha (b := 0) (by decide)).mp h)) (fun h => kf (fun q => h (by rw [q]; rfl)))
theorem x_ifneN (C : Cok w y cc nL rt d mc ms κ) {a : Nat} {z : Int} (hd : decode cc pc = .ok (.ifCond .ne z, 3)) (n tgt : Nat) (hn : pc + 3 = n) (ht : (pc : Int) + z = (tgt : Int)) (ha : a < 2 ^ 31) (kt : ¬ a = 0 → XX w κ Z cs sl tgt L sk S I J) (kf : a = 0 → XX w κ Z cs sl n L sk S I J) : XX w κ Z cs sl pc L (.int (nI a) :: sk) S I J := by
  exact x_ifne C hd n tgt hn ht (fun h => kt (fun q => h (by rw [q]; rfl))) (fun h => kf ((nI_eq ha (b := 0) (by decide)).mp h))
theorem x_ifgtN (C : Cok w y cc nL rt d mc ms κ) {a : Nat} {z : Int} (hd : decode cc pc = .ok (.ifCond .gt z, 3)) (n tgt : Nat) (hn : pc + 3 = n) (ht : (pc : Int) + z = (tgt : Int)) (ha : a < 2 ^ 31) (kt : 0 < a → XX w κ Z cs sl tgt L sk S I J) (kf : a = 0 → XX w κ Z cs sl n L sk S I J) : XX w κ Z cs sl pc L (.int (nI a) :: sk) S I J := by
  exact x_ifgt C hd n tgt hn ht (fun h => kt ((nI_ltI (a := 0) (by decide) ha).mp h)) (fun h => kf (by have := Nat.not_lt.mp (fun q => h ((nI_ltI (a := 0) (by decide) ha).mpr q)); omega))
theorem x_ifleN (C : Cok w y cc nL rt d mc ms κ) {a : Nat} {z : Int} (hd : decode cc pc = .ok (.ifCond .le z, 3)) (n tgt : Nat) (hn : pc + 3 = n) (ht : (pc : Int) + z = (tgt : Int)) (ha : a < 2 ^ 31) (kt : a = 0 → XX w κ Z cs sl tgt L sk S I J) (kf : 0 < a → XX w κ Z cs sl n L sk S I J) : XX w κ Z cs sl pc L (.int (nI a) :: sk) S I J := by
  exact x_ifle C hd n tgt hn ht (fun h => kt (by have := Nat.not_lt.mp (fun q => h ((nI_ltI (a := 0) (by decide) ha).mpr q)); omega)) (fun h => kf ((nI_ltI (a := 0) (by decide) ha).mp h))
end Rows3
