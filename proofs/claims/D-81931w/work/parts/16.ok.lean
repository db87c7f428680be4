/-! what the tables say of every method, for its calls. Printed by mkok.py. -/
-- no selects for X0_init
theorem ok_X0_place : la_Vok yX0_place cX0_place 1 (some .int) 0 := ⟨q235, q236, q41, q237, by decide +kernel⟩
theorem ok_X0_measure : la_Vok yX0_measure cX0_measure 4 none 0 := ⟨q240, qs0, q41, q241, by decide +kernel⟩
theorem ok_X0_road : la_Vok yX0_road cX0_road 5 (some .int) 3 := ⟨q247, q248, q41, q249, by decide +kernel⟩
theorem ok_X0_against : la_Vok yX0_against cX0_against 4 (some .int) 3 := ⟨q252, qs1, q41, q253, by decide +kernel⟩
theorem ok_X0_isPlace : la_Vok yX0_isPlace cX0_isPlace 2 (some .boolean) 1 := ⟨q256, qs2, q41, q257, by decide +kernel⟩
theorem ok_X0_in : la_Sok yX0_in cX0_in 3 (some .boolean) 3 := ⟨q259, q41, q260, by decide +kernel⟩
theorem ok_X0_apart : la_Vok yX0_apart cX0_apart 3 (some .int) 2 := ⟨q262, q263, q41, q264, by decide +kernel⟩
theorem ok_X0_distance : la_Vok yX0_distance cX0_distance 3 (some .int) 2 := ⟨q267, qs3, q41, q268, by decide +kernel⟩
theorem ok_X0_way : la_Vok yX0_way cX0_way 6 (some .int) 2 := ⟨q270, q271, q41, q272, by decide +kernel⟩
theorem ok_X0_begin : la_Vok yX0_begin cX0_begin 5 (some .int) 2 := ⟨q274, q275, q41, q276, by decide +kernel⟩
theorem ok_X0_isStand : la_Vok yX0_isStand cX0_isStand 4 (some .boolean) 1 := ⟨q279, qs4, q41, q280, by decide +kernel⟩
theorem ok_X0_at : la_Sok yX0_at cX0_at 2 (some .int) 2 := ⟨q282, q41, q283, by decide +kernel⟩
theorem ok_X0_areTorn : la_Vok yX0_areTorn cX0_areTorn 3 (some .boolean) 0 := ⟨q286, qs5, q41, q287, by decide +kernel⟩
theorem ok_X0_forget : la_Vok yX0_forget cX0_forget 3 none 1 := ⟨q290, qs6, q41, q291, by decide +kernel⟩
theorem ok_X0_end : la_Vok yX0_end cX0_end 2 (some .int) 0 := ⟨q293, q294, q41, q295, by decide +kernel⟩
theorem ok_X0_rule : la_Vok yX0_rule cX0_rule 3 (some .int) 1 := ⟨q297, q298, q41, q299, by decide +kernel⟩
theorem ok_X0_call : la_Vok yX0_call cX0_call 3 (some .int) 1 := ⟨q315, q316, q41, q317, by decide +kernel⟩
theorem ok_X0_againstCall : la_Vok yX0_againstCall cX0_againstCall 2 (some .int) 1 := ⟨q320, qs7, q41, q321, by decide +kernel⟩
theorem ok_X0_serve : la_Vok yX0_serve cX0_serve 6 (some .int) 1 := ⟨q324, qs8, q41, q325, by decide +kernel⟩
theorem ok_X0_workOf : la_Vok yX0_workOf cX0_workOf 6 (some (.array .int)) 1 := ⟨q374, qs9, q41, q375, by decide +kernel⟩
theorem ok_X0_standMany : la_Vok yX0_standMany cX0_standMany 1 (some .int) 0 := ⟨q378, qs10, q41, q379, by decide +kernel⟩
theorem ok_X0_movesOf : la_Vok yX0_movesOf cX0_movesOf 7 (some .int) 4 := ⟨q382, qs11, q41, q383, by decide +kernel⟩
theorem ok_X0_moved : la_Sok yX0_moved cX0_moved 3 (some .int) 3 := ⟨q385, q41, q386, by decide +kernel⟩
theorem ok_X0_back : la_Vok yX0_back cX0_back 2 (some .int) 0 := ⟨q426, q427, q41, q428, by decide +kernel⟩
theorem ok_X0_cruel : la_Vok yX0_cruel cX0_cruel 3 (some .int) 0 := ⟨q430, q431, q41, q432, by decide +kernel⟩
theorem ok_X0_ask : la_Vok yX0_ask cX0_ask 2 (some .int) 1 := ⟨q434, q435, q41, q436, by decide +kernel⟩
theorem ok_X0_askBehindAll : la_Vok yX0_askBehindAll cX0_askBehindAll 10 (some .int) 1 := ⟨q440, qs12, q41, q441, by decide +kernel⟩
theorem ok_X0_stand : la_Vok yX0_stand cX0_stand 1 (some .int) 0 := ⟨q446, q447, q41, q448, by decide +kernel⟩
theorem ok_X0_told : la_Vok yX0_told cX0_told 3 (some .int) 2 := ⟨q450, q451, q41, q452, by decide +kernel⟩
theorem ok_X0_cost : la_Vok yX0_cost cX0_cost 2 (some .int) 1 := ⟨q454, q455, q41, q456, by decide +kernel⟩
theorem ok_X0_costNow : la_Vok yX0_costNow cX0_costNow 3 (some .int) 0 := ⟨q459, qs13, q41, q460, by decide +kernel⟩
theorem ok_X0_moves : la_Vok yX0_moves cX0_moves 3 (some .int) 2 := ⟨q462, q463, q41, q464, by decide +kernel⟩
theorem ok_X0_work : la_Vok yX0_work cX0_work 3 (some .int) 2 := ⟨q466, q467, q41, q468, by decide +kernel⟩
theorem ok_X0_least : la_Vok yX0_least cX0_least 2 (some .int) 1 := ⟨q470, q471, q41, q472, by decide +kernel⟩
theorem ok_X0_leastOf : la_Vok yX0_leastOf cX0_leastOf 5 (some .int) 1 := ⟨q475, qs14, q41, q476, by decide +kernel⟩
theorem ok_X0_plan : la_Vok yX0_plan cX0_plan 7 (some .int) 2 := ⟨q478, q479, q41, q480, by decide +kernel⟩
theorem ok_X0_findRest : la_Vok yX0_findRest cX0_findRest 7 none 1 := ⟨q483, qs15, q41, q484, by decide +kernel⟩
theorem ok_X0_ratio : la_Vok yX0_ratio cX0_ratio 2 (some .int) 0 := ⟨q486, q487, q41, q488, by decide +kernel⟩
theorem ok_X0_worst : la_Vok yX0_worst cX0_worst 14 (some .int) 2 := ⟨q490, q491, q41, q492, by decide +kernel⟩
theorem ok_X0_keep : la_Vok yX0_keep cX0_keep 2 none 1 := ⟨q495, qs16, q41, q496, by decide +kernel⟩
-- no plain code for X0_book
theorem ok_X0_isBook : la_Sok yX0_isBook cX0_isBook 1 (some .boolean) 1 := ⟨q588, q41, q589, by decide +kernel⟩
theorem ok_X0_refused : la_Vok yX0_refused cX0_refused 2 (some .int) 1 := ⟨q592, qs19, q41, q593, by decide +kernel⟩
theorem ok_X0_bookOf : la_Sok yX0_bookOf cX0_bookOf 2 (some (.object "LadderCalls$Book")) 2 := ⟨q595, q41, q596, by decide +kernel⟩
theorem ok_X0_says : la_Vok yX0_says cX0_says 2 (some .int) 1 := ⟨q653, qs20, q41, q654, by decide +kernel⟩
-- no plain code for X0_row
-- no plain code for X0_put
theorem ok_X0_putIn : la_Sok yX0_putIn cX0_putIn 10 none 5 := ⟨q739, q41, q740, by decide +kernel⟩
-- no plain code for X0_item
theorem ok_X0_itemOf : la_Sok yX0_itemOf cX0_itemOf 4 (some .long) 4 := ⟨q746, q41, q747, by decide +kernel⟩
-- no plain code for X0_roads
theorem ok_X0_roadFrom : la_Vok yX0_roadFrom cX0_roadFrom 10 (some .int) 2 := ⟨q769, qs21, q41, q770, by decide +kernel⟩
theorem ok_X0_isInt : la_Sok yX0_isInt cX0_isInt 2 (some .boolean) 1 := ⟨q787, q41, q788, by decide +kernel⟩
-- no plain code for X0_calls
theorem ok_X0_about : la_Vok yX0_about cX0_about 2 (some .int) 1 := ⟨q810, q811, q41, q812, by decide +kernel⟩
theorem ok_X0_trace : la_Vok yX0_trace cX0_trace 1 (some .long) 0 := ⟨q814, q815, q41, q816, by decide +kernel⟩
theorem ok_X0_status : la_Vok yX0_status cX0_status 1 (some .int) 0 := ⟨q818, q819, q41, q820, by decide +kernel⟩
-- no selects for X1_init
theorem ok_X1_kind : la_Vok yX1_kind cX1_kind 1 (some .int) 0 := ⟨q301, q302, q42, q313, by decide +kernel⟩
theorem ok_X1_nearest : la_Vok yX1_nearest cX1_nearest 2 (some .int) 1 := ⟨q346, q1134, q42, q347, by decide +kernel⟩
theorem ok_X1_least : la_Vok yX1_least cX1_least 7 (some .int) 2 := ⟨q349, q350, q42, q355, by decide +kernel⟩
theorem ok_X1_sends : la_Vok yX1_sends cX1_sends 2 (some .int) 1 := ⟨q364, q1138, q42, q365, by decide +kernel⟩
theorem ok_X1_went : la_Vok yX1_went cX1_went 3 none 2 := ⟨q416, q417, q42, q424, by decide +kernel⟩
-- no selects for X10_init
-- no selects for X10_make
-- no selects for X10_rows
-- no selects for X10_get
-- no selects for X10_size
-- no selects for X2_init
-- no selects for X2_kind
-- no selects for X2_sends
-- no selects for X3_init
-- no selects for X3_kind
-- no selects for X3_sends
-- no selects for X3_went
-- no selects for X4_init
-- no selects for X4_kind
-- no selects for X4_sends
-- no selects for X5_init
theorem ok_X5_place : la_Vok yX5_place cX5_place 1 (some .int) 0 := ⟨q926, q927, q46, q928, by decide +kernel⟩
theorem ok_X5_road : la_Vok yX5_road cX5_road 4 (some .int) 3 := ⟨q930, q931, q46, q932, by decide +kernel⟩
theorem ok_X5_addRoad : la_Vok yX5_addRoad cX5_addRoad 7 (some .int) 3 := ⟨q935, qs22, q46, q936, by decide +kernel⟩
theorem ok_X5_in : la_Sok yX5_in cX5_in 6 (some .boolean) 3 := ⟨q938, q46, q939, by decide +kernel⟩
theorem ok_X5_apart : la_Vok yX5_apart cX5_apart 3 (some .int) 2 := ⟨q942, q943, q46, q944, by decide +kernel⟩
theorem ok_X5_isPlace : la_Vok yX5_isPlace cX5_isPlace 2 (some .boolean) 1 := ⟨q947, qs23, q46, q948, by decide +kernel⟩
theorem ok_X5_measures : la_Vok yX5_measures cX5_measures 5 none 0 := ⟨q951, qs24, q46, q952, by decide +kernel⟩
theorem ok_X5_way : la_Vok yX5_way cX5_way 9 (some .int) 2 := ⟨q955, q956, q46, q957, by decide +kernel⟩
theorem ok_X5_begin : la_Vok yX5_begin cX5_begin 4 (some .int) 2 := ⟨q959, q960, q46, q961, by decide +kernel⟩
theorem ok_X5_isStand : la_Vok yX5_isStand cX5_isStand 5 (some .boolean) 2 := ⟨q965, qs25, q46, q966, by decide +kernel⟩
theorem ok_X5_isTorn : la_Vok yX5_isTorn cX5_isTorn 4 (some .boolean) 0 := ⟨q969, qs26, q46, q970, by decide +kernel⟩
theorem ok_X5_starts : la_Vok yX5_starts cX5_starts 3 none 1 := ⟨q973, qs27, q46, q974, by decide +kernel⟩
theorem ok_X5_end : la_Vok yX5_end cX5_end 2 (some .int) 0 := ⟨q976, q977, q46, q978, by decide +kernel⟩
theorem ok_X5_rule : la_Vok yX5_rule cX5_rule 3 (some .int) 1 := ⟨q980, q981, q46, q982, by decide +kernel⟩
theorem ok_X5_call : la_Vok yX5_call cX5_call 2 (some .int) 1 := ⟨q984, q985, q46, q986, by decide +kernel⟩
theorem ok_X5_comes : la_Vok yX5_comes cX5_comes 3 (some .int) 1 := ⟨q989, qs28, q46, q990, by decide +kernel⟩
theorem ok_X5_chosen : la_Vok yX5_chosen cX5_chosen 13 (some .int) 6 := ⟨q993, qs29, q46, q994, by decide +kernel⟩
theorem ok_X5_isThere : la_Vok yX5_isThere cX5_isThere 5 (some .boolean) 2 := ⟨q997, qs30, q46, q998, by decide +kernel⟩
theorem ok_X5_nearest : la_Vok yX5_nearest cX5_nearest 5 (some .int) 2 := ⟨q1001, qs31, q46, q1002, by decide +kernel⟩
theorem ok_X5_evenOf : la_Vok yX5_evenOf cX5_evenOf 6 (some .int) 3 := ⟨q1005, qs32, q46, q1006, by decide +kernel⟩
theorem ok_X5_serves : la_Vok yX5_serves cX5_serves 8 none 3 := ⟨q1011, qs33, q46, q1012, by decide +kernel⟩
theorem ok_X5_moved : la_Sok yX5_moved cX5_moved 3 (some .int) 3 := ⟨q1014, q46, q1015, by decide +kernel⟩
theorem ok_X5_workOf : la_Vok yX5_workOf cX5_workOf 7 (some .int) 3 := ⟨q1018, qs34, q46, q1019, by decide +kernel⟩
theorem ok_X5_movesOf : la_Vok yX5_movesOf cX5_movesOf 7 (some .int) 2 := ⟨q1022, qs35, q46, q1023, by decide +kernel⟩
theorem ok_X5_farOf : la_Vok yX5_farOf cX5_farOf 5 (some .int) 4 := ⟨q1026, qs36, q46, q1027, by decide +kernel⟩
theorem ok_X5_back : la_Vok yX5_back cX5_back 2 (some .int) 0 := ⟨q1029, q1030, q46, q1031, by decide +kernel⟩
theorem ok_X5_cruel : la_Vok yX5_cruel cX5_cruel 3 (some .int) 0 := ⟨q1033, q1034, q46, q1035, by decide +kernel⟩
theorem ok_X5_ask : la_Vok yX5_ask cX5_ask 3 (some .int) 1 := ⟨q1037, q1038, q46, q1039, by decide +kernel⟩
theorem ok_X5_stand : la_Vok yX5_stand cX5_stand 3 (some .int) 0 := ⟨q1041, q1042, q46, q1043, by decide +kernel⟩
theorem ok_X5_told : la_Vok yX5_told cX5_told 3 (some .int) 2 := ⟨q1045, q1046, q46, q1047, by decide +kernel⟩
theorem ok_X5_cost : la_Vok yX5_cost cX5_cost 2 (some .int) 1 := ⟨q1049, q1050, q46, q1051, by decide +kernel⟩
theorem ok_X5_costOf : la_Vok yX5_costOf cX5_costOf 3 (some .int) 0 := ⟨q1054, qs37, q46, q1055, by decide +kernel⟩
theorem ok_X5_moves : la_Vok yX5_moves cX5_moves 3 (some .int) 2 := ⟨q1057, q1058, q46, q1059, by decide +kernel⟩
theorem ok_X5_work : la_Vok yX5_work cX5_work 3 (some .int) 2 := ⟨q1061, q1062, q46, q1063, by decide +kernel⟩
theorem ok_X5_least : la_Vok yX5_least cX5_least 2 (some .int) 1 := ⟨q1065, q1066, q46, q1067, by decide +kernel⟩
theorem ok_X5_leastOf : la_Sok yX5_leastOf cX5_leastOf 4 (some .int) 2 := ⟨q1069, q46, q1070, by decide +kernel⟩
theorem ok_X5_plan : la_Vok yX5_plan cX5_plan 7 (some .int) 2 := ⟨q1072, q1073, q46, q1074, by decide +kernel⟩
theorem ok_X5_ratio : la_Vok yX5_ratio cX5_ratio 2 (some .int) 0 := ⟨q1076, q1077, q46, q1078, by decide +kernel⟩
theorem ok_X5_worst : la_Vok yX5_worst cX5_worst 17 (some .int) 2 := ⟨q1080, q1081, q46, q1082, by decide +kernel⟩
theorem ok_X5_book : la_Vok yX5_book cX5_book 5 (some .int) 3 := ⟨q1085, q1086, q46, q1087, by decide +kernel⟩
theorem ok_X5_no : la_Vok yX5_no cX5_no 2 (some .int) 1 := ⟨q1090, qs38, q46, q1091, by decide +kernel⟩
theorem ok_X5_row : la_Vok yX5_row cX5_row 5 (some .int) 3 := ⟨q1093, q1094, q46, q1095, by decide +kernel⟩
theorem ok_X5_put : la_Vok yX5_put cX5_put 7 (some .int) 5 := ⟨q1097, q1098, q46, q1099, by decide +kernel⟩
theorem ok_X5_wrong : la_Vok yX5_wrong cX5_wrong 6 (some .int) 4 := ⟨q1102, qs39, q46, q1103, by decide +kernel⟩
theorem ok_X5_item : la_Vok yX5_item cX5_item 5 (some .long) 4 := ⟨q1105, q1106, q46, q1107, by decide +kernel⟩
theorem ok_X5_roads : la_Vok yX5_roads cX5_roads 7 (some .int) 1 := ⟨q1109, q1110, q46, q1111, by decide +kernel⟩
theorem ok_X5_calls : la_Vok yX5_calls cX5_calls 8 (some .int) 2 := ⟨q1113, q1114, q46, q1115, by decide +kernel⟩
theorem ok_X5_about : la_Vok yX5_about cX5_about 2 (some .int) 1 := ⟨q1117, q1118, q46, q1119, by decide +kernel⟩
theorem ok_X5_trace : la_Vok yX5_trace cX5_trace 1 (some .long) 0 := ⟨q1121, q1122, q46, q1123, by decide +kernel⟩
theorem ok_X5_status : la_Vok yX5_status cX5_status 1 (some .int) 0 := ⟨q1125, q1126, q46, q1127, by decide +kernel⟩
-- no selects for X7_init
-- no selects for X7_make
-- no selects for X7_rows
-- no selects for X7_get
-- no selects for X7_size
-- no selects for X8_init
-- no selects for X8_make
-- no selects for X8_rows
-- no selects for X8_get
-- no selects for X8_size
-- no selects for X9_init
-- no selects for X9_make
-- no selects for X9_rows
-- no selects for X9_get
-- no selects for X9_size
