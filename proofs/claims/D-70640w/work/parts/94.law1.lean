/-! the law: the words of its calls, and what holds along it -/
def RL : String := "MustardFastLaw"
theorem pdL_X_duchy : (parseMethodDescriptor yX0_duchy.desc).map (fun d => d.parameters.length) = some 4 := by decide +kernel
theorem wL_X_ofEater {R : Room} {s : State} {args : Array Value} {rm : Room} (hts : ∀ w ∈ lw_all, w.before args s = true) (hR : rm.frames + 1 ≤ R.frames ∧ 8 + (4 + 11) + rm.locals ≤ R.locals) : CallW R s args RL RX0 18 yX0_ofEater cX0_ofEater 4 (some .int) (ws_ yX0_ofEater cX0_ofEater 4 (some .int)) rm rm.cells rm.slots 2 :=
  cwV 2 hts (lw_V q536 q537 q538 q51 q539) rfl rfl rfl (by decide +kernel) hR
theorem wL_X_look {R : Room} {s : State} {args : Array Value} {rm : Room} (hts : ∀ w ∈ lw_all, w.before args s = true) (hR : rm.frames + 1 ≤ R.frames ∧ 8 + (2 + 11) + rm.locals ≤ R.locals) : CallW R s args RL RX0 23 yX0_look cX0_look 2 (some .int) (ws_ yX0_look cX0_look 2 (some .int)) rm rm.cells rm.slots 1 :=
  cwV 1 hts (lw_V q597 q598 q599 q51 q600) rfl rfl rfl (by decide +kernel) hR
theorem wL_X_pull {R : Room} {s : State} {args : Array Value} {rm : Room} (hts : ∀ w ∈ lw_all, w.before args s = true) (hR : rm.frames + 1 ≤ R.frames ∧ 8 + (4 + 11) + rm.locals ≤ R.locals) : CallW R s args RL RX0 28 yX0_pull cX0_pull 4 (some .int) (ws_ yX0_pull cX0_pull 4 (some .int)) rm rm.cells rm.slots 2 :=
  cwV 2 hts (lw_V q605 q606 q607 q51 q608) rfl rfl rfl (by decide +kernel) hR
theorem wL_X_sour {R : Room} {s : State} {args : Array Value} {rm : Room} (hts : ∀ w ∈ lw_all, w.before args s = true) (hR : rm.frames + 1 ≤ R.frames ∧ 8 + (3 + 11) + rm.locals ≤ R.locals) : CallW R s args RL RX0 32 yX0_sour cX0_sour 3 (some .int) (ws_ yX0_sour cX0_sour 3 (some .int)) rm rm.cells rm.slots 1 :=
  cwV 1 hts (lw_V q613 q614 q615 q51 q616) rfl rfl rfl (by decide +kernel) hR
theorem wL_X_crave {R : Room} {s : State} {args : Array Value} {rm : Room} (hts : ∀ w ∈ lw_all, w.before args s = true) (hR : rm.frames + 1 ≤ R.frames ∧ 8 + (4 + 11) + rm.locals ≤ R.locals) : CallW R s args RL RX0 36 yX0_crave cX0_crave 4 (some .int) (ws_ yX0_crave cX0_crave 4 (some .int)) rm rm.cells rm.slots 2 :=
  cwV 2 hts (lw_V q621 q622 q623 q51 q624) rfl rfl rfl (by decide +kernel) hR
theorem wL_X_fasts {R : Room} {s : State} {args : Array Value} {rm : Room} (hts : ∀ w ∈ lw_all, w.before args s = true) (hR : rm.frames + 1 ≤ R.frames ∧ 8 + (1 + 11) + rm.locals ≤ R.locals) : CallW R s args RL RX0 40 yX0_fasts cX0_fasts 1 (some .int) (ws_ yX0_fasts cX0_fasts 1 (some .int)) rm rm.cells rm.slots 0 :=
  cwV 0 hts (lw_V q626 q627 q628 q51 q629) rfl rfl rfl (by decide +kernel) hR
theorem wL_X_yellow {R : Room} {s : State} {args : Array Value} {rm : Room} (hts : ∀ w ∈ lw_all, w.before args s = true) (hR : rm.frames + 1 ≤ R.frames ∧ 8 + (3 + 11) + rm.locals ≤ R.locals) : CallW R s args RL RX0 45 yX0_yellow cX0_yellow 3 (some .int) (ws_ yX0_yellow cX0_yellow 3 (some .int)) rm rm.cells rm.slots 2 :=
  cwV 2 hts (lw_V q638 q639 q640 q51 q641) rfl rfl rfl (by decide +kernel) hR
theorem wL_X_found {R : Room} {s : State} {args : Array Value} {rm : Room} (hts : ∀ w ∈ lw_all, w.before args s = true) (hR : rm.frames + 1 ≤ R.frames ∧ 8 + (5 + 11) + rm.locals ≤ R.locals) : CallW R s args RL RX0 49 yX0_found cX0_found 5 (some .int) (ws_ yX0_found cX0_found 5 (some .int)) rm rm.cells rm.slots 3 :=
  cwV 3 hts (lw_V q670 q671 q672 q51 q673) rfl rfl rfl (by decide +kernel) hR
theorem pdL_X_plan : (parseMethodDescriptor yX0_plan.desc).map (fun d => d.parameters.length) = some 5 := by decide +kernel
theorem wL_X_best {R : Room} {s : State} {args : Array Value} {rm : Room} (hts : ∀ w ∈ lw_all, w.before args s = true) (hR : rm.frames + 1 ≤ R.frames ∧ 8 + (4 + 11) + rm.locals ≤ R.locals) : CallW R s args RL RX0 59 yX0_best cX0_best 4 (some .int) (ws_ yX0_best cX0_best 4 (some .int)) rm rm.cells rm.slots 2 :=
  cwV 2 hts (lw_V q715 q716 q717 q51 q718) rfl rfl rfl (by decide +kernel) hR
theorem wL_X_village {R : Room} {s : State} {args : Array Value} {rm : Room} (hts : ∀ w ∈ lw_all, w.before args s = true) (hR : rm.frames + 1 ≤ R.frames ∧ 8 + (1 + 11) + rm.locals ≤ R.locals) : CallW R s args RL RX0 63 yX0_village cX0_village 1 (some .int) (ws_ yX0_village cX0_village 1 (some .int)) rm rm.cells rm.slots 0 :=
  cwV 0 hts (lw_V q727 q728 q729 q51 q730) rfl rfl rfl (by decide +kernel) hR
theorem wL_X_smile {R : Room} {s : State} {args : Array Value} {rm : Room} (hts : ∀ w ∈ lw_all, w.before args s = true) (hR : rm.frames + 1 ≤ R.frames ∧ 8 + (7 + 11) + rm.locals ≤ R.locals) : CallW R s args RL RX0 67 yX0_smile cX0_smile 7 (some .int) (ws_ yX0_smile cX0_smile 7 (some .int)) rm rm.cells rm.slots 1 :=
  cwV 1 hts (lw_V q735 q736 q737 q51 q738) rfl rfl rfl (by decide +kernel) hR
theorem wL_X_reading {R : Room} {s : State} {args : Array Value} {rm : Room} (hts : ∀ w ∈ lw_all, w.before args s = true) (hR : rm.frames + 1 ≤ R.frames ∧ 8 + (5 + 11) + rm.locals ≤ R.locals) : CallW R s args RL RX0 71 yX0_reading cX0_reading 5 (some .int) (ws_ yX0_reading cX0_reading 5 (some .int)) rm rm.cells rm.slots 4 :=
  cwV 4 hts (lw_V q739 q740 q741 q51 q742) rfl rfl rfl (by decide +kernel) hR
theorem wL_X_back {R : Room} {s : State} {args : Array Value} {rm : Room} (hts : ∀ w ∈ lw_all, w.before args s = true) (hR : rm.frames + 1 ≤ R.frames ∧ 8 + (2 + 11) + rm.locals ≤ R.locals) : CallW R s args RL RX0 76 yX0_back cX0_back 2 (some .int) (ws_ yX0_back cX0_back 2 (some .int)) rm rm.cells rm.slots 1 :=
  cwV 1 hts (lw_V q743 q744 q745 q51 q746) rfl rfl rfl (by decide +kernel) hR
theorem wL_X_stays {R : Room} {s : State} {args : Array Value} {rm : Room} (hts : ∀ w ∈ lw_all, w.before args s = true) (hR : rm.frames + 1 ≤ R.frames ∧ 8 + (5 + 11) + rm.locals ≤ R.locals) : CallW R s args RL RX0 80 yX0_stays cX0_stays 5 (some .int) (ws_ yX0_stays cX0_stays 5 (some .int)) rm rm.cells rm.slots 1 :=
  cwV 1 hts (lw_V q747 q748 q749 q51 q750) rfl rfl rfl (by decide +kernel) hR
theorem wL_X_kinds {R : Room} {s : State} {args : Array Value} {rm : Room} (hts : ∀ w ∈ lw_all, w.before args s = true) (hR : rm.frames + 1 ≤ R.frames ∧ 8 + (3 + 11) + rm.locals ≤ R.locals) : CallW R s args RL RX0 84 yX0_kinds cX0_kinds 3 (some .int) (ws_ yX0_kinds cX0_kinds 3 (some .int)) rm rm.cells rm.slots 1 :=
  cwV 1 hts (lw_V q755 q756 q757 q51 q758) rfl rfl rfl (by decide +kernel) hR
theorem wL_X_sours {R : Room} {s : State} {args : Array Value} {rm : Room} (hts : ∀ w ∈ lw_all, w.before args s = true) (hR : rm.frames + 1 ≤ R.frames ∧ 8 + (3 + 11) + rm.locals ≤ R.locals) : CallW R s args RL RX0 88 yX0_sours cX0_sours 3 (some .int) (ws_ yX0_sours cX0_sours 3 (some .int)) rm rm.cells rm.slots 0 :=
  cwV 0 hts (lw_V q759 q760 q761 q51 q762) rfl rfl rfl (by decide +kernel) hR
theorem wL_X_odds {R : Room} {s : State} {args : Array Value} {rm : Room} (hts : ∀ w ∈ lw_all, w.before args s = true) (hR : rm.frames + 1 ≤ R.frames ∧ 8 + (6 + 11) + rm.locals ≤ R.locals) : CallW R s args RL RX0 92 yX0_odds cX0_odds 6 (some .long) (ws_ yX0_odds cX0_odds 6 (some .long)) rm rm.cells rm.slots 3 :=
  cwV 3 hts (lw_V q763 q764 q765 q51 q766) rfl rfl rfl (by decide +kernel) hR
theorem pdL_X_sheet : (parseMethodDescriptor yX0_sheet.desc).map (fun d => d.parameters.length) = some 3 := by decide +kernel
theorem wL_X_lose {R : Room} {s : State} {args : Array Value} {rm : Room} (hts : ∀ w ∈ lw_all, w.before args s = true) (hR : rm.frames + 1 ≤ R.frames ∧ 8 + (3 + 11) + rm.locals ≤ R.locals) : CallW R s args RL RX0 101 yX0_lose cX0_lose 3 (some .int) (ws_ yX0_lose cX0_lose 3 (some .int)) rm rm.cells rm.slots 1 :=
  cwV 1 hts (lw_V q776 q777 q778 q51 q779) rfl rfl rfl (by decide +kernel) hR
theorem pdL_X_put : (parseMethodDescriptor yX0_put.desc).map (fun d => d.parameters.length) = some 3 := by decide +kernel
theorem pdL_X_cell : (parseMethodDescriptor yX0_cell.desc).map (fun d => d.parameters.length) = some 3 := by decide +kernel
theorem pdL_X_copy : (parseMethodDescriptor yX0_copy.desc).map (fun d => d.parameters.length) = some 5 := by decide +kernel
theorem wL_X_tell {R : Room} {s : State} {args : Array Value} {rm : Room} (hts : ∀ w ∈ lw_all, w.before args s = true) (hR : rm.frames + 1 ≤ R.frames ∧ 8 + (2 + 11) + rm.locals ≤ R.locals) : CallW R s args RL RX0 117 yX0_tell cX0_tell 2 (some .int) (ws_ yX0_tell cX0_tell 2 (some .int)) rm rm.cells rm.slots 1 :=
  cwV 1 hts (lw_V q811 q812 q813 q51 q814) rfl rfl rfl (by decide +kernel) hR
theorem pdL_X_sniff : (parseMethodDescriptor yX0_sniff.desc).map (fun d => d.parameters.length) = some 1 := by decide +kernel
theorem pdL_X_as : (parseMethodDescriptor yX0_as.desc).map (fun d => d.parameters.length) = some 2 := by decide +kernel
theorem wL_X_trace {R : Room} {s : State} {args : Array Value} {rm : Room} (hts : ∀ w ∈ lw_all, w.before args s = true) (hR : rm.frames + 1 ≤ R.frames ∧ 8 + (1 + 11) + rm.locals ≤ R.locals) : CallW R s args RL RX0 129 yX0_trace cX0_trace 1 (some .int) (ws_ yX0_trace cX0_trace 1 (some .int)) rm rm.cells rm.slots 0 :=
  cwV 0 hts (lw_V q886 q887 q888 q51 q889) rfl rfl rfl (by decide +kernel) hR
theorem wL_X_fault {R : Room} {s : State} {args : Array Value} {rm : Room} (hts : ∀ w ∈ lw_all, w.before args s = true) (hR : rm.frames + 1 ≤ R.frames ∧ 8 + (1 + 11) + rm.locals ≤ R.locals) : CallW R s args RL RX0 133 yX0_fault cX0_fault 1 (some .int) (ws_ yX0_fault cX0_fault 1 (some .int)) rm rm.cells rm.slots 0 :=
  cwV 0 hts (lw_V q890 q891 q892 q51 q893) rfl rfl rfl (by decide +kernel) hR
theorem wL_X_many {R : Room} {s : State} {args : Array Value} {rm : Room} (hts : ∀ w ∈ lw_all, w.before args s = true) (hR : rm.frames + 1 ≤ R.frames ∧ 8 + (2 + 11) + rm.locals ≤ R.locals) : CallW R s args RL RX0 137 yX0_many cX0_many 2 (some .int) (ws_ yX0_many cX0_many 2 (some .int)) rm rm.cells rm.slots 1 :=
  cwV 1 hts (lw_V q894 q895 q896 q51 q897) rfl rfl rfl (by decide +kernel) hR
theorem wL_M_duchy {R : Room} {s : State} {args : Array Value} {rm : Room} (hts : ∀ w ∈ lw_all, w.before args s = true) (hR : rm.frames + 1 ≤ R.frames ∧ 8 + (7 + 11) + rm.locals ≤ R.locals) : CallW R s args RL RX2 17 yX2_duchy cX2_duchy 7 (some .int) (ws_ yX2_duchy cX2_duchy 7 (some .int)) rm rm.cells rm.slots 4 :=
  cwV 4 hts (lw_V q992 q993 q994 q56 q995) rfl rfl rfl (by decide +kernel) hR
theorem wL_M_ofEater {R : Room} {s : State} {args : Array Value} {rm : Room} (hts : ∀ w ∈ lw_all, w.before args s = true) (hR : rm.frames + 1 ≤ R.frames ∧ 8 + (3 + 11) + rm.locals ≤ R.locals) : CallW R s args RL RX2 22 yX2_ofEater cX2_ofEater 3 (some .int) (ws_ yX2_ofEater cX2_ofEater 3 (some .int)) rm rm.cells rm.slots 2 :=
  cwV 2 hts (lw_V q1039 q1040 q1041 q56 q1042) rfl rfl rfl (by decide +kernel) hR
theorem wL_M_look {R : Room} {s : State} {args : Array Value} {rm : Room} (hts : ∀ w ∈ lw_all, w.before args s = true) (hR : rm.frames + 1 ≤ R.frames ∧ 8 + (2 + 11) + rm.locals ≤ R.locals) : CallW R s args RL RX2 27 yX2_look cX2_look 2 (some .int) (ws_ yX2_look cX2_look 2 (some .int)) rm rm.cells rm.slots 1 :=
  cwV 1 hts (lw_V q1051 q1052 q1053 q56 q1054) rfl rfl rfl (by decide +kernel) hR
theorem wL_M_pull {R : Room} {s : State} {args : Array Value} {rm : Room} (hts : ∀ w ∈ lw_all, w.before args s = true) (hR : rm.frames + 1 ≤ R.frames ∧ 8 + (4 + 11) + rm.locals ≤ R.locals) : CallW R s args RL RX2 31 yX2_pull cX2_pull 4 (some .int) (ws_ yX2_pull cX2_pull 4 (some .int)) rm rm.cells rm.slots 2 :=
  cwV 2 hts (lw_V q1059 q1060 q1061 q56 q1062) rfl rfl rfl (by decide +kernel) hR
theorem wL_M_sour {R : Room} {s : State} {args : Array Value} {rm : Room} (hts : ∀ w ∈ lw_all, w.before args s = true) (hR : rm.frames + 1 ≤ R.frames ∧ 8 + (3 + 11) + rm.locals ≤ R.locals) : CallW R s args RL RX2 35 yX2_sour cX2_sour 3 (some .int) (ws_ yX2_sour cX2_sour 3 (some .int)) rm rm.cells rm.slots 1 :=
  cwV 1 hts (lw_V q1064 q1065 q1066 q56 q1067) rfl rfl rfl (by decide +kernel) hR
theorem wL_M_crave {R : Room} {s : State} {args : Array Value} {rm : Room} (hts : ∀ w ∈ lw_all, w.before args s = true) (hR : rm.frames + 1 ≤ R.frames ∧ 8 + (4 + 11) + rm.locals ≤ R.locals) : CallW R s args RL RX2 39 yX2_crave cX2_crave 4 (some .int) (ws_ yX2_crave cX2_crave 4 (some .int)) rm rm.cells rm.slots 2 :=
  cwV 2 hts (lw_V q1068 q1069 q1070 q56 q1071) rfl rfl rfl (by decide +kernel) hR
theorem wL_M_fasts {R : Room} {s : State} {args : Array Value} {rm : Room} (hts : ∀ w ∈ lw_all, w.before args s = true) (hR : rm.frames + 1 ≤ R.frames ∧ 8 + (1 + 11) + rm.locals ≤ R.locals) : CallW R s args RL RX2 44 yX2_fasts cX2_fasts 1 (some .int) (ws_ yX2_fasts cX2_fasts 1 (some .int)) rm rm.cells rm.slots 0 :=
  cwV 0 hts (lw_V q1073 q1074 q1075 q56 q1076) rfl rfl rfl (by decide +kernel) hR
theorem wL_M_yellow {R : Room} {s : State} {args : Array Value} {rm : Room} (hts : ∀ w ∈ lw_all, w.before args s = true) (hR : rm.frames + 1 ≤ R.frames ∧ 8 + (3 + 11) + rm.locals ≤ R.locals) : CallW R s args RL RX2 48 yX2_yellow cX2_yellow 3 (some .int) (ws_ yX2_yellow cX2_yellow 3 (some .int)) rm rm.cells rm.slots 2 :=
  cwV 2 hts (lw_V q1081 q1082 q1083 q56 q1084) rfl rfl rfl (by decide +kernel) hR
theorem wL_M_found {R : Room} {s : State} {args : Array Value} {rm : Room} (hts : ∀ w ∈ lw_all, w.before args s = true) (hR : rm.frames + 1 ≤ R.frames ∧ 8 + (4 + 11) + rm.locals ≤ R.locals) : CallW R s args RL RX2 53 yX2_found cX2_found 4 (some .int) (ws_ yX2_found cX2_found 4 (some .int)) rm rm.cells rm.slots 3 :=
  cwV 3 hts (lw_V q1096 q1097 q1098 q56 q1099) rfl rfl rfl (by decide +kernel) hR
theorem wL_M_plan {R : Room} {s : State} {args : Array Value} {rm : Room} (hts : ∀ w ∈ lw_all, w.before args s = true) (hR : rm.frames + 1 ≤ R.frames ∧ 8 + (9 + 11) + rm.locals ≤ R.locals) : CallW R s args RL RX2 58 yX2_plan cX2_plan 9 (some .int) (ws_ yX2_plan cX2_plan 9 (some .int)) rm rm.cells rm.slots 5 :=
  cwV 5 hts (lw_V q1111 q1112 q1113 q56 q1114) rfl rfl rfl (by decide +kernel) hR
theorem wL_M_best {R : Room} {s : State} {args : Array Value} {rm : Room} (hts : ∀ w ∈ lw_all, w.before args s = true) (hR : rm.frames + 1 ≤ R.frames ∧ 8 + (4 + 11) + rm.locals ≤ R.locals) : CallW R s args RL RX2 62 yX2_best cX2_best 4 (some .int) (ws_ yX2_best cX2_best 4 (some .int)) rm rm.cells rm.slots 2 :=
  cwV 2 hts (lw_V q1121 q1122 q1123 q56 q1124) rfl rfl rfl (by decide +kernel) hR
theorem wL_M_village {R : Room} {s : State} {args : Array Value} {rm : Room} (hts : ∀ w ∈ lw_all, w.before args s = true) (hR : rm.frames + 1 ≤ R.frames ∧ 8 + (1 + 11) + rm.locals ≤ R.locals) : CallW R s args RL RX2 66 yX2_village cX2_village 1 (some .int) (ws_ yX2_village cX2_village 1 (some .int)) rm rm.cells rm.slots 0 :=
  cwV 0 hts (lw_V q1129 q1130 q1131 q56 q1132) rfl rfl rfl (by decide +kernel) hR
theorem wL_M_smile {R : Room} {s : State} {args : Array Value} {rm : Room} (hts : ∀ w ∈ lw_all, w.before args s = true) (hR : rm.frames + 1 ≤ R.frames ∧ 8 + (8 + 11) + rm.locals ≤ R.locals) : CallW R s args RL RX2 70 yX2_smile cX2_smile 8 (some .int) (ws_ yX2_smile cX2_smile 8 (some .int)) rm rm.cells rm.slots 1 :=
  cwV 1 hts (lw_V q1137 q1138 q1139 q56 q1140) rfl rfl rfl (by decide +kernel) hR
theorem wL_M_reading {R : Room} {s : State} {args : Array Value} {rm : Room} (hts : ∀ w ∈ lw_all, w.before args s = true) (hR : rm.frames + 1 ≤ R.frames ∧ 8 + (5 + 11) + rm.locals ≤ R.locals) : CallW R s args RL RX2 75 yX2_reading cX2_reading 5 (some .int) (ws_ yX2_reading cX2_reading 5 (some .int)) rm rm.cells rm.slots 4 :=
  cwV 4 hts (lw_V q1141 q1142 q1143 q56 q1144) rfl rfl rfl (by decide +kernel) hR
theorem wL_M_back {R : Room} {s : State} {args : Array Value} {rm : Room} (hts : ∀ w ∈ lw_all, w.before args s = true) (hR : rm.frames + 1 ≤ R.frames ∧ 8 + (2 + 11) + rm.locals ≤ R.locals) : CallW R s args RL RX2 79 yX2_back cX2_back 2 (some .int) (ws_ yX2_back cX2_back 2 (some .int)) rm rm.cells rm.slots 1 :=
  cwV 1 hts (lw_V q1145 q1146 q1147 q56 q1148) rfl rfl rfl (by decide +kernel) hR
theorem wL_M_stays {R : Room} {s : State} {args : Array Value} {rm : Room} (hts : ∀ w ∈ lw_all, w.before args s = true) (hR : rm.frames + 1 ≤ R.frames ∧ 8 + (5 + 11) + rm.locals ≤ R.locals) : CallW R s args RL RX2 83 yX2_stays cX2_stays 5 (some .int) (ws_ yX2_stays cX2_stays 5 (some .int)) rm rm.cells rm.slots 1 :=
  cwV 1 hts (lw_V q1149 q1150 q1151 q56 q1152) rfl rfl rfl (by decide +kernel) hR
theorem wL_M_kinds {R : Room} {s : State} {args : Array Value} {rm : Room} (hts : ∀ w ∈ lw_all, w.before args s = true) (hR : rm.frames + 1 ≤ R.frames ∧ 8 + (5 + 11) + rm.locals ≤ R.locals) : CallW R s args RL RX2 87 yX2_kinds cX2_kinds 5 (some .int) (ws_ yX2_kinds cX2_kinds 5 (some .int)) rm rm.cells rm.slots 1 :=
  cwV 1 hts (lw_V q1157 q1158 q1159 q56 q1160) rfl rfl rfl (by decide +kernel) hR
theorem wL_M_sours {R : Room} {s : State} {args : Array Value} {rm : Room} (hts : ∀ w ∈ lw_all, w.before args s = true) (hR : rm.frames + 1 ≤ R.frames ∧ 8 + (4 + 11) + rm.locals ≤ R.locals) : CallW R s args RL RX2 91 yX2_sours cX2_sours 4 (some .int) (ws_ yX2_sours cX2_sours 4 (some .int)) rm rm.cells rm.slots 0 :=
  cwV 0 hts (lw_V q1161 q1162 q1163 q56 q1164) rfl rfl rfl (by decide +kernel) hR
theorem wL_M_odds {R : Room} {s : State} {args : Array Value} {rm : Room} (hts : ∀ w ∈ lw_all, w.before args s = true) (hR : rm.frames + 1 ≤ R.frames ∧ 8 + (8 + 11) + rm.locals ≤ R.locals) : CallW R s args RL RX2 96 yX2_odds cX2_odds 8 (some .long) (ws_ yX2_odds cX2_odds 8 (some .long)) rm rm.cells rm.slots 3 :=
  cwV 3 hts (lw_V q1165 q1166 q1167 q56 q1168) rfl rfl rfl (by decide +kernel) hR
theorem wL_M_sheet {R : Room} {s : State} {args : Array Value} {rm : Room} (hts : ∀ w ∈ lw_all, w.before args s = true) (hR : rm.frames + 1 ≤ R.frames ∧ 8 + (5 + 11) + rm.locals ≤ R.locals) : CallW R s args RL RX2 100 yX2_sheet cX2_sheet 5 (some .int) (ws_ yX2_sheet cX2_sheet 5 (some .int)) rm rm.cells rm.slots 3 :=
  cwV 3 hts (lw_V q1176 q1177 q1178 q56 q1179) rfl rfl rfl (by decide +kernel) hR
theorem wL_M_lose {R : Room} {s : State} {args : Array Value} {rm : Room} (hts : ∀ w ∈ lw_all, w.before args s = true) (hR : rm.frames + 1 ≤ R.frames ∧ 8 + (3 + 11) + rm.locals ≤ R.locals) : CallW R s args RL RX2 104 yX2_lose cX2_lose 3 (some .int) (ws_ yX2_lose cX2_lose 3 (some .int)) rm rm.cells rm.slots 1 :=
  cwV 1 hts (lw_V q1180 q1181 q1182 q56 q1183) rfl rfl rfl (by decide +kernel) hR
theorem wL_M_put {R : Room} {s : State} {args : Array Value} {rm : Room} (hts : ∀ w ∈ lw_all, w.before args s = true) (hR : rm.frames + 1 ≤ R.frames ∧ 8 + (4 + 11) + rm.locals ≤ R.locals) : CallW R s args RL RX2 108 yX2_put cX2_put 4 (some .int) (ws_ yX2_put cX2_put 4 (some .int)) rm rm.cells rm.slots 3 :=
  cwV 3 hts (lw_V q1184 q1185 q1186 q56 q1187) rfl rfl rfl (by decide +kernel) hR
theorem wL_M_cell {R : Room} {s : State} {args : Array Value} {rm : Room} (hts : ∀ w ∈ lw_all, w.before args s = true) (hR : rm.frames + 1 ≤ R.frames ∧ 8 + (4 + 11) + rm.locals ≤ R.locals) : CallW R s args RL RX2 112 yX2_cell cX2_cell 4 (some .long) (ws_ yX2_cell cX2_cell 4 (some .long)) rm rm.cells rm.slots 3 :=
  cwV 3 hts (lw_V q1192 q1193 q1194 q56 q1195) rfl rfl rfl (by decide +kernel) hR
theorem wL_M_copy {R : Room} {s : State} {args : Array Value} {rm : Room} (hts : ∀ w ∈ lw_all, w.before args s = true) (hR : rm.frames + 1 ≤ R.frames ∧ 8 + (7 + 11) + rm.locals ≤ R.locals) : CallW R s args RL RX2 116 yX2_copy cX2_copy 7 (some .int) (ws_ yX2_copy cX2_copy 7 (some .int)) rm rm.cells rm.slots 5 :=
  cwV 5 hts (lw_V q1200 q1201 q1202 q56 q1203) rfl rfl rfl (by decide +kernel) hR
theorem wL_M_tell {R : Room} {s : State} {args : Array Value} {rm : Room} (hts : ∀ w ∈ lw_all, w.before args s = true) (hR : rm.frames + 1 ≤ R.frames ∧ 8 + (4 + 11) + rm.locals ≤ R.locals) : CallW R s args RL RX2 120 yX2_tell cX2_tell 4 (some .int) (ws_ yX2_tell cX2_tell 4 (some .int)) rm rm.cells rm.slots 1 :=
  cwV 1 hts (lw_V q1204 q1205 q1206 q56 q1207) rfl rfl rfl (by decide +kernel) hR
theorem wL_M_sniff {R : Room} {s : State} {args : Array Value} {rm : Room} (hts : ∀ w ∈ lw_all, w.before args s = true) (hR : rm.frames + 1 ≤ R.frames ∧ 8 + (2 + 11) + rm.locals ≤ R.locals) : CallW R s args RL RX2 124 yX2_sniff cX2_sniff 2 (some .int) (ws_ yX2_sniff cX2_sniff 2 (some .int)) rm rm.cells rm.slots 1 :=
  cwV 1 hts (lw_V q1212 q1213 q1214 q56 q1215) rfl rfl rfl (by decide +kernel) hR
theorem wL_M_as {R : Room} {s : State} {args : Array Value} {rm : Room} (hts : ∀ w ∈ lw_all, w.before args s = true) (hR : rm.frames + 1 ≤ R.frames ∧ 8 + (3 + 11) + rm.locals ≤ R.locals) : CallW R s args RL RX2 128 yX2_as cX2_as 3 (some .int) (ws_ yX2_as cX2_as 3 (some .int)) rm rm.cells rm.slots 2 :=
  cwV 2 hts (lw_V q1216 q1217 q1218 q56 q1219) rfl rfl rfl (by decide +kernel) hR
theorem wL_M_trace {R : Room} {s : State} {args : Array Value} {rm : Room} (hts : ∀ w ∈ lw_all, w.before args s = true) (hR : rm.frames + 1 ≤ R.frames ∧ 8 + (1 + 11) + rm.locals ≤ R.locals) : CallW R s args RL RX2 132 yX2_trace cX2_trace 1 (some .int) (ws_ yX2_trace cX2_trace 1 (some .int)) rm rm.cells rm.slots 0 :=
  cwV 0 hts (lw_V q1220 q1221 q1222 q56 q1223) rfl rfl rfl (by decide +kernel) hR
theorem wL_M_fault {R : Room} {s : State} {args : Array Value} {rm : Room} (hts : ∀ w ∈ lw_all, w.before args s = true) (hR : rm.frames + 1 ≤ R.frames ∧ 8 + (1 + 11) + rm.locals ≤ R.locals) : CallW R s args RL RX2 136 yX2_fault cX2_fault 1 (some .int) (ws_ yX2_fault cX2_fault 1 (some .int)) rm rm.cells rm.slots 0 :=
  cwV 0 hts (lw_V q1224 q1225 q1226 q56 q1227) rfl rfl rfl (by decide +kernel) hR
theorem wL_M_many {R : Room} {s : State} {args : Array Value} {rm : Room} (hts : ∀ w ∈ lw_all, w.before args s = true) (hR : rm.frames + 1 ≤ R.frames ∧ 8 + (2 + 11) + rm.locals ≤ R.locals) : CallW R s args RL RX2 140 yX2_many cX2_many 2 (some .int) (ws_ yX2_many cX2_many 2 (some .int)) rm rm.cells rm.slots 1 :=
  cwV 1 hts (lw_V q1228 q1229 q1230 q56 q1231) rfl rfl rfl (by decide +kernel) hR
theorem wL_X_init {R : Room} {s : State} {args : Array Value} {rm : Room} (hts : ∀ w ∈ lw_all, w.before args s = true) (hR : rm.frames + 1 ≤ R.frames ∧ 8 + (1 + 11) + rm.locals ≤ R.locals) : CallB R s args RL 9 yX0_init cX0_init 1 none (ws_ yX0_init cX0_init 1 none) rm rm.cells rm.slots 0 ∧ yX0_init.name = "<init>" ∧ (Cond.instanceMethod yX0_init).before args s = true := ⟨callB_of 0 hts (lw_meth q80) rfl rfl rfl (hts _ q51) (hts _ q78) (by decide +kernel) hR, rfl, hts _ q79⟩
theorem wL_M_init {R : Room} {s : State} {args : Array Value} {rm : Room} (hts : ∀ w ∈ lw_all, w.before args s = true) (hR : rm.frames + 1 ≤ R.frames ∧ 8 + (2 + 11) + rm.locals ≤ R.locals) : CallB R s args RL 12 yX2_init cX2_init 2 none (ws_ yX2_init cX2_init 2 none) rm rm.cells rm.slots 0 ∧ yX2_init.name = "<init>" ∧ (Cond.instanceMethod yX2_init).before args s = true := ⟨callB_of 0 hts (lw_meth q902) rfl rfl rfl (hts _ q56) (hts _ q900) (by decide +kernel) hR, rfl, hts _ q901⟩
def lwC (p : Program) (l : Launch) (s : State) (m : MethodId) (meth : Method) (c : Code) (b L : Nat) (xs : Nat → Int32) (D : va_G) (d : Nat → ClassId) (e0 : Nat) : Prop := p.tables.exec = Jvm.exec ∧ c.code = cL_law ∧ c.maxLocals = 4 ∧ s.vm.findClass RL = some m.cls ∧ (∀ w ∈ lw_all, w.before #[Value.ref b] s = true) ∧ va_X b L xs s s.heap ∧ b < s.heap.size ∧ KE D d e0 s.heap s ∧ ∀ e, l.admits e → e.platform.stackTraces = false
def lwI (D : va_G) (d : Nat → ClassId) (e0 : Nat) (s : State) (B : Nat → Nat) (q : Nat) (Aq : Nat → Nat) (σ : ASt) (H : Heap) (locs : List Loc) : Prop := ∃ (τ : Nat → Nat → Int32) (ea : Nat) (hs : Nat → Option Nat) (ρ : va_W) (F : Nat → Nat) (τm : Nat → Nat → Int32), xRep d B e0 σ τ ea hs ρ F ∧ mRep σ τm ∧ aFit σ ∧ uW D (fun q => s.heap.size ≤ q) s.heap H locs (xw d B τ ea hs ρ ++ mw d q Aq τm)
section LW
variable {p : Program} {l : Launch} {e : Env} {R : Room} {s : State} {m : MethodId} {args : Array Value} {below : List Frame} {meth : Method} {c : Code} {H : Heap} {locs : List Loc} {cells slots : Nat} {Q : State → Prop} {pc : Nat} {ls : Array Slot} {rest : List Value} {A : Nat → Prop}
theorem nI_pls (i k : Nat) : nI i + nI k = nI (i + k) := by
  show Int32.ofNat i + Int32.ofNat k = Int32.ofNat (i + k)
  exact (Int32.ofNat_add i k).symm
/-- one of the script's ints -/
theorem sc {b L i : Nat} {xs : Nat → Int32} (hx : p.tables.exec = Jvm.exec) (hb : c.code = cL_law) (hX : va_X b L xs s s.heap) (hbl : b < s.heap.size) (hbA : ¬ A b) (hS : va_S A s.heap H locs) (hL : L ≤ 384) (k : Nat) (hi : i + k < L) {z : Int} (hz : Int32.ofInt z = nI k) (hl0 : ls[0]? = some (.val (.ref b))) (hl3 : ls[3]? = some (.val (.int (nI i)))) (hd0 : decode cL_law pc = .ok (.aload_n 0, 1)) (hd1 : decode cL_law (pc + 1) = .ok (.iload_n 3, 1)) (hd2 : decode cL_law (pc + 1 + 1) = .ok (.iconst z, 1)) (hd3 : decode cL_law (pc + 1 + 1 + 1) = .ok (.iadd, 1)) (hd4 : decode cL_law (pc + 1 + 1 + 1 + 1) = .ok (.iaload, 1))
    (kk : W p l e R s m args below meth c H locs cells slots Q (F0 m (pc + 1 + 1 + 1 + 1 + 1) ls (.int (xs (i + k)) :: rest))) : W p l e R s m args below meth c H locs cells slots Q (F0 m pc ls rest) := by
  refine lv_aload_n hx hb hd0 rfl hl0 ?_
  refine lv_iload_n hx hb hd1 rfl hl3 ?_
  refine lv_iconst (v := nI k) hx hb hd2 hz ?_
  refine lv_iadd hx hb hd3 ?_
  refine top_i (y := nI (i + k)) (nI_pls i k) ?_
  refine va_sld hx hb hX hbl hbA hS (vp_in_nI hi (by omega)) hd4 ?_
  rw [nI_clamp (by omega)]
  exact kk
end LW
