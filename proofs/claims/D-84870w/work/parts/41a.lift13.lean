/-! ===== methods over the typed state (printed by tools/gen_lift.py) ===== -/
set_option maxRecDepth 100000
theorem zc_X13_1483 {adE adK adV : Nat → Nat} {zr : Nat → Value} {b L0 : Nat} {xs : Nat → Int32} {lo : Nat} : kx_cL (kw_V adE adK adV zr b L0 xs lo) "MeetingHouseModel" 1483 = some 4294967295 := by
  show kt_get kt_cLA "MeetingHouseModel" 1483 = _
  decide +kernel
theorem zc_X13_519 {adE adK adV : Nat → Nat} {zr : Nat → Value} {b L0 : Nat} {xs : Nat → Int32} {lo : Nat} : kx_cL (kw_V adE adK adV zr b L0 xs lo) "MeetingHouseModel" 519 = some 10 := by
  show kt_get kt_cLA "MeetingHouseModel" 519 = _
  decide +kernel
theorem zc_X13_521 {adE adK adV : Nat → Nat} {zr : Nat → Value} {b L0 : Nat} {xs : Nat → Int32} {lo : Nat} : kx_cL (kw_V adE adK adV zr b L0 xs lo) "MeetingHouseModel" 521 = some 48 := by
  show kt_get kt_cLA "MeetingHouseModel" 521 = _
  decide +kernel
theorem zc_X13_523 {adE adK adV : Nat → Nat} {zr : Nat → Value} {b L0 : Nat} {xs : Nat → Int32} {lo : Nat} : kx_cL (kw_V adE adK adV zr b L0 xs lo) "MeetingHouseModel" 523 = some 2147483647 := by
  show kt_get kt_cLA "MeetingHouseModel" 523 = _
  decide +kernel
theorem zc_X13_942 {adE adK adV : Nat → Nat} {zr : Nat → Value} {b L0 : Nat} {xs : Nat → Int32} {lo : Nat} : kx_cL (kw_V adE adK adV zr b L0 xs lo) "MeetingHouseModel" 942 = some 1000000 := by
  show kt_get kt_cLA "MeetingHouseModel" 942 = _
  decide +kernel
theorem zc_X13_983 {adE adK adV : Nat → Nat} {zr : Nat → Value} {b L0 : Nat} {xs : Nat → Int32} {lo : Nat} : kx_cL (kw_V adE adK adV zr b L0 xs lo) "MeetingHouseModel" 983 = some 1000 := by
  show kt_get kt_cLA "MeetingHouseModel" 983 = _
  decide +kernel
theorem zc_X13_1475 {adE adK adV : Nat → Nat} {zr : Nat → Value} {b L0 : Nat} {xs : Nat → Int32} {lo : Nat} : kx_ci (kw_V adE adK adV zr b L0 xs lo) "MeetingHouseModel" 1475 = some 1103515245 := by
  show kt_get kt_ciA "MeetingHouseModel" 1475 = _
  decide +kernel
theorem zc_X13_349 {adE adK adV : Nat → Nat} {zr : Nat → Value} {b L0 : Nat} {xs : Nat → Int32} {lo : Nat} : kx_ci (kw_V adE adK adV zr b L0 xs lo) "MeetingHouseModel" 349 = some 65536 := by
  show kt_get kt_ciA "MeetingHouseModel" 349 = _
  decide +kernel
theorem zc_X13_822 {adE adK adV : Nat → Nat} {zr : Nat → Value} {b L0 : Nat} {xs : Nat → Int32} {lo : Nat} : kx_ci (kw_V adE adK adV zr b L0 xs lo) "MeetingHouseModel" 822 = some 2147483647 := by
  show kt_get kt_ciA "MeetingHouseModel" 822 = _
  decide +kernel
theorem zc_X13_823 {adE adK adV : Nat → Nat} {zr : Nat → Value} {b L0 : Nat} {xs : Nat → Int32} {lo : Nat} : kx_ci (kw_V adE adK adV zr b L0 xs lo) "MeetingHouseModel" 823 = some (-2147483648) := by
  show kt_get kt_ciA "MeetingHouseModel" 823 = _
  decide +kernel
theorem wq_X13_1001 {adE adK adV : Nat → Nat} {zr : Nat → Value} {b L0 : Nat} {xs : Nat → Int32} {lo : Nat} : wP (kw_V adE adK adV zr b L0 xs lo) wG "MeetingHouseModel" 1001 12 86 0 .int := wPb_ok (by decide +kernel) wf_X13_1001 (r := "MeetingHouseModel") (n := "gathered") (d := "I") (by decide +kernel) (by decide +kernel)
theorem wq_X13_1004 {adE adK adV : Nat → Nat} {zr : Nat → Value} {b L0 : Nat} {xs : Nat → Int32} {lo : Nat} : wP (kw_V adE adK adV zr b L0 xs lo) wG "MeetingHouseModel" 1004 12 80 0 .int := wPb_ok (by decide +kernel) wf_X13_1004 (r := "MeetingHouseModel") (n := "effects") (d := "I") (by decide +kernel) (by decide +kernel)
theorem wq_X13_1011 {adE adK adV : Nat → Nat} {zr : Nat → Value} {b L0 : Nat} {xs : Nat → Int32} {lo : Nat} : wP (kw_V adE adK adV zr b L0 xs lo) wG "MeetingHouseModel" 1011 12 87 0 .int := wPb_ok (by decide +kernel) wf_X13_1011 (r := "MeetingHouseModel") (n := "outside") (d := "I") (by decide +kernel) (by decide +kernel)
theorem wq_X13_1014 {adE adK adV : Nat → Nat} {zr : Nat → Value} {b L0 : Nat} {xs : Nat → Int32} {lo : Nat} : wP (kw_V adE adK adV zr b L0 xs lo) wG "MeetingHouseModel" 1014 12 99 0 .int := wPb_ok (by decide +kernel) wf_X13_1014 (r := "MeetingHouseModel") (n := "formalsTo") (d := "I") (by decide +kernel) (by decide +kernel)
theorem wq_X13_1049 {adE adK adV : Nat → Nat} {zr : Nat → Value} {b L0 : Nat} {xs : Nat → Int32} {lo : Nat} : wP (kw_V adE adK adV zr b L0 xs lo) wG "MeetingHouseModel" 1049 12 88 0 .boolean := wPb_ok (by decide +kernel) wf_X13_1049 (r := "MeetingHouseModel") (n := "talks") (d := "Z") (by decide +kernel) (by decide +kernel)
theorem wq_X13_1067 {adE adK adV : Nat → Nat} {zr : Nat → Value} {b L0 : Nat} {xs : Nat → Int32} {lo : Nat} : wP (kw_V adE adK adV zr b L0 xs lo) wG "MeetingHouseModel" 1067 12 100 0 .int := wPb_ok (by decide +kernel) wf_X13_1067 (r := "MeetingHouseModel") (n := "within") (d := "I") (by decide +kernel) (by decide +kernel)
theorem wq_X13_1090 {adE adK adV : Nat → Nat} {zr : Nat → Value} {b L0 : Nat} {xs : Nat → Int32} {lo : Nat} : wP (kw_V adE adK adV zr b L0 xs lo) wG "MeetingHouseModel" 1090 12 104 0 .int := wPb_ok (by decide +kernel) wf_X13_1090 (r := "MeetingHouseModel") (n := "touched") (d := "I") (by decide +kernel) (by decide +kernel)
theorem wq_X13_1119 {adE adK adV : Nat → Nat} {zr : Nat → Value} {b L0 : Nat} {xs : Nat → Int32} {lo : Nat} : wP (kw_V adE adK adV zr b L0 xs lo) wG "MeetingHouseModel" 1119 12 110 0 .boolean := wPb_ok (by decide +kernel) wf_X13_1119 (r := "MeetingHouseModel") (n := "there") (d := "Z") (by decide +kernel) (by decide +kernel)
theorem wq_X13_1122 {adE adK adV : Nat → Nat} {zr : Nat → Value} {b L0 : Nat} {xs : Nat → Int32} {lo : Nat} : wP (kw_V adE adK adV zr b L0 xs lo) wG "MeetingHouseModel" 1122 12 123 0 .boolean := wPb_ok (by decide +kernel) wf_X13_1122 (r := "MeetingHouseModel") (n := "begun") (d := "Z") (by decide +kernel) (by decide +kernel)
theorem wq_X13_1131 {adE adK adV : Nat → Nat} {zr : Nat → Value} {b L0 : Nat} {xs : Nat → Int32} {lo : Nat} : wP (kw_V adE adK adV zr b L0 xs lo) wG "MeetingHouseModel" 1131 12 120 0 .int := wPb_ok (by decide +kernel) wf_X13_1131 (r := "MeetingHouseModel") (n := "gaps") (d := "I") (by decide +kernel) (by decide +kernel)
theorem wq_X13_1137 {adE adK adV : Nat → Nat} {zr : Nat → Value} {b L0 : Nat} {xs : Nat → Int32} {lo : Nat} : wP (kw_V adE adK adV zr b L0 xs lo) wG "MeetingHouseModel" 1137 12 119 0 .int := wPb_ok (by decide +kernel) wf_X13_1137 (r := "MeetingHouseModel") (n := "roomEnd") (d := "I") (by decide +kernel) (by decide +kernel)
theorem wq_X13_1143 {adE adK adV : Nat → Nat} {zr : Nat → Value} {b L0 : Nat} {xs : Nat → Int32} {lo : Nat} : wP (kw_V adE adK adV zr b L0 xs lo) wG "MeetingHouseModel" 1143 12 115 0 .int := wPb_ok (by decide +kernel) wf_X13_1143 (r := "MeetingHouseModel") (n := "pieces") (d := "I") (by decide +kernel) (by decide +kernel)
theorem wq_X13_1149 {adE adK adV : Nat → Nat} {zr : Nat → Value} {b L0 : Nat} {xs : Nat → Int32} {lo : Nat} : wP (kw_V adE adK adV zr b L0 xs lo) wG "MeetingHouseModel" 1149 12 114 0 .int := wPb_ok (by decide +kernel) wf_X13_1149 (r := "MeetingHouseModel") (n := "heapEnd") (d := "I") (by decide +kernel) (by decide +kernel)
theorem wq_X13_1152 {adE adK adV : Nat → Nat} {zr : Nat → Value} {b L0 : Nat} {xs : Nat → Int32} {lo : Nat} : wP (kw_V adE adK adV zr b L0 xs lo) wG "MeetingHouseModel" 1152 12 167 0 .int := wPb_ok (by decide +kernel) wf_X13_1152 (r := "MeetingHouseModel") (n := "kFree") (d := "I") (by decide +kernel) (by decide +kernel)
theorem wq_X13_1158 {adE adK adV : Nat → Nat} {zr : Nat → Value} {b L0 : Nat} {xs : Nat → Int32} {lo : Nat} : wP (kw_V adE adK adV zr b L0 xs lo) wG "MeetingHouseModel" 1158 12 166 0 .int := wPb_ok (by decide +kernel) wf_X13_1158 (r := "MeetingHouseModel") (n := "kEnd") (d := "I") (by decide +kernel) (by decide +kernel)
theorem wq_X13_1165 {adE adK adV : Nat → Nat} {zr : Nat → Value} {b L0 : Nat} {xs : Nat → Int32} {lo : Nat} : wP (kw_V adE adK adV zr b L0 xs lo) wG "MeetingHouseModel" 1165 12 163 0 .int := wPb_ok (by decide +kernel) wf_X13_1165 (r := "MeetingHouseModel") (n := "top") (d := "I") (by decide +kernel) (by decide +kernel)
theorem wq_X13_1168 {adE adK adV : Nat → Nat} {zr : Nat → Value} {b L0 : Nat} {xs : Nat → Int32} {lo : Nat} : wP (kw_V adE adK adV zr b L0 xs lo) wG "MeetingHouseModel" 1168 12 161 0 .int := wPb_ok (by decide +kernel) wf_X13_1168 (r := "MeetingHouseModel") (n := "me") (d := "I") (by decide +kernel) (by decide +kernel)
theorem wq_X13_1171 {adE adK adV : Nat → Nat} {zr : Nat → Value} {b L0 : Nat} {xs : Nat → Int32} {lo : Nat} : wP (kw_V adE adK adV zr b L0 xs lo) wG "MeetingHouseModel" 1171 12 162 0 .int := wPb_ok (by decide +kernel) wf_X13_1171 (r := "MeetingHouseModel") (n := "frame") (d := "I") (by decide +kernel) (by decide +kernel)
theorem wq_X13_1186 {adE adK adV : Nat → Nat} {zr : Nat → Value} {b L0 : Nat} {xs : Nat → Int32} {lo : Nat} : wP (kw_V adE adK adV zr b L0 xs lo) wG "MeetingHouseModel" 1186 12 143 0 .int := wPb_ok (by decide +kernel) wf_X13_1186 (r := "MeetingHouseModel") (n := "there1") (d := "I") (by decide +kernel) (by decide +kernel)
theorem wq_X13_1198 {adE adK adV : Nat → Nat} {zr : Nat → Value} {b L0 : Nat} {xs : Nat → Int32} {lo : Nat} : wP (kw_V adE adK adV zr b L0 xs lo) wG "MeetingHouseModel" 1198 12 132 0 .int := wPb_ok (by decide +kernel) wf_X13_1198 (r := "MeetingHouseModel") (n := "clashes") (d := "I") (by decide +kernel) (by decide +kernel)
theorem wq_X13_1201 {adE adK adV : Nat → Nat} {zr : Nat → Value} {b L0 : Nat} {xs : Nat → Int32} {lo : Nat} : wP (kw_V adE adK adV zr b L0 xs lo) wG "MeetingHouseModel" 1201 12 170 0 .int := wPb_ok (by decide +kernel) wf_X13_1201 (r := "MeetingHouseModel") (n := "tables") (d := "I") (by decide +kernel) (by decide +kernel)
theorem wq_X13_1228 {adE adK adV : Nat → Nat} {zr : Nat → Value} {b L0 : Nat} {xs : Nat → Int32} {lo : Nat} : wP (kw_V adE adK adV zr b L0 xs lo) wG "MeetingHouseModel" 1228 12 141 0 .int := wPb_ok (by decide +kernel) wf_X13_1228 (r := "MeetingHouseModel") (n := "stringBase") (d := "I") (by decide +kernel) (by decide +kernel)
theorem wq_X13_1231 {adE adK adV : Nat → Nat} {zr : Nat → Value} {b L0 : Nat} {xs : Nat → Int32} {lo : Nat} : wP (kw_V adE adK adV zr b L0 xs lo) wG "MeetingHouseModel" 1231 12 168 0 .int := wPb_ok (by decide +kernel) wf_X13_1231 (r := "MeetingHouseModel") (n := "arrayAt") (d := "I") (by decide +kernel) (by decide +kernel)
theorem wq_X13_1234 {adE adK adV : Nat → Nat} {zr : Nat → Value} {b L0 : Nat} {xs : Nat → Int32} {lo : Nat} : wP (kw_V adE adK adV zr b L0 xs lo) wG "MeetingHouseModel" 1234 12 169 0 .int := wPb_ok (by decide +kernel) wf_X13_1234 (r := "MeetingHouseModel") (n := "arraySize") (d := "I") (by decide +kernel) (by decide +kernel)
theorem wq_X13_1243 {adE adK adV : Nat → Nat} {zr : Nat → Value} {b L0 : Nat} {xs : Nat → Int32} {lo : Nat} : wP (kw_V adE adK adV zr b L0 xs lo) wG "MeetingHouseModel" 1243 12 131 0 .int := wPb_ok (by decide +kernel) wf_X13_1243 (r := "MeetingHouseModel") (n := "openCells") (d := "I") (by decide +kernel) (by decide +kernel)
theorem wq_X13_1260 {adE adK adV : Nat → Nat} {zr : Nat → Value} {b L0 : Nat} {xs : Nat → Int32} {lo : Nat} : wP (kw_V adE adK adV zr b L0 xs lo) wG "MeetingHouseModel" 1260 12 133 0 .int := wPb_ok (by decide +kernel) wf_X13_1260 (r := "MeetingHouseModel") (n := "calls") (d := "I") (by decide +kernel) (by decide +kernel)
theorem wq_X13_1272 {adE adK adV : Nat → Nat} {zr : Nat → Value} {b L0 : Nat} {xs : Nat → Int32} {lo : Nat} : wP (kw_V adE adK adV zr b L0 xs lo) wG "MeetingHouseModel" 1272 12 134 0 .int := wPb_ok (by decide +kernel) wf_X13_1272 (r := "MeetingHouseModel") (n := "depth") (d := "I") (by decide +kernel) (by decide +kernel)
theorem wq_X13_1302 {adE adK adV : Nat → Nat} {zr : Nat → Value} {b L0 : Nat} {xs : Nat → Int32} {lo : Nat} : wP (kw_V adE adK adV zr b L0 xs lo) wG "MeetingHouseModel" 1302 12 164 0 .int := wPb_ok (by decide +kernel) wf_X13_1302 (r := "MeetingHouseModel") (n := "here") (d := "I") (by decide +kernel) (by decide +kernel)
theorem wq_X13_1310 {adE adK adV : Nat → Nat} {zr : Nat → Value} {b L0 : Nat} {xs : Nat → Int32} {lo : Nat} : wP (kw_V adE adK adV zr b L0 xs lo) wG "MeetingHouseModel" 1310 12 173 0 .boolean := wPb_ok (by decide +kernel) wf_X13_1310 (r := "MeetingHouseModel") (n := "isOuter") (d := "Z") (by decide +kernel) (by decide +kernel)
theorem wq_X13_1313 {adE adK adV : Nat → Nat} {zr : Nat → Value} {b L0 : Nat} {xs : Nat → Int32} {lo : Nat} : wP (kw_V adE adK adV zr b L0 xs lo) wG "MeetingHouseModel" 1313 12 125 0 .boolean := wPb_ok (by decide +kernel) wf_X13_1313 (r := "MeetingHouseModel") (n := "behindDeclarations") (d := "Z") (by decide +kernel) (by decide +kernel)
theorem wq_X13_1325 {adE adK adV : Nat → Nat} {zr : Nat → Value} {b L0 : Nat} {xs : Nat → Int32} {lo : Nat} : wP (kw_V adE adK adV zr b L0 xs lo) wG "MeetingHouseModel" 1325 12 174 0 .int := wPb_ok (by decide +kernel) wf_X13_1325 (r := "MeetingHouseModel") (n := "vTop") (d := "I") (by decide +kernel) (by decide +kernel)
theorem wq_X13_1328 {adE adK adV : Nat → Nat} {zr : Nat → Value} {b L0 : Nat} {xs : Nat → Int32} {lo : Nat} : wP (kw_V adE adK adV zr b L0 xs lo) wG "MeetingHouseModel" 1328 12 124 0 .boolean := wPb_ok (by decide +kernel) wf_X13_1328 (r := "MeetingHouseModel") (n := "ended") (d := "Z") (by decide +kernel) (by decide +kernel)
theorem wq_X13_1337 {adE adK adV : Nat → Nat} {zr : Nat → Value} {b L0 : Nat} {xs : Nat → Int32} {lo : Nat} : wP (kw_V adE adK adV zr b L0 xs lo) wG "MeetingHouseModel" 1337 12 129 0 .int := wPb_ok (by decide +kernel) wf_X13_1337 (r := "MeetingHouseModel") (n := "made") (d := "I") (by decide +kernel) (by decide +kernel)
theorem wq_X13_1388 {adE adK adV : Nat → Nat} {zr : Nat → Value} {b L0 : Nat} {xs : Nat → Int32} {lo : Nat} : wP (kw_V adE adK adV zr b L0 xs lo) wG "MeetingHouseModel" 1388 12 128 0 .int := wPb_ok (by decide +kernel) wf_X13_1388 (r := "MeetingHouseModel") (n := "clock") (d := "I") (by decide +kernel) (by decide +kernel)
theorem wq_X13_1401 {adE adK adV : Nat → Nat} {zr : Nat → Value} {b L0 : Nat} {xs : Nat → Int32} {lo : Nat} : wP (kw_V adE adK adV zr b L0 xs lo) wG "MeetingHouseModel" 1401 12 139 0 .int := wPb_ok (by decide +kernel) wf_X13_1401 (r := "MeetingHouseModel") (n := "screenAt") (d := "I") (by decide +kernel) (by decide +kernel)
theorem wq_X13_1404 {adE adK adV : Nat → Nat} {zr : Nat → Value} {b L0 : Nat} {xs : Nat → Int32} {lo : Nat} : wP (kw_V adE adK adV zr b L0 xs lo) wG "MeetingHouseModel" 1404 12 135 0 .int := wPb_ok (by decide +kernel) wf_X13_1404 (r := "MeetingHouseModel") (n := "outSize") (d := "I") (by decide +kernel) (by decide +kernel)
theorem wq_X13_1410 {adE adK adV : Nat → Nat} {zr : Nat → Value} {b L0 : Nat} {xs : Nat → Int32} {lo : Nat} : wP (kw_V adE adK adV zr b L0 xs lo) wG "MeetingHouseModel" 1410 12 140 0 .int := wPb_ok (by decide +kernel) wf_X13_1410 (r := "MeetingHouseModel") (n := "keyboardAt") (d := "I") (by decide +kernel) (by decide +kernel)
theorem wq_X13_1425 {adE adK adV : Nat → Nat} {zr : Nat → Value} {b L0 : Nat} {xs : Nat → Int32} {lo : Nat} : wP (kw_V adE adK adV zr b L0 xs lo) wG "MeetingHouseModel" 1425 12 177 0 .int := wPb_ok (by decide +kernel) wf_X13_1425 (r := "MeetingHouseModel") (n := "second") (d := "I") (by decide +kernel) (by decide +kernel)
theorem wq_X13_1428 {adE adK adV : Nat → Nat} {zr : Nat → Value} {b L0 : Nat} {xs : Nat → Int32} {lo : Nat} : wP (kw_V adE adK adV zr b L0 xs lo) wG "MeetingHouseModel" 1428 12 130 0 .int := wPb_ok (by decide +kernel) wf_X13_1428 (r := "MeetingHouseModel") (n := "meetings") (d := "I") (by decide +kernel) (by decide +kernel)
theorem wq_X13_1431 {adE adK adV : Nat → Nat} {zr : Nat → Value} {b L0 : Nat} {xs : Nat → Int32} {lo : Nat} : wP (kw_V adE adK adV zr b L0 xs lo) wG "MeetingHouseModel" 1431 12 127 0 .int := wPb_ok (by decide +kernel) wf_X13_1431 (r := "MeetingHouseModel") (n := "steps") (d := "I") (by decide +kernel) (by decide +kernel)
theorem wq_X13_1448 {adE adK adV : Nat → Nat} {zr : Nat → Value} {b L0 : Nat} {xs : Nat → Int32} {lo : Nat} : wP (kw_V adE adK adV zr b L0 xs lo) wG "MeetingHouseModel" 1448 12 137 0 .int := wPb_ok (by decide +kernel) wf_X13_1448 (r := "MeetingHouseModel") (n := "inSize") (d := "I") (by decide +kernel) (by decide +kernel)
theorem wq_X13_1454 {adE adK adV : Nat → Nat} {zr : Nat → Value} {b L0 : Nat} {xs : Nat → Int32} {lo : Nat} : wP (kw_V adE adK adV zr b L0 xs lo) wG "MeetingHouseModel" 1454 12 178 0 .boolean := wPb_ok (by decide +kernel) wf_X13_1454 (r := "MeetingHouseModel") (n := "secondPops") (d := "Z") (by decide +kernel) (by decide +kernel)
theorem wq_X13_1472 {adE adK adV : Nat → Nat} {zr : Nat → Value} {b L0 : Nat} {xs : Nat → Int32} {lo : Nat} : wP (kw_V adE adK adV zr b L0 xs lo) wG "MeetingHouseModel" 1472 12 126 0 .int := wPb_ok (by decide +kernel) wf_X13_1472 (r := "MeetingHouseModel") (n := "seed") (d := "I") (by decide +kernel) (by decide +kernel)
theorem wq_X13_1495 {adE adK adV : Nat → Nat} {zr : Nat → Value} {b L0 : Nat} {xs : Nat → Int32} {lo : Nat} : wP (kw_V adE adK adV zr b L0 xs lo) wG "MeetingHouseModel" 1495 12 179 0 .int := wPb_ok (by decide +kernel) wf_X13_1495 (r := "MeetingHouseModel") (n := "outer") (d := "I") (by decide +kernel) (by decide +kernel)
theorem wq_X13_451 {adE adK adV : Nat → Nat} {zr : Nat → Value} {b L0 : Nat} {xs : Nat → Int32} {lo : Nat} : wP (kw_V adE adK adV zr b L0 xs lo) wG "MeetingHouseModel" 451 12 1 0 .int := wPb_ok (by decide +kernel) wf_X13_451 (r := "MeetingHouseModel") (n := "thrown") (d := "I") (by decide +kernel) (by decide +kernel)
theorem wq_X13_455 {adE adK adV : Nat → Nat} {zr : Nat → Value} {b L0 : Nat} {xs : Nat → Int32} {lo : Nat} : wP (kw_V adE adK adV zr b L0 xs lo) wG "MeetingHouseModel" 455 12 3 0 .int := wPb_ok (by decide +kernel) wf_X13_455 (r := "MeetingHouseModel") (n := "taped") (d := "I") (by decide +kernel) (by decide +kernel)
theorem wq_X13_462 {adE adK adV : Nat → Nat} {zr : Nat → Value} {b L0 : Nat} {xs : Nat → Int32} {lo : Nat} : wP (kw_V adE adK adV zr b L0 xs lo) wG "MeetingHouseModel" 462 12 23 0 .int := wPb_ok (by decide +kernel) wf_X13_462 (r := "MeetingHouseModel") (n := "at") (d := "I") (by decide +kernel) (by decide +kernel)
theorem wq_X13_472 {adE adK adV : Nat → Nat} {zr : Nat → Value} {b L0 : Nat} {xs : Nat → Int32} {lo : Nat} : wP (kw_V adE adK adV zr b L0 xs lo) wG "MeetingHouseModel" 472 12 6 0 .int := wPb_ok (by decide +kernel) wf_X13_472 (r := "MeetingHouseModel") (n := "tokens") (d := "I") (by decide +kernel) (by decide +kernel)
theorem wq_X13_475 {adE adK adV : Nat → Nat} {zr : Nat → Value} {b L0 : Nat} {xs : Nat → Int32} {lo : Nat} : wP (kw_V adE adK adV zr b L0 xs lo) wG "MeetingHouseModel" 475 12 13 0 .int := wPb_ok (by decide +kernel) wf_X13_475 (r := "MeetingHouseModel") (n := "names") (d := "I") (by decide +kernel) (by decide +kernel)
theorem wq_X13_478 {adE adK adV : Nat → Nat} {zr : Nat → Value} {b L0 : Nat} {xs : Nat → Int32} {lo : Nat} : wP (kw_V adE adK adV zr b L0 xs lo) wG "MeetingHouseModel" 478 12 17 0 .int := wPb_ok (by decide +kernel) wf_X13_478 (r := "MeetingHouseModel") (n := "nameEnd") (d := "I") (by decide +kernel) (by decide +kernel)
theorem wq_X13_493 {adE adK adV : Nat → Nat} {zr : Nat → Value} {b L0 : Nat} {xs : Nat → Int32} {lo : Nat} : wP (kw_V adE adK adV zr b L0 xs lo) wG "MeetingHouseModel" 493 12 24 0 .int := wPb_ok (by decide +kernel) wf_X13_493 (r := "MeetingHouseModel") (n := "value") (d := "I") (by decide +kernel) (by decide +kernel)
theorem wq_X13_525 {adE adK adV : Nat → Nat} {zr : Nat → Value} {b L0 : Nat} {xs : Nat → Int32} {lo : Nat} : wP (kw_V adE adK adV zr b L0 xs lo) wG "MeetingHouseModel" 525 12 18 0 .int := wPb_ok (by decide +kernel) wf_X13_525 (r := "MeetingHouseModel") (n := "strings") (d := "I") (by decide +kernel) (by decide +kernel)
theorem wq_X13_528 {adE adK adV : Nat → Nat} {zr : Nat → Value} {b L0 : Nat} {xs : Nat → Int32} {lo : Nat} : wP (kw_V adE adK adV zr b L0 xs lo) wG "MeetingHouseModel" 528 12 22 0 .int := wPb_ok (by decide +kernel) wf_X13_528 (r := "MeetingHouseModel") (n := "stringEnd") (d := "I") (by decide +kernel) (by decide +kernel)
theorem wq_X13_531 {adE adK adV : Nat → Nat} {zr : Nat → Value} {b L0 : Nat} {xs : Nat → Int32} {lo : Nat} : wP (kw_V adE adK adV zr b L0 xs lo) wG "MeetingHouseModel" 531 12 11 0 .int := wPb_ok (by decide +kernel) wf_X13_531 (r := "MeetingHouseModel") (n := "realTokens") (d := "I") (by decide +kernel) (by decide +kernel)
theorem wq_X13_534 {adE adK adV : Nat → Nat} {zr : Nat → Value} {b L0 : Nat} {xs : Nat → Int32} {lo : Nat} : wP (kw_V adE adK adV zr b L0 xs lo) wG "MeetingHouseModel" 534 12 12 0 .int := wPb_ok (by decide +kernel) wf_X13_534 (r := "MeetingHouseModel") (n := "realLines") (d := "I") (by decide +kernel) (by decide +kernel)
theorem wq_X13_544 {adE adK adV : Nat → Nat} {zr : Nat → Value} {b L0 : Nat} {xs : Nat → Int32} {lo : Nat} : wP (kw_V adE adK adV zr b L0 xs lo) wG "MeetingHouseModel" 544 12 25 0 .int := wPb_ok (by decide +kernel) wf_X13_544 (r := "MeetingHouseModel") (n := "nodes") (d := "I") (by decide +kernel) (by decide +kernel)
theorem wq_X13_547 {adE adK adV : Nat → Nat} {zr : Nat → Value} {b L0 : Nat} {xs : Nat → Int32} {lo : Nat} : wP (kw_V adE adK adV zr b L0 xs lo) wG "MeetingHouseModel" 547 12 35 0 .int := wPb_ok (by decide +kernel) wf_X13_547 (r := "MeetingHouseModel") (n := "t") (d := "I") (by decide +kernel) (by decide +kernel)
theorem wq_X13_550 {adE adK adV : Nat → Nat} {zr : Nat → Value} {b L0 : Nat} {xs : Nat → Int32} {lo : Nat} : wP (kw_V adE adK adV zr b L0 xs lo) wG "MeetingHouseModel" 550 12 36 0 .int := wPb_ok (by decide +kernel) wf_X13_550 (r := "MeetingHouseModel") (n := "fault") (d := "I") (by decide +kernel) (by decide +kernel)
theorem wq_X13_553 {adE adK adV : Nat → Nat} {zr : Nat → Value} {b L0 : Nat} {xs : Nat → Int32} {lo : Nat} : wP (kw_V adE adK adV zr b L0 xs lo) wG "MeetingHouseModel" 553 12 37 0 .int := wPb_ok (by decide +kernel) wf_X13_553 (r := "MeetingHouseModel") (n := "faultLine") (d := "I") (by decide +kernel) (by decide +kernel)
theorem wq_X13_669 {adE adK adV : Nat → Nat} {zr : Nat → Value} {b L0 : Nat} {xs : Nat → Int32} {lo : Nat} : wP (kw_V adE adK adV zr b L0 xs lo) wG "MeetingHouseModel" 669 12 38 0 .int := wPb_ok (by decide +kernel) wf_X13_669 (r := "MeetingHouseModel") (n := "open") (d := "I") (by decide +kernel) (by decide +kernel)
theorem wq_X13_716 {adE adK adV : Nat → Nat} {zr : Nat → Value} {b L0 : Nat} {xs : Nat → Int32} {lo : Nat} : wP (kw_V adE adK adV zr b L0 xs lo) wG "MeetingHouseModel" 716 12 64 0 .int := wPb_ok (by decide +kernel) wf_X13_716 (r := "MeetingHouseModel") (n := "worst") (d := "I") (by decide +kernel) (by decide +kernel)
theorem wq_X13_719 {adE adK adV : Nat → Nat} {zr : Nat → Value} {b L0 : Nat} {xs : Nat → Int32} {lo : Nat} : wP (kw_V adE adK adV zr b L0 xs lo) wG "MeetingHouseModel" 719 12 65 0 .int := wPb_ok (by decide +kernel) wf_X13_719 (r := "MeetingHouseModel") (n := "worstLine") (d := "I") (by decide +kernel) (by decide +kernel)
theorem wq_X13_722 {adE adK adV : Nat → Nat} {zr : Nat → Value} {b L0 : Nat} {xs : Nat → Int32} {lo : Nat} : wP (kw_V adE adK adV zr b L0 xs lo) wG "MeetingHouseModel" 722 12 44 0 .int := wPb_ok (by decide +kernel) wf_X13_722 (r := "MeetingHouseModel") (n := "symbols") (d := "I") (by decide +kernel) (by decide +kernel)
theorem wq_X13_725 {adE adK adV : Nat → Nat} {zr : Nat → Value} {b L0 : Nat} {xs : Nat → Int32} {lo : Nat} : wP (kw_V adE adK adV zr b L0 xs lo) wG "MeetingHouseModel" 725 12 62 0 .int := wPb_ok (by decide +kernel) wf_X13_725 (r := "MeetingHouseModel") (n := "unit") (d := "I") (by decide +kernel) (by decide +kernel)
theorem wq_X13_728 {adE adK adV : Nat → Nat} {zr : Nat → Value} {b L0 : Nat} {xs : Nat → Int32} {lo : Nat} : wP (kw_V adE adK adV zr b L0 xs lo) wG "MeetingHouseModel" 728 12 56 0 .int := wPb_ok (by decide +kernel) wf_X13_728 (r := "MeetingHouseModel") (n := "known") (d := "I") (by decide +kernel) (by decide +kernel)
theorem wq_X13_737 {adE adK adV : Nat → Nat} {zr : Nat → Value} {b L0 : Nat} {xs : Nat → Int32} {lo : Nat} : wP (kw_V adE adK adV zr b L0 xs lo) wG "MeetingHouseModel" 737 12 59 0 .int := wPb_ok (by decide +kernel) wf_X13_737 (r := "MeetingHouseModel") (n := "units") (d := "I") (by decide +kernel) (by decide +kernel)
theorem wq_X13_793 {adE adK adV : Nat → Nat} {zr : Nat → Value} {b L0 : Nat} {xs : Nat → Int32} {lo : Nat} : wP (kw_V adE adK adV zr b L0 xs lo) wG "MeetingHouseModel" 793 12 58 0 .int := wPb_ok (by decide +kernel) wf_X13_793 (r := "MeetingHouseModel") (n := "declared") (d := "I") (by decide +kernel) (by decide +kernel)
theorem wq_X13_836 {adE adK adV : Nat → Nat} {zr : Nat → Value} {b L0 : Nat} {xs : Nat → Int32} {lo : Nat} : wP (kw_V adE adK adV zr b L0 xs lo) wG "MeetingHouseModel" 836 12 72 0 .int := wPb_ok (by decide +kernel) wf_X13_836 (r := "MeetingHouseModel") (n := "failed") (d := "I") (by decide +kernel) (by decide +kernel)
theorem wq_X13_859 {adE adK adV : Nat → Nat} {zr : Nat → Value} {b L0 : Nat} {xs : Nat → Int32} {lo : Nat} : wP (kw_V adE adK adV zr b L0 xs lo) wG "MeetingHouseModel" 859 12 73 0 .int := wPb_ok (by decide +kernel) wf_X13_859 (r := "MeetingHouseModel") (n := "many") (d := "I") (by decide +kernel) (by decide +kernel)
theorem wq_X13_925 {adE adK adV : Nat → Nat} {zr : Nat → Value} {b L0 : Nat} {xs : Nat → Int32} {lo : Nat} : wP (kw_V adE adK adV zr b L0 xs lo) wG "MeetingHouseModel" 925 12 75 0 .int := wPb_ok (by decide +kernel) wf_X13_925 (r := "MeetingHouseModel") (n := "told") (d := "I") (by decide +kernel) (by decide +kernel)
theorem wq_X13_931 {adE adK adV : Nat → Nat} {zr : Nat → Value} {b L0 : Nat} {xs : Nat → Int32} {lo : Nat} : wP (kw_V adE adK adV zr b L0 xs lo) wG "MeetingHouseModel" 931 12 74 0 .int := wPb_ok (by decide +kernel) wf_X13_931 (r := "MeetingHouseModel") (n := "staticCells") (d := "I") (by decide +kernel) (by decide +kernel)
theorem wq_X13_938 {adE adK adV : Nat → Nat} {zr : Nat → Value} {b L0 : Nat} {xs : Nat → Int32} {lo : Nat} : wP (kw_V adE adK adV zr b L0 xs lo) wG "MeetingHouseModel" 938 12 79 1 .long := wPb_ok (by decide +kernel) wf_X13_938 (r := "MeetingHouseModel") (n := "weight") (d := "J") (by decide +kernel) (by decide +kernel)
theorem wq_X13_974 {adE adK adV : Nat → Nat} {zr : Nat → Value} {b L0 : Nat} {xs : Nat → Int32} {lo : Nat} : wP (kw_V adE adK adV zr b L0 xs lo) wG "MeetingHouseModel" 974 12 89 0 .int := wPb_ok (by decide +kernel) wf_X13_974 (r := "MeetingHouseModel") (n := "placeSymbol") (d := "I") (by decide +kernel) (by decide +kernel)
theorem wq_X13_977 {adE adK adV : Nat → Nat} {zr : Nat → Value} {b L0 : Nat} {xs : Nat → Int32} {lo : Nat} : wP (kw_V adE adK adV zr b L0 xs lo) wG "MeetingHouseModel" 977 12 90 0 .int := wPb_ok (by decide +kernel) wf_X13_977 (r := "MeetingHouseModel") (n := "placeIndex") (d := "I") (by decide +kernel) (by decide +kernel)
theorem wq_X13_985 {adE adK adV : Nat → Nat} {zr : Nat → Value} {b L0 : Nat} {xs : Nat → Int32} {lo : Nat} : wP (kw_V adE adK adV zr b L0 xs lo) wG "MeetingHouseModel" 985 12 93 0 .int := wPb_ok (by decide +kernel) wf_X13_985 (r := "MeetingHouseModel") (n := "free") (d := "I") (by decide +kernel) (by decide +kernel)
theorem wq_X13_988 {adE adK adV : Nat → Nat} {zr : Nat → Value} {b L0 : Nat} {xs : Nat → Int32} {lo : Nat} : wP (kw_V adE adK adV zr b L0 xs lo) wG "MeetingHouseModel" 988 12 91 0 .boolean := wPb_ok (by decide +kernel) wf_X13_988 (r := "MeetingHouseModel") (n := "placeAll") (d := "Z") (by decide +kernel) (by decide +kernel)
theorem wq_X13_998 {adE adK adV : Nat → Nat} {zr : Nat → Value} {b L0 : Nat} {xs : Nat → Int32} {lo : Nat} : wP (kw_V adE adK adV zr b L0 xs lo) wG "MeetingHouseModel" 998 12 98 0 .int := wPb_ok (by decide +kernel) wf_X13_998 (r := "MeetingHouseModel") (n := "kept") (d := "I") (by decide +kernel) (by decide +kernel)
def zb_X13_thrown_p0 (E : zE) (L : Nat) (Q : kx_Rs → wS → Prop) (w : wS) : Prop := Q (.inl (some (.int (w_i w 12 0 1)))) w
theorem zt_X13_thrown_p0 {E : zE} {L : Nat} {Q : kx_Rs → wS → Prop} {w : wS} (hL : 19 ≤ L) (h : zb_X13_thrown_p0 E L Q  w) : kzE E L kt_M561 0 [(0, .ref (w_adr E.2.1 12 0))] [] w Q := by
  unfold zb_X13_thrown_p0 at h
  refine kz_aload_n (M := kt_M561) kX13_thrown_c0.1 rfl ?_
  refine kz_gfi (M := kt_M561) (c := 12) (o := 0) kX13_thrown_c0.2.1 wf_X13_451 (.inl rfl) ?_
  exact kz_iret (M := kt_M561) kX13_thrown_c0.2.2.1 rfl rfl h
def zb_X13_feed_p0 (E : zE) (L : Nat) (Q : kx_Rs → wS → Prop) (x1 : Int32) (x2 : Int32) (x3 : Int32) (x4 : Int32) (x5 : Int32) (w : wS) : Prop := (if ((w_i w 12 0 3) + 20) ≤ 6000 then zw E (L - 22) kt_M519 [.ref (w_adr E.2.1 12 0), .int x1] (ws_i w 12 0 1 0) (wk0 (fun w1 => wle (ws_i w 12 0 1 0) w1 → zw E (L - 22) kt_M519 [.ref (w_adr E.2.1 12 0), .int x2] w1 (wk0 (fun w3 => wle w1 w3 → zw E (L - 22) kt_M519 [.ref (w_adr E.2.1 12 0), .int x3] w3 (wk0 (fun w5 => wle w3 w5 → zw E (L - 22) kt_M519 [.ref (w_adr E.2.1 12 0), .int x4] w5 (wk0 (fun w7 => wle w5 w7 → zw E (L - 22) kt_M519 [.ref (w_adr E.2.1 12 0), .int x5] w7 (wk0 (fun w9 => wle w7 w9 → Q (.inl (some (.int (w_i w9 12 0 3)))) w9) (fun e w => Q (.inr e) w))) (fun e w => Q (.inr e) w))) (fun e w => Q (.inr e) w))) (fun e w => Q (.inr e) w))) (fun e w => Q (.inr e) w)) else Q (.inl (some (.int (-1)))) (ws_i w 12 0 1 0))
theorem zt_X13_feed_p0 {E : zE} {L : Nat} {Q : kx_Rs → wS → Prop} {x1 : Int32} {x2 : Int32} {x3 : Int32} {x4 : Int32} {x5 : Int32} {w : wS} (hL : 22 ≤ L) (h : zb_X13_feed_p0 E L Q x1 x2 x3 x4 x5 w) : kzE E L kt_M409 0 [(0, .ref (w_adr E.2.1 12 0)), (1, .int x1), (2, .int x2), (3, .int x3), (4, .int x4), (5, .int x5)] [] w Q := by
  unfold zb_X13_feed_p0 at h
  refine kz_aload_n (M := kt_M409) kX13_feed_c0.1 rfl ?_
  refine kz_ic (M := kt_M409) 0 kX13_feed_c0.2.1 rfl ?_
  refine kz_pfi (M := kt_M409) (c := 12) (o := 0) kX13_feed_c0.2.2.1 wq_X13_451 (.inl rfl) ?_
  refine kz_aload_n (M := kt_M409) kX13_feed_c0.2.2.2.1 rfl ?_
  refine kz_gfiR (M := kt_M409) (c := 12) (o := 0) (w_i w 12 0 3) kX13_feed_c0.2.2.2.2.1 wf_X13_455 (.inl rfl) (rd_i_i rfl) ?_
  refine kz_bi (M := kt_M409) 20 kX13_feed_c0.2.2.2.2.2.1 rfl ?_
  refine kz_iadd (M := kt_M409) kX13_feed_c0.2.2.2.2.2.2.1 ?_
  refine kz_si (M := kt_M409) 6000 kX13_feed_c0.2.2.2.2.2.2.2.1 rfl ?_
  refine kz_icmp_le (M := kt_M409) kX13_feed_c1.1 (t := 20) rfl h (fun h => ?_) (fun h => ?_)
  · skip
    refine kz_aload_n (M := kt_M409) kX13_feed_c1.2.2.2.1 rfl ?_
    refine kz_iload_n (M := kt_M409) kX13_feed_c1.2.2.2.2.1 rfl ?_
    refine kz_cv0 (M := kt_M409) (c := 12) (o := 0) (As := [.int x1]) (rest := []) kX13_feed_c1.2.2.2.2.2.1 wl_X13_458 wMv_519 rfl (.inl rfl) rfl (Nat.le_trans (Nat.le_of_ble_eq_true rfl) hL) (Nat.le_of_ble_eq_true rfl) (Nat.le_of_ble_eq_true rfl) h (fun w1 hle h => ?_) (fun _ _ _ h => kzx_no rfl h)
    have h := h hle
    refine kz_aload_n (M := kt_M409) kX13_feed_c1.2.2.2.2.2.2.1 rfl ?_
    refine kz_iload_n (M := kt_M409) kX13_feed_c1.2.2.2.2.2.2.2.1 rfl ?_
    refine kz_cv0 (M := kt_M409) (c := 12) (o := 0) (As := [.int x2]) (rest := []) kX13_feed_c2.1 wl_X13_458 wMv_519 rfl (.inl rfl) rfl (Nat.le_trans (Nat.le_of_ble_eq_true rfl) hL) (Nat.le_of_ble_eq_true rfl) (Nat.le_of_ble_eq_true rfl) h (fun w3 hle h => ?_) (fun _ _ _ h => kzx_no rfl h)
    have h := h hle
    refine kz_aload_n (M := kt_M409) kX13_feed_c2.2.1 rfl ?_
    refine kz_iload_n (M := kt_M409) kX13_feed_c2.2.2.1 rfl ?_
    refine kz_cv0 (M := kt_M409) (c := 12) (o := 0) (As := [.int x3]) (rest := []) kX13_feed_c2.2.2.2.1 wl_X13_458 wMv_519 rfl (.inl rfl) rfl (Nat.le_trans (Nat.le_of_ble_eq_true rfl) hL) (Nat.le_of_ble_eq_true rfl) (Nat.le_of_ble_eq_true rfl) h (fun w5 hle h => ?_) (fun _ _ _ h => kzx_no rfl h)
    have h := h hle
    refine kz_aload_n (M := kt_M409) kX13_feed_c2.2.2.2.2.1 rfl ?_
    refine kz_iload (M := kt_M409) kX13_feed_c2.2.2.2.2.2.1 rfl ?_
    refine kz_cv0 (M := kt_M409) (c := 12) (o := 0) (As := [.int x4]) (rest := []) kX13_feed_c2.2.2.2.2.2.2.1 wl_X13_458 wMv_519 rfl (.inl rfl) rfl (Nat.le_trans (Nat.le_of_ble_eq_true rfl) hL) (Nat.le_of_ble_eq_true rfl) (Nat.le_of_ble_eq_true rfl) h (fun w7 hle h => ?_) (fun _ _ _ h => kzx_no rfl h)
    have h := h hle
    refine kz_aload_n (M := kt_M409) kX13_feed_c2.2.2.2.2.2.2.2.1 rfl ?_
    refine kz_iload (M := kt_M409) kX13_feed_c3.1 rfl ?_
    refine kz_cv0 (M := kt_M409) (c := 12) (o := 0) (As := [.int x5]) (rest := []) kX13_feed_c3.2.1 wl_X13_458 wMv_519 rfl (.inl rfl) rfl (Nat.le_trans (Nat.le_of_ble_eq_true rfl) hL) (Nat.le_of_ble_eq_true rfl) (Nat.le_of_ble_eq_true rfl) h (fun w9 hle h => ?_) (fun _ _ _ h => kzx_no rfl h)
    have h := h hle
    refine kz_aload_n (M := kt_M409) kX13_feed_c3.2.2.1 rfl ?_
    refine kz_gfi (M := kt_M409) (c := 12) (o := 0) kX13_feed_c3.2.2.2.1 wf_X13_455 (.inl rfl) ?_
    exact kz_iret (M := kt_M409) kX13_feed_c3.2.2.2.2.1 rfl rfl h
  · skip
    refine kz_ic (M := kt_M409) (-1) kX13_feed_c1.2.1 rfl ?_
    exact kz_iret (M := kt_M409) kX13_feed_c1.2.2.1 rfl rfl h
def zL_X13_put_p3 (E : zE) (L : Nat) (Q : kx_Rs → wS → Prop) (x1 : Int32) (x2 : Int32) (w : wS) : Prop := kzE E L kt_M519 3 [(0, .ref (w_adr E.2.1 12 0)), (1, .int x1), (2, .int x2)] [] w Q
def zb_X13_put_p3 (E : zE) (L : Nat) (Q : kx_Rs → wS → Prop) (x1 : Int32) (x2 : Int32) (w : wS) : Prop := (if x2 < 0 then Q (.inl none) w else (kx_inb (w_i w 12 0 3) (w_n w 12 0 2) = true ∧ zL_X13_put_p3 E L Q x1 (x2 + (-8)) (ws_i (ws_a w 12 0 2 (w_i w 12 0 3).toNatClampNeg ((x1 >>> (x2 &&& 31)) &&& 255)) 12 0 3 ((w_i w 12 0 3) + 1))))
theorem zt_X13_put_p3 {E : zE} {L : Nat} {Q : kx_Rs → wS → Prop} {x1 : Int32} {x2 : Int32} {w : wS} (hL : 19 ≤ L) (h : zb_X13_put_p3 E L Q x1 x2 w) : kzE E L kt_M519 3 [(0, .ref (w_adr E.2.1 12 0)), (1, .int x1), (2, .int x2)] [] w Q := by
  unfold zb_X13_put_p3 at h
  refine kz_iload_n (M := kt_M519) kX13_put_c0.2.2.1 rfl ?_
  refine kz_if_lt (M := kt_M519) kX13_put_c0.2.2.2.1 (t := 39) rfl h (fun h => ?_) (fun h => ?_)
  · skip
    exact kz_ret (M := kt_M519) kX13_put_c2.2.2.2.2.2.2.1 rfl h
  · skip
    refine kz_aload_n (M := kt_M519) kX13_put_c0.2.2.2.2.1 rfl ?_
    refine kz_gfc (M := kt_M519) (x := 4074) (c := 12) (o := 0) kX13_put_c0.2.2.2.2.2.1 wf_X13_16 (.inl rfl) ?_
    refine kz_aload_n (M := kt_M519) kX13_put_c0.2.2.2.2.2.2.1 rfl ?_
    refine kz_gfi (M := kt_M519) (c := 12) (o := 0) kX13_put_c0.2.2.2.2.2.2.2.1 wf_X13_455 (.inl rfl) ?_
    refine kz_iload_n (M := kt_M519) kX13_put_c1.1 rfl ?_
    refine kz_iload_n (M := kt_M519) kX13_put_c1.2.1 rfl ?_
    refine kz_ishr (M := kt_M519) kX13_put_c1.2.2.1 ?_
    refine kz_si (M := kt_M519) 255 kX13_put_c1.2.2.2.1 rfl ?_
    refine kz_iand (M := kt_M519) kX13_put_c1.2.2.2.2.1 ?_
    refine kz_iast (M := kt_M519) (c := 12) (o := 0) (k := 2) (a := (E.2.1 4074)) kX13_put_c1.2.2.2.2.2.1 ow_12_0_2 oa_12_0_2 ot_0 h (fun h => ?_)
    refine kz_aload_n (M := kt_M519) kX13_put_c1.2.2.2.2.2.2.1 rfl ?_
    refine kz_dup (M := kt_M519) kX13_put_c1.2.2.2.2.2.2.2.1 rfl ?_
    refine kz_gfiR (M := kt_M519) (c := 12) (o := 0) (w_i w 12 0 3) kX13_put_c2.1 wf_X13_455 (.inl rfl) rd_i_a ?_
    refine kz_ic (M := kt_M519) 1 kX13_put_c2.2.1 rfl ?_
    refine kz_iadd (M := kt_M519) kX13_put_c2.2.2.1 ?_
    refine kz_pfi (M := kt_M519) (c := 12) (o := 0) kX13_put_c2.2.2.2.1 wq_X13_455 (.inl rfl) ?_
    refine kz_inc (M := kt_M519) [(0, .ref (w_adr E.2.1 12 0)), (1, .int x1)] kX13_put_c2.2.2.2.2.1 rfl (Nat.le_of_ble_eq_true rfl) ⟨⟨rfl, rfl, .inl rfl⟩, ⟨⟨rfl, rfl, .inr rfl⟩, trivial⟩⟩ rfl ?_
    refine kz_goto (M := kt_M519) kX13_put_c2.2.2.2.2.2.1 (t := 3) rfl ?_
    exact kz_weak [(0, .ref (w_adr E.2.1 12 0)), (1, .int x1), (2, .int (x2 + (-8)))] ⟨rfl, ⟨rfl, ⟨rfl, trivial⟩⟩⟩ rfl h
def zb_X13_put_p0 (E : zE) (L : Nat) (Q : kx_Rs → wS → Prop) (x1 : Int32) (w : wS) : Prop := zL_X13_put_p3 E L Q x1 24 w
theorem zt_X13_put_p0 {E : zE} {L : Nat} {Q : kx_Rs → wS → Prop} {x1 : Int32} {w : wS} (hL : 19 ≤ L) (h : zb_X13_put_p0 E L Q x1 w) : kzE E L kt_M519 0 [(0, .ref (w_adr E.2.1 12 0)), (1, .int x1)] [] w Q := by
  unfold zb_X13_put_p0 at h
  refine kz_bi (M := kt_M519) 24 kX13_put_c0.1 rfl ?_
  refine kz_sti_n (M := kt_M519) [(0, .ref (w_adr E.2.1 12 0)), (1, .int x1)] kX13_put_c0.2.1 (Nat.le_of_ble_eq_true rfl) ⟨⟨rfl, rfl, .inl rfl⟩, ⟨⟨rfl, rfl, .inr rfl⟩, trivial⟩⟩ rfl ?_
  exact kz_weak [(0, .ref (w_adr E.2.1 12 0)), (1, .int x1), (2, .int 24)] ⟨rfl, ⟨rfl, ⟨rfl, trivial⟩⟩⟩ rfl h
def zb_X13_back_p17 (E : zE) (L : Nat) (Q : kx_Rs → wS → Prop) (w : wS) : Prop := Q (.inl (some (.int (-1)))) w
theorem zt_X13_back_p17 {E : zE} {L : Nat} {Q : kx_Rs → wS → Prop} {w : wS} (hL : 19 ≤ L) (h : zb_X13_back_p17 E L Q  w) : kzE E L kt_M356 17 [(0, .ref (w_adr E.2.1 12 0))] [] w Q := by
  unfold zb_X13_back_p17 at h
  refine kz_ic (M := kt_M356) (-1) kX13_back_c1.2.1 rfl ?_
  exact kz_iret (M := kt_M356) kX13_back_c1.2.2.1 rfl rfl h
def zb_X13_back_p0 (E : zE) (L : Nat) (Q : kx_Rs → wS → Prop) (x1 : Int32) (w : wS) : Prop := (if x1 < 0 then zb_X13_back_p17 E L Q (ws_i w 12 0 1 0) else (if x1 ≤ w_i w 12 0 3 then Q (.inl (some (.int ((w_i w 12 0 3) - x1)))) (ws_i (ws_i w 12 0 1 0) 12 0 3 ((w_i w 12 0 3) - x1)) else zb_X13_back_p17 E L Q (ws_i w 12 0 1 0)))
theorem zt_X13_back_p0 {E : zE} {L : Nat} {Q : kx_Rs → wS → Prop} {x1 : Int32} {w : wS} (hL : 19 ≤ L) (h : zb_X13_back_p0 E L Q x1 w) : kzE E L kt_M356 0 [(0, .ref (w_adr E.2.1 12 0)), (1, .int x1)] [] w Q := by
  unfold zb_X13_back_p0 at h
  refine kz_aload_n (M := kt_M356) kX13_back_c0.1 rfl ?_
  refine kz_ic (M := kt_M356) 0 kX13_back_c0.2.1 rfl ?_
  refine kz_pfi (M := kt_M356) (c := 12) (o := 0) kX13_back_c0.2.2.1 wq_X13_451 (.inl rfl) ?_
  refine kz_iload_n (M := kt_M356) kX13_back_c0.2.2.2.1 rfl ?_
  refine kz_if_lt (M := kt_M356) kX13_back_c0.2.2.2.2.1 (t := 17) rfl h (fun h => ?_) (fun h => ?_)
  · skip
    exact kz_weak [(0, .ref (w_adr E.2.1 12 0))] ⟨rfl, trivial⟩ rfl (zt_X13_back_p17 hL  h)
  · skip
    refine kz_iload_n (M := kt_M356) kX13_back_c0.2.2.2.2.2.1 rfl ?_
    refine kz_aload_n (M := kt_M356) kX13_back_c0.2.2.2.2.2.2.1 rfl ?_
    refine kz_gfiR (M := kt_M356) (c := 12) (o := 0) (w_i w 12 0 3) kX13_back_c0.2.2.2.2.2.2.2.1 wf_X13_455 (.inl rfl) (rd_i_i rfl) ?_
    refine kz_icmp_le (M := kt_M356) kX13_back_c1.1 (t := 19) rfl h (fun h => ?_) (fun h => ?_)
    · skip
      refine kz_aload_n (M := kt_M356) kX13_back_c1.2.2.2.1 rfl ?_
      refine kz_dup (M := kt_M356) kX13_back_c1.2.2.2.2.1 rfl ?_
      refine kz_gfiR (M := kt_M356) (c := 12) (o := 0) (w_i w 12 0 3) kX13_back_c1.2.2.2.2.2.1 wf_X13_455 (.inl rfl) (rd_i_i rfl) ?_
      refine kz_iload_n (M := kt_M356) kX13_back_c1.2.2.2.2.2.2.1 rfl ?_
      refine kz_isub (M := kt_M356) kX13_back_c1.2.2.2.2.2.2.2.1 ?_
      refine kz_pfi (M := kt_M356) (c := 12) (o := 0) kX13_back_c2.1 wq_X13_455 (.inl rfl) ?_
      refine kz_aload_n (M := kt_M356) kX13_back_c2.2.1 rfl ?_
      refine kz_gfiR (M := kt_M356) (c := 12) (o := 0) ((w_i w 12 0 3) - x1) kX13_back_c2.2.2.1 wf_X13_455 (.inl rfl) rd_i_e ?_
      exact kz_iret (M := kt_M356) kX13_back_c2.2.2.2.1 rfl rfl h
    · skip
      exact kz_weak [(0, .ref (w_adr E.2.1 12 0))] ⟨rfl, trivial⟩ rfl (zt_X13_back_p17 hL  h)
def zb_X13_read_p0 (E : zE) (L : Nat) (Q : kx_Rs → wS → Prop) (w : wS) : Prop := zw E (L - 26) kt_M531 [.ref (w_adr E.2.1 12 0)] (ws_i w 12 0 1 0) (wk0 (fun w1 => wle (ws_i w 12 0 1 0) w1 → zw E (L - 21) kt_M502 [.ref (w_adr E.2.1 12 0)] (ws_i (ws_i (ws_i w1 12 0 3 0) 12 0 110 0) 12 0 123 0) (wk1 (fun v4 w3 => wle (ws_i (ws_i (ws_i w1 12 0 3 0) 12 0 110 0) 12 0 123 0) w3 → (if ¬ v4 = 0 then zw E (L - 20) kt_M526 [.ref (w_adr E.2.1 12 0)] w3 (wk1 (fun v6 w5 => wle w3 w5 → (if ¬ v6 = 0 then Q (.inl (some (.int 0))) (ws_i w5 12 0 110 1) else Q (.inl (some (.int ((w_i w5 12 0 64) + (16 * (w_i w5 12 0 65)))))) w5)) (fun e w => Q (.inr e) w)) else Q (.inl (some (.int ((w_i w3 12 0 36) + (16 * (w_i w3 12 0 37)))))) w3)) (fun e w => Q (.inr e) w))) (fun e w => Q (.inr e) w))
theorem zt_X13_read_p0 {E : zE} {L : Nat} {Q : kx_Rs → wS → Prop} {w : wS} (hL : 26 ≤ L) (h : zb_X13_read_p0 E L Q  w) : kzE E L kt_M520 0 [(0, .ref (w_adr E.2.1 12 0))] [] w Q := by
  unfold zb_X13_read_p0 at h
  refine kz_aload_n (M := kt_M520) kX13_read_c0.1 rfl ?_
  refine kz_ic (M := kt_M520) 0 kX13_read_c0.2.1 rfl ?_
  refine kz_pfi (M := kt_M520) (c := 12) (o := 0) kX13_read_c0.2.2.1 wq_X13_451 (.inl rfl) ?_
  refine kz_aload_n (M := kt_M520) kX13_read_c0.2.2.2.1 rfl ?_
  refine kz_cv0 (M := kt_M520) (c := 12) (o := 0) (As := []) (rest := []) kX13_read_c0.2.2.2.2.1 wl_X13_1116 wMv_531 rfl (.inl rfl) rfl (Nat.le_trans (Nat.le_of_ble_eq_true rfl) hL) (Nat.le_of_ble_eq_true rfl) (Nat.le_of_ble_eq_true rfl) h (fun w1 hle h => ?_) (fun _ _ _ h => kzx_no rfl h)
  have h := h hle
  refine kz_aload_n (M := kt_M520) kX13_read_c0.2.2.2.2.2.1 rfl ?_
  refine kz_ic (M := kt_M520) 0 kX13_read_c0.2.2.2.2.2.2.1 rfl ?_
  refine kz_pfi (M := kt_M520) (c := 12) (o := 0) kX13_read_c0.2.2.2.2.2.2.2.1 wq_X13_455 (.inl rfl) ?_
  refine kz_aload_n (M := kt_M520) kX13_read_c1.1 rfl ?_
  refine kz_ic (M := kt_M520) 0 kX13_read_c1.2.1 rfl ?_
  refine kz_pfz (M := kt_M520) (c := 12) (o := 0) kX13_read_c1.2.2.1 wq_X13_1119 (.inl rfl) (by decide) ?_
  refine kz_aload_n (M := kt_M520) kX13_read_c1.2.2.2.1 rfl ?_
  refine kz_ic (M := kt_M520) 0 kX13_read_c1.2.2.2.2.1 rfl ?_
  refine kz_pfz (M := kt_M520) (c := 12) (o := 0) kX13_read_c1.2.2.2.2.2.1 wq_X13_1122 (.inl rfl) (by decide) ?_
  refine kz_aload_n (M := kt_M520) kX13_read_c1.2.2.2.2.2.2.1 rfl ?_
  refine kz_cv1 (M := kt_M520) (c := 12) (o := 0) (As := []) (rest := []) kX13_read_c1.2.2.2.2.2.2.2.1 wl_X13_1125 wMv_502 rfl (.inl rfl) rfl (Nat.le_trans (Nat.le_of_ble_eq_true rfl) hL) (Nat.le_of_ble_eq_true rfl) (Nat.le_of_ble_eq_true rfl) h (fun v4 w3 hle h => ?_) (fun _ _ _ h => kzx_no rfl h)
  have h := h hle
  refine kz_if_ne (M := kt_M520) kX13_read_c2.1 (t := 44) rfl h (fun h => ?_) (fun h => ?_)
  · skip
    refine kz_aload_n (M := kt_M520) kX13_read_c3.2.1 rfl ?_
    refine kz_cv1 (M := kt_M520) (c := 12) (o := 0) (As := []) (rest := []) kX13_read_c3.2.2.1 wl_X13_1128 wMv_526 rfl (.inl rfl) rfl (Nat.le_trans (Nat.le_of_ble_eq_true rfl) hL) (Nat.le_of_ble_eq_true rfl) (Nat.le_of_ble_eq_true rfl) h (fun v6 w5 hle h => ?_) (fun _ _ _ h => kzx_no rfl h)
    have h := h hle
    refine kz_if_ne (M := kt_M520) kX13_read_c3.2.2.2.1 (t := 64) rfl h (fun h => ?_) (fun h => ?_)
    · skip
      refine kz_aload_n (M := kt_M520) kX13_read_c4.2.2.2.2.1 rfl ?_
      refine kz_ic (M := kt_M520) 1 kX13_read_c4.2.2.2.2.2.1 rfl ?_
      refine kz_pfz (M := kt_M520) (c := 12) (o := 0) kX13_read_c4.2.2.2.2.2.2.1 wq_X13_1119 (.inl rfl) (by decide) ?_
      refine kz_ic (M := kt_M520) 0 kX13_read_c4.2.2.2.2.2.2.2.1 rfl ?_
      exact kz_iret (M := kt_M520) kX13_read_c5.1 rfl rfl h
    · skip
      refine kz_aload_n (M := kt_M520) kX13_read_c3.2.2.2.2.1 rfl ?_
      refine kz_gfi (M := kt_M520) (c := 12) (o := 0) kX13_read_c3.2.2.2.2.2.1 wf_X13_716 (.inl rfl) ?_
      refine kz_bi (M := kt_M520) 16 kX13_read_c3.2.2.2.2.2.2.1 rfl ?_
      refine kz_aload_n (M := kt_M520) kX13_read_c3.2.2.2.2.2.2.2.1 rfl ?_
      refine kz_gfi (M := kt_M520) (c := 12) (o := 0) kX13_read_c4.1 wf_X13_719 (.inl rfl) ?_
      refine kz_imul (M := kt_M520) kX13_read_c4.2.1 ?_
      refine kz_iadd (M := kt_M520) kX13_read_c4.2.2.1 ?_
      exact kz_iret (M := kt_M520) kX13_read_c4.2.2.2.1 rfl rfl h
  · skip
    refine kz_aload_n (M := kt_M520) kX13_read_c2.2.1 rfl ?_
    refine kz_gfi (M := kt_M520) (c := 12) (o := 0) kX13_read_c2.2.2.1 wf_X13_550 (.inl rfl) ?_
    refine kz_bi (M := kt_M520) 16 kX13_read_c2.2.2.2.1 rfl ?_
    refine kz_aload_n (M := kt_M520) kX13_read_c2.2.2.2.2.1 rfl ?_
    refine kz_gfi (M := kt_M520) (c := 12) (o := 0) kX13_read_c2.2.2.2.2.2.1 wf_X13_553 (.inl rfl) ?_
    refine kz_imul (M := kt_M520) kX13_read_c2.2.2.2.2.2.2.1 ?_
    refine kz_iadd (M := kt_M520) kX13_read_c2.2.2.2.2.2.2.2.1 ?_
    exact kz_iret (M := kt_M520) kX13_read_c3.1 rfl rfl h
def zL_X13_scanAll_p196 (E : zE) (L : Nat) (Q : kx_Rs → wS → Prop) (x1 : Int32) (x2 : Int32) (x4 : Int32) (x5 : Int32) (w : wS) : Prop := kzE E L kt_M531 196 [(0, .ref (w_adr E.2.1 12 0)), (1, .int x1), (2, .int x2), (4, .int x4), (5, .int x5)] [] w Q
def zL_X13_scanAll_p116 (E : zE) (L : Nat) (Q : kx_Rs → wS → Prop) (x1 : Int32) (x2 : Int32) (x4 : Int32) (x5 : Int32) (w : wS) : Prop := kzE E L kt_M531 116 [(0, .ref (w_adr E.2.1 12 0)), (1, .int x1), (2, .int x2), (4, .int x4), (5, .int x5)] [] w Q
def zL_X13_scanAll_p64 (E : zE) (L : Nat) (Q : kx_Rs → wS → Prop) (x1 : Int32) (x2 : Int32) (x3 : Int32) (w : wS) : Prop := kzE E L kt_M531 64 [(0, .ref (w_adr E.2.1 12 0)), (1, .int x1), (2, .int x2), (3, .int x3)] [] w Q
def zL_X13_scanAll_p44 (E : zE) (L : Nat) (Q : kx_Rs → wS → Prop) (x1 : Int32) (x2 : Int32) (w : wS) : Prop := kzE E L kt_M531 44 [(0, .ref (w_adr E.2.1 12 0)), (1, .int x1), (2, .int x2)] [] w Q
def zb_X13_scanAll_p347 (E : zE) (L : Nat) (Q : kx_Rs → wS → Prop) (x1 : Int32) (w : wS) : Prop := zw E (L - 24) kt_M562 [.ref (w_adr E.2.1 12 0), .int 75, .int 0, .int x1, .int (-1)] w (wk0 (fun w1 => wle w w1 → Q (.inl none) w1) (fun e w => Q (.inr e) w))
theorem zt_X13_scanAll_p347 {E : zE} {L : Nat} {Q : kx_Rs → wS → Prop} {x1 : Int32} {w : wS} (hL : 26 ≤ L) (h : zb_X13_scanAll_p347 E L Q x1 w) : kzE E L kt_M531 347 [(0, .ref (w_adr E.2.1 12 0)), (1, .int x1)] [] w Q := by
  unfold zb_X13_scanAll_p347 at h
  refine kz_aload_n (M := kt_M531) kX13_scanAll_c22.2.2.2.2.2.2.2.1 rfl ?_
  refine kz_bi (M := kt_M531) 75 kX13_scanAll_c23.1 rfl ?_
  refine kz_ic (M := kt_M531) 0 kX13_scanAll_c23.2.1 rfl ?_
  refine kz_iload_n (M := kt_M531) kX13_scanAll_c23.2.2.1 rfl ?_
  refine kz_ic (M := kt_M531) (-1) kX13_scanAll_c23.2.2.2.1 rfl ?_
  refine kz_cv0 (M := kt_M531) (c := 12) (o := 0) (As := [.int 75, .int 0, .int x1, .int (-1)]) (rest := []) kX13_scanAll_c23.2.2.2.2.1 wl_X13_540 wMv_562 rfl (.inl rfl) rfl (Nat.le_trans (Nat.le_of_ble_eq_true rfl) hL) (Nat.le_of_ble_eq_true rfl) (Nat.le_of_ble_eq_true rfl) h (fun w1 hle h => ?_) (fun _ _ _ h => kzx_no rfl h)
  have h := h hle
  exact kz_ret (M := kt_M531) kX13_scanAll_c23.2.2.2.2.2.1 rfl h
def zb_X13_scanAll_p344 (E : zE) (L : Nat) (Q : kx_Rs → wS → Prop) (x1 : Int32) (x2 : Int32) (w : wS) : Prop := zL_X13_scanAll_p44 E L Q x1 x2 w
theorem zt_X13_scanAll_p344 {E : zE} {L : Nat} {Q : kx_Rs → wS → Prop} {x1 : Int32} {x2 : Int32} {w : wS} (hL : 26 ≤ L) (h : zb_X13_scanAll_p344 E L Q x1 x2 w) : kzE E L kt_M531 344 [(0, .ref (w_adr E.2.1 12 0)), (1, .int x1), (2, .int x2)] [] w Q := by
  unfold zb_X13_scanAll_p344 at h
  refine kz_goto (M := kt_M531) kX13_scanAll_c22.2.2.2.2.2.2.1 (t := 44) rfl ?_
  exact kz_weak [(0, .ref (w_adr E.2.1 12 0)), (1, .int x1), (2, .int x2)] ⟨rfl, ⟨rfl, ⟨rfl, trivial⟩⟩⟩ rfl h
def zb_X13_scanAll_p320 (E : zE) (L : Nat) (Q : kx_Rs → wS → Prop) (x1 : Int32) (x2 : Int32) (w : wS) : Prop := (if w_i w 12 0 3 ≤ w_i w 12 0 23 then zb_X13_scanAll_p344 E L Q x1 x2 w else zb_X13_scanAll_p344 E L Q (x1 + 1) x2 (ws_i w 12 0 23 ((w_i w 12 0 23) + 1)))
theorem zt_X13_scanAll_p320 {E : zE} {L : Nat} {Q : kx_Rs → wS → Prop} {x1 : Int32} {x2 : Int32} {w : wS} (hL : 26 ≤ L) (h : zb_X13_scanAll_p320 E L Q x1 x2 w) : kzE E L kt_M531 320 [(0, .ref (w_adr E.2.1 12 0)), (1, .int x1), (2, .int x2)] [] w Q := by
  unfold zb_X13_scanAll_p320 at h
  refine kz_aload_n (M := kt_M531) kX13_scanAll_c21.2.2.1 rfl ?_
  refine kz_gfi (M := kt_M531) (c := 12) (o := 0) kX13_scanAll_c21.2.2.2.1 wf_X13_462 (.inl rfl) ?_
  refine kz_aload_n (M := kt_M531) kX13_scanAll_c21.2.2.2.2.1 rfl ?_
  refine kz_gfi (M := kt_M531) (c := 12) (o := 0) kX13_scanAll_c21.2.2.2.2.2.1 wf_X13_455 (.inl rfl) ?_
  refine kz_icmp_ge (M := kt_M531) kX13_scanAll_c21.2.2.2.2.2.2.1 (t := 344) rfl h (fun h => ?_) (fun h => ?_)
  · skip
    exact kz_weak [(0, .ref (w_adr E.2.1 12 0)), (1, .int x1), (2, .int x2)] ⟨rfl, ⟨rfl, ⟨rfl, trivial⟩⟩⟩ rfl (zt_X13_scanAll_p344 hL  h)
  · skip
    refine kz_aload_n (M := kt_M531) kX13_scanAll_c21.2.2.2.2.2.2.2.1 rfl ?_
    refine kz_dup (M := kt_M531) kX13_scanAll_c22.1 rfl ?_
    refine kz_gfi (M := kt_M531) (c := 12) (o := 0) kX13_scanAll_c22.2.1 wf_X13_462 (.inl rfl) ?_
    refine kz_ic (M := kt_M531) 1 kX13_scanAll_c22.2.2.1 rfl ?_
    refine kz_iadd (M := kt_M531) kX13_scanAll_c22.2.2.2.1 ?_
    refine kz_pfi (M := kt_M531) (c := 12) (o := 0) kX13_scanAll_c22.2.2.2.2.1 wq_X13_462 (.inl rfl) ?_
    refine kz_inc (M := kt_M531) [(0, .ref (w_adr E.2.1 12 0)), (2, .int x2)] kX13_scanAll_c22.2.2.2.2.2.1 rfl (Nat.le_of_ble_eq_true rfl) ⟨⟨rfl, rfl, .inr rfl⟩, ⟨⟨rfl, rfl, .inl rfl⟩, trivial⟩⟩ rfl ?_
    exact kz_weak [(0, .ref (w_adr E.2.1 12 0)), (1, .int (x1 + 1)), (2, .int x2)] ⟨rfl, ⟨rfl, ⟨rfl, trivial⟩⟩⟩ rfl (zt_X13_scanAll_p344 hL  h)
def zb_X13_scanAll_p292 (E : zE) (L : Nat) (Q : kx_Rs → wS → Prop) (x1 : Int32) (x2 : Int32) (x5 : Int32) (w : wS) : Prop := (if w_i w 12 0 6 ≤ x5 then zb_X13_scanAll_p320 E L Q x1 x2 w else zw E (L - 24) kt_M562 [.ref (w_adr E.2.1 12 0), .int 74, .int 0, .int x1, .int (-1)] w (wk0 (fun w1 => wle w w1 → zb_X13_scanAll_p320 E L Q x1 x2 (ws_i w1 12 0 12 ((w_i w1 12 0 12) + 1))) (fun e w => Q (.inr e) w)))
theorem zt_X13_scanAll_p292 {E : zE} {L : Nat} {Q : kx_Rs → wS → Prop} {x1 : Int32} {x2 : Int32} {x5 : Int32} {w : wS} (hL : 26 ≤ L) (h : zb_X13_scanAll_p292 E L Q x1 x2 x5 w) : kzE E L kt_M531 292 [(0, .ref (w_adr E.2.1 12 0)), (1, .int x1), (2, .int x2), (5, .int x5)] [] w Q := by
  unfold zb_X13_scanAll_p292 at h
  refine kz_aload_n (M := kt_M531) kX13_scanAll_c19.2.2.1 rfl ?_
  refine kz_gfi (M := kt_M531) (c := 12) (o := 0) kX13_scanAll_c19.2.2.2.1 wf_X13_472 (.inl rfl) ?_
  refine kz_iload (M := kt_M531) kX13_scanAll_c19.2.2.2.2.1 rfl ?_
  refine kz_icmp_le (M := kt_M531) kX13_scanAll_c19.2.2.2.2.2.1 (t := 320) rfl h (fun h => ?_) (fun h => ?_)
  · skip
    exact kz_weak [(0, .ref (w_adr E.2.1 12 0)), (1, .int x1), (2, .int x2)] ⟨rfl, ⟨rfl, ⟨rfl, trivial⟩⟩⟩ rfl (zt_X13_scanAll_p320 hL  h)
  · skip
    refine kz_aload_n (M := kt_M531) kX13_scanAll_c19.2.2.2.2.2.2.1 rfl ?_
    refine kz_bi (M := kt_M531) 74 kX13_scanAll_c19.2.2.2.2.2.2.2.1 rfl ?_
    refine kz_ic (M := kt_M531) 0 kX13_scanAll_c20.1 rfl ?_
    refine kz_iload_n (M := kt_M531) kX13_scanAll_c20.2.1 rfl ?_
    refine kz_ic (M := kt_M531) (-1) kX13_scanAll_c20.2.2.1 rfl ?_
    refine kz_cv0 (M := kt_M531) (c := 12) (o := 0) (As := [.int 74, .int 0, .int x1, .int (-1)]) (rest := []) kX13_scanAll_c20.2.2.2.1 wl_X13_540 wMv_562 rfl (.inl rfl) rfl (Nat.le_trans (Nat.le_of_ble_eq_true rfl) hL) (Nat.le_of_ble_eq_true rfl) (Nat.le_of_ble_eq_true rfl) h (fun w1 hle h => ?_) (fun _ _ _ h => kzx_no rfl h)
    have h := h hle
    refine kz_aload_n (M := kt_M531) kX13_scanAll_c20.2.2.2.2.1 rfl ?_
    refine kz_dup (M := kt_M531) kX13_scanAll_c20.2.2.2.2.2.1 rfl ?_
    refine kz_gfi (M := kt_M531) (c := 12) (o := 0) kX13_scanAll_c20.2.2.2.2.2.2.1 wf_X13_534 (.inl rfl) ?_
    refine kz_ic (M := kt_M531) 1 kX13_scanAll_c20.2.2.2.2.2.2.2.1 rfl ?_
    refine kz_iadd (M := kt_M531) kX13_scanAll_c21.1 ?_
    refine kz_pfi (M := kt_M531) (c := 12) (o := 0) kX13_scanAll_c21.2.1 wq_X13_534 (.inl rfl) ?_
    exact kz_weak [(0, .ref (w_adr E.2.1 12 0)), (1, .int x1), (2, .int x2)] ⟨rfl, ⟨rfl, ⟨rfl, trivial⟩⟩⟩ rfl (zt_X13_scanAll_p320 hL  h)
def zb_X13_scanAll_p276 (E : zE) (L : Nat) (Q : kx_Rs → wS → Prop) (x1 : Int32) (x2 : Int32) (x4 : Int32) (x5 : Int32) (y0 : Int32) (y1 : Int32) (y2 : Int32) (y3 : Int32) (w : wS) : Prop := zw E (L - 24) kt_M562 [.ref (w_adr E.2.1 12 0), .int y3, .int y2, .int y1, .int y0] w (wk0 (fun w1 => wle w w1 → zL_X13_scanAll_p116 E L Q x1 x2 x4 x5 (ws_i w1 12 0 11 ((w_i w1 12 0 11) + 1))) (fun e w => Q (.inr e) w))
theorem zt_X13_scanAll_p276 {E : zE} {L : Nat} {Q : kx_Rs → wS → Prop} {x1 : Int32} {x2 : Int32} {x4 : Int32} {x5 : Int32} {y0 : Int32} {y1 : Int32} {y2 : Int32} {y3 : Int32} {w : wS} (hL : 26 ≤ L) (h : zb_X13_scanAll_p276 E L Q x1 x2 x4 x5 y0 y1 y2 y3 w) : kzE E L kt_M531 276 [(0, .ref (w_adr E.2.1 12 0)), (1, .int x1), (2, .int x2), (4, .int x4), (5, .int x5)] [.int y0, .int y1, .int y2, .int y3, .ref (w_adr E.2.1 12 0)] w Q := by
  unfold zb_X13_scanAll_p276 at h
  refine kz_cv0 (M := kt_M531) (c := 12) (o := 0) (As := [.int y3, .int y2, .int y1, .int y0]) (rest := []) kX13_scanAll_c18.2.2.1 wl_X13_540 wMv_562 rfl (.inl rfl) rfl (Nat.le_trans (Nat.le_of_ble_eq_true rfl) hL) (Nat.le_of_ble_eq_true rfl) (Nat.le_of_ble_eq_true rfl) h (fun w1 hle h => ?_) (fun _ _ _ h => kzx_no rfl h)
  have h := h hle
  refine kz_aload_n (M := kt_M531) kX13_scanAll_c18.2.2.2.1 rfl ?_
  refine kz_dup (M := kt_M531) kX13_scanAll_c18.2.2.2.2.1 rfl ?_
  refine kz_gfi (M := kt_M531) (c := 12) (o := 0) kX13_scanAll_c18.2.2.2.2.2.1 wf_X13_531 (.inl rfl) ?_
  refine kz_ic (M := kt_M531) 1 kX13_scanAll_c18.2.2.2.2.2.2.1 rfl ?_
  refine kz_iadd (M := kt_M531) kX13_scanAll_c18.2.2.2.2.2.2.2.1 ?_
  refine kz_pfi (M := kt_M531) (c := 12) (o := 0) kX13_scanAll_c19.1 wq_X13_531 (.inl rfl) ?_
  refine kz_goto (M := kt_M531) kX13_scanAll_c19.2.1 (t := 116) rfl ?_
  exact kz_weak [(0, .ref (w_adr E.2.1 12 0)), (1, .int x1), (2, .int x2), (4, .int x4), (5, .int x5)] ⟨rfl, ⟨rfl, ⟨rfl, ⟨rfl, ⟨rfl, trivial⟩⟩⟩⟩⟩ rfl h
def zb_X13_scanAll_p252 (E : zE) (L : Nat) (Q : kx_Rs → wS → Prop) (x1 : Int32) (x4 : Int32) (x5 : Int32) (x6 : Int32) (y0 : Int32) (w : wS) : Prop := (if ¬ w_i w 12 0 6 = x5 then zb_X13_scanAll_p276 E L Q x1 y0 x4 x5 (-1) x1 (w_i w 12 0 24) x6 w else zb_X13_scanAll_p276 E L Q x1 y0 x4 x5 x4 x1 (w_i w 12 0 24) x6 w)
theorem zt_X13_scanAll_p252 {E : zE} {L : Nat} {Q : kx_Rs → wS → Prop} {x1 : Int32} {x4 : Int32} {x5 : Int32} {x6 : Int32} {y0 : Int32} {w : wS} (hL : 26 ≤ L) (h : zb_X13_scanAll_p252 E L Q x1 x4 x5 x6 y0 w) : kzE E L kt_M531 252 [(0, .ref (w_adr E.2.1 12 0)), (1, .int x1), (4, .int x4), (5, .int x5), (6, .int x6)] [.int y0] w Q := by
  unfold zb_X13_scanAll_p252 at h
  refine kz_sti_n (M := kt_M531) [(0, .ref (w_adr E.2.1 12 0)), (1, .int x1), (4, .int x4), (5, .int x5), (6, .int x6)] kX13_scanAll_c16.2.2.2.2.2.1 (Nat.le_of_ble_eq_true rfl) ⟨⟨rfl, rfl, .inl rfl⟩, ⟨⟨rfl, rfl, .inr rfl⟩, ⟨⟨rfl, rfl, .inl rfl⟩, ⟨⟨rfl, rfl, .inl rfl⟩, ⟨⟨rfl, rfl, .inl rfl⟩, trivial⟩⟩⟩⟩⟩ rfl ?_
  refine kz_aload_n (M := kt_M531) kX13_scanAll_c16.2.2.2.2.2.2.1 rfl ?_
  refine kz_iload (M := kt_M531) kX13_scanAll_c16.2.2.2.2.2.2.2.1 rfl ?_
  refine kz_aload_n (M := kt_M531) kX13_scanAll_c17.1 rfl ?_
  refine kz_gfi (M := kt_M531) (c := 12) (o := 0) kX13_scanAll_c17.2.1 wf_X13_493 (.inl rfl) ?_
  refine kz_iload_n (M := kt_M531) kX13_scanAll_c17.2.2.1 rfl ?_
  refine kz_aload_n (M := kt_M531) kX13_scanAll_c17.2.2.2.1 rfl ?_
  refine kz_gfi (M := kt_M531) (c := 12) (o := 0) kX13_scanAll_c17.2.2.2.2.1 wf_X13_472 (.inl rfl) ?_
  refine kz_iload (M := kt_M531) kX13_scanAll_c17.2.2.2.2.2.1 rfl ?_
  refine kz_icmp_ne (M := kt_M531) kX13_scanAll_c17.2.2.2.2.2.2.1 (t := 275) rfl h (fun h => ?_) (fun h => ?_)
  · skip
    refine kz_ic (M := kt_M531) (-1) kX13_scanAll_c18.2.1 rfl ?_
    exact kz_weak [(0, .ref (w_adr E.2.1 12 0)), (1, .int x1), (2, .int y0), (4, .int x4), (5, .int x5)] ⟨rfl, ⟨rfl, ⟨rfl, ⟨rfl, ⟨rfl, trivial⟩⟩⟩⟩⟩ rfl (zt_X13_scanAll_p276 hL  h)
  · skip
    refine kz_iload (M := kt_M531) kX13_scanAll_c17.2.2.2.2.2.2.2.1 rfl ?_
    refine kz_goto (M := kt_M531) kX13_scanAll_c18.1 (t := 276) rfl ?_
    exact kz_weak [(0, .ref (w_adr E.2.1 12 0)), (1, .int x1), (2, .int y0), (4, .int x4), (5, .int x5)] ⟨rfl, ⟨rfl, ⟨rfl, ⟨rfl, ⟨rfl, trivial⟩⟩⟩⟩⟩ rfl (zt_X13_scanAll_p276 hL  h)
def zb_X13_scanAll_p234 (E : zE) (L : Nat) (Q : kx_Rs → wS → Prop) (x1 : Int32) (x4 : Int32) (x5 : Int32) (w : wS) : Prop := zw E (L - 26) kt_M530 [.ref (w_adr E.2.1 12 0)] w (wk1 (fun v2 w1 => wle w w1 → (if v2 = 76 then zb_X13_scanAll_p252 E L Q x1 x4 x5 v2 0 w1 else zb_X13_scanAll_p252 E L Q x1 x4 x5 v2 1 w1)) (fun e w => Q (.inr e) w))
theorem zt_X13_scanAll_p234 {E : zE} {L : Nat} {Q : kx_Rs → wS → Prop} {x1 : Int32} {x4 : Int32} {x5 : Int32} {w : wS} (hL : 26 ≤ L) (h : zb_X13_scanAll_p234 E L Q x1 x4 x5 w) : kzE E L kt_M531 234 [(0, .ref (w_adr E.2.1 12 0)), (1, .int x1), (4, .int x4), (5, .int x5)] [] w Q := by
  unfold zb_X13_scanAll_p234 at h
  refine kz_aload_n (M := kt_M531) kX13_scanAll_c15.2.2.2.2.1 rfl ?_
  refine kz_cv1 (M := kt_M531) (c := 12) (o := 0) (As := []) (rest := []) kX13_scanAll_c15.2.2.2.2.2.1 wl_X13_537 wMv_530 rfl (.inl rfl) rfl (Nat.le_trans (Nat.le_of_ble_eq_true rfl) hL) (Nat.le_of_ble_eq_true rfl) (Nat.le_of_ble_eq_true rfl) h (fun v2 w1 hle h => ?_) (fun _ _ _ h => kzx_no rfl h)
  have h := h hle
  refine kz_sti (M := kt_M531) [(0, .ref (w_adr E.2.1 12 0)), (1, .int x1), (4, .int x4), (5, .int x5)] kX13_scanAll_c15.2.2.2.2.2.2.1 (Nat.le_of_ble_eq_true rfl) ⟨⟨rfl, rfl, .inl rfl⟩, ⟨⟨rfl, rfl, .inl rfl⟩, ⟨⟨rfl, rfl, .inl rfl⟩, ⟨⟨rfl, rfl, .inr rfl⟩, trivial⟩⟩⟩⟩ rfl ?_
  refine kz_iload (M := kt_M531) kX13_scanAll_c15.2.2.2.2.2.2.2.1 rfl ?_
  refine kz_bi (M := kt_M531) 76 kX13_scanAll_c16.1 rfl ?_
  refine kz_icmp_eq (M := kt_M531) kX13_scanAll_c16.2.1 (t := 251) rfl h (fun h => ?_) (fun h => ?_)
  · skip
    refine kz_ic (M := kt_M531) 0 kX13_scanAll_c16.2.2.2.2.1 rfl ?_
    exact kz_weak [(0, .ref (w_adr E.2.1 12 0)), (1, .int x1), (4, .int x4), (5, .int x5), (6, .int v2)] ⟨rfl, ⟨rfl, ⟨rfl, ⟨rfl, ⟨rfl, trivial⟩⟩⟩⟩⟩ rfl (zt_X13_scanAll_p252 hL  h)
  · skip
    refine kz_ic (M := kt_M531) 1 kX13_scanAll_c16.2.2.1 rfl ?_
    refine kz_goto (M := kt_M531) kX13_scanAll_c16.2.2.2.1 (t := 252) rfl ?_
    exact kz_weak [(0, .ref (w_adr E.2.1 12 0)), (1, .int x1), (4, .int x4), (5, .int x5), (6, .int v2)] ⟨rfl, ⟨rfl, ⟨rfl, ⟨rfl, ⟨rfl, trivial⟩⟩⟩⟩⟩ rfl (zt_X13_scanAll_p252 hL  h)
def zb_X13_scanAll_p196 (E : zE) (L : Nat) (Q : kx_Rs → wS → Prop) (x1 : Int32) (x2 : Int32) (x4 : Int32) (x5 : Int32) (w : wS) : Prop := (if w_i w 12 0 3 ≤ w_i w 12 0 23 then zL_X13_scanAll_p116 E L Q x1 x2 x4 x5 w else (kx_inb (w_i w 12 0 23) (w_n w 12 0 2) = true ∧ (if w_a w 12 0 2 (w_i w 12 0 23).toNatClampNeg = 10 then zL_X13_scanAll_p116 E L Q x1 x2 x4 x5 w else zL_X13_scanAll_p196 E L Q x1 x2 x4 x5 (ws_i w 12 0 23 ((w_i w 12 0 23) + 1)))))
theorem zt_X13_scanAll_p196 {E : zE} {L : Nat} {Q : kx_Rs → wS → Prop} {x1 : Int32} {x2 : Int32} {x4 : Int32} {x5 : Int32} {w : wS} (hL : 26 ≤ L) (h : zb_X13_scanAll_p196 E L Q x1 x2 x4 x5 w) : kzE E L kt_M531 196 [(0, .ref (w_adr E.2.1 12 0)), (1, .int x1), (2, .int x2), (4, .int x4), (5, .int x5)] [] w Q := by
  unfold zb_X13_scanAll_p196 at h
  refine kz_aload_n (M := kt_M531) kX13_scanAll_c13.2.1 rfl ?_
  refine kz_gfi (M := kt_M531) (c := 12) (o := 0) kX13_scanAll_c13.2.2.1 wf_X13_462 (.inl rfl) ?_
  refine kz_aload_n (M := kt_M531) kX13_scanAll_c13.2.2.2.1 rfl ?_
  refine kz_gfi (M := kt_M531) (c := 12) (o := 0) kX13_scanAll_c13.2.2.2.2.1 wf_X13_455 (.inl rfl) ?_
  refine kz_icmp_ge (M := kt_M531) kX13_scanAll_c13.2.2.2.2.2.1 (t := 116) rfl h (fun h => ?_) (fun h => ?_)
  · skip
    exact kz_weak [(0, .ref (w_adr E.2.1 12 0)), (1, .int x1), (2, .int x2), (4, .int x4), (5, .int x5)] ⟨rfl, ⟨rfl, ⟨rfl, ⟨rfl, ⟨rfl, trivial⟩⟩⟩⟩⟩ rfl h
  · skip
    refine kz_aload_n (M := kt_M531) kX13_scanAll_c13.2.2.2.2.2.2.1 rfl ?_
    refine kz_gfc (M := kt_M531) (x := 4074) (c := 12) (o := 0) kX13_scanAll_c13.2.2.2.2.2.2.2.1 wf_X13_16 (.inl rfl) ?_
    refine kz_aload_n (M := kt_M531) kX13_scanAll_c14.1 rfl ?_
    refine kz_gfi (M := kt_M531) (c := 12) (o := 0) kX13_scanAll_c14.2.1 wf_X13_462 (.inl rfl) ?_
    refine kz_iald (M := kt_M531) (c := 12) (o := 0) (k := 2) (a := (E.2.1 4074)) kX13_scanAll_c14.2.2.1 ow_12_0_2 oa_12_0_2 ot_0 h (fun h => ?_)
    refine kz_bi (M := kt_M531) 10 kX13_scanAll_c14.2.2.2.1 rfl ?_
    refine kz_icmp_eq (M := kt_M531) kX13_scanAll_c14.2.2.2.2.1 (t := 116) rfl h (fun h => ?_) (fun h => ?_)
    · skip
      exact kz_weak [(0, .ref (w_adr E.2.1 12 0)), (1, .int x1), (2, .int x2), (4, .int x4), (5, .int x5)] ⟨rfl, ⟨rfl, ⟨rfl, ⟨rfl, ⟨rfl, trivial⟩⟩⟩⟩⟩ rfl h
    · skip
      refine kz_aload_n (M := kt_M531) kX13_scanAll_c14.2.2.2.2.2.1 rfl ?_
      refine kz_dup (M := kt_M531) kX13_scanAll_c14.2.2.2.2.2.2.1 rfl ?_
      refine kz_gfi (M := kt_M531) (c := 12) (o := 0) kX13_scanAll_c14.2.2.2.2.2.2.2.1 wf_X13_462 (.inl rfl) ?_
      refine kz_ic (M := kt_M531) 1 kX13_scanAll_c15.1 rfl ?_
      refine kz_iadd (M := kt_M531) kX13_scanAll_c15.2.1 ?_
      refine kz_pfi (M := kt_M531) (c := 12) (o := 0) kX13_scanAll_c15.2.2.1 wq_X13_462 (.inl rfl) ?_
      refine kz_goto (M := kt_M531) kX13_scanAll_c15.2.2.2.1 (t := 196) rfl ?_
      exact kz_weak [(0, .ref (w_adr E.2.1 12 0)), (1, .int x1), (2, .int x2), (4, .int x4), (5, .int x5)] ⟨rfl, ⟨rfl, ⟨rfl, ⟨rfl, ⟨rfl, trivial⟩⟩⟩⟩⟩ rfl h
def zb_X13_scanAll_p116 (E : zE) (L : Nat) (Q : kx_Rs → wS → Prop) (x1 : Int32) (x2 : Int32) (x4 : Int32) (x5 : Int32) (w : wS) : Prop := (if x2 = 0 then zb_X13_scanAll_p292 E L Q x1 x2 x5 w else (if w_i w 12 0 3 ≤ w_i w 12 0 23 then zb_X13_scanAll_p292 E L Q x1 x2 x5 w else (kx_inb (w_i w 12 0 23) (w_n w 12 0 2) = true ∧ (if w_a w 12 0 2 (w_i w 12 0 23).toNatClampNeg = 10 then zb_X13_scanAll_p292 E L Q x1 x2 x5 w else (kx_inb (w_i w 12 0 23) (w_n w 12 0 2) = true ∧ (if ¬ w_a w 12 0 2 (w_i w 12 0 23).toNatClampNeg = 32 then (kx_inb (w_i w 12 0 23) (w_n w 12 0 2) = true ∧ (if ¬ w_a w 12 0 2 (w_i w 12 0 23).toNatClampNeg = 45 then zb_X13_scanAll_p234 E L Q x1 x4 x5 w else zw E (L - 21) kt_M429 [.ref (w_adr E.2.1 12 0), .int 1] w (wk1 (fun v2 w1 => wle w w1 → (if ¬ v2 = 45 then zb_X13_scanAll_p234 E L Q x1 x4 x5 w1 else zL_X13_scanAll_p196 E L Q x1 x2 x4 x5 w1)) (fun e w => Q (.inr e) w)))) else zL_X13_scanAll_p116 E L Q x1 x2 x4 x5 (ws_i w 12 0 23 ((w_i w 12 0 23) + 1))))))))
theorem zt_X13_scanAll_p116 {E : zE} {L : Nat} {Q : kx_Rs → wS → Prop} {x1 : Int32} {x2 : Int32} {x4 : Int32} {x5 : Int32} {w : wS} (hL : 26 ≤ L) (h : zb_X13_scanAll_p116 E L Q x1 x2 x4 x5 w) : kzE E L kt_M531 116 [(0, .ref (w_adr E.2.1 12 0)), (1, .int x1), (2, .int x2), (4, .int x4), (5, .int x5)] [] w Q := by
  unfold zb_X13_scanAll_p116 at h
  refine kz_iload_n (M := kt_M531) kX13_scanAll_c8.2.1 rfl ?_
  refine kz_if_eq (M := kt_M531) kX13_scanAll_c8.2.2.1 (t := 292) rfl h (fun h => ?_) (fun h => ?_)
  · skip
    exact kz_weak [(0, .ref (w_adr E.2.1 12 0)), (1, .int x1), (2, .int x2), (5, .int x5)] ⟨rfl, ⟨rfl, ⟨rfl, ⟨rfl, trivial⟩⟩⟩⟩ rfl (zt_X13_scanAll_p292 hL  h)
  · skip
    refine kz_aload_n (M := kt_M531) kX13_scanAll_c8.2.2.2.1 rfl ?_
    refine kz_gfi (M := kt_M531) (c := 12) (o := 0) kX13_scanAll_c8.2.2.2.2.1 wf_X13_462 (.inl rfl) ?_
    refine kz_aload_n (M := kt_M531) kX13_scanAll_c8.2.2.2.2.2.1 rfl ?_
    refine kz_gfi (M := kt_M531) (c := 12) (o := 0) kX13_scanAll_c8.2.2.2.2.2.2.1 wf_X13_455 (.inl rfl) ?_
    refine kz_icmp_ge (M := kt_M531) kX13_scanAll_c8.2.2.2.2.2.2.2.1 (t := 292) rfl h (fun h => ?_) (fun h => ?_)
    · skip
      exact kz_weak [(0, .ref (w_adr E.2.1 12 0)), (1, .int x1), (2, .int x2), (5, .int x5)] ⟨rfl, ⟨rfl, ⟨rfl, ⟨rfl, trivial⟩⟩⟩⟩ rfl (zt_X13_scanAll_p292 hL  h)
    · skip
      refine kz_aload_n (M := kt_M531) kX13_scanAll_c9.1 rfl ?_
      refine kz_gfc (M := kt_M531) (x := 4074) (c := 12) (o := 0) kX13_scanAll_c9.2.1 wf_X13_16 (.inl rfl) ?_
      refine kz_aload_n (M := kt_M531) kX13_scanAll_c9.2.2.1 rfl ?_
      refine kz_gfi (M := kt_M531) (c := 12) (o := 0) kX13_scanAll_c9.2.2.2.1 wf_X13_462 (.inl rfl) ?_
      refine kz_iald (M := kt_M531) (c := 12) (o := 0) (k := 2) (a := (E.2.1 4074)) kX13_scanAll_c9.2.2.2.2.1 ow_12_0_2 oa_12_0_2 ot_0 h (fun h => ?_)
      refine kz_bi (M := kt_M531) 10 kX13_scanAll_c9.2.2.2.2.2.1 rfl ?_
      refine kz_icmp_eq (M := kt_M531) kX13_scanAll_c9.2.2.2.2.2.2.1 (t := 292) rfl h (fun h => ?_) (fun h => ?_)
      · skip
        exact kz_weak [(0, .ref (w_adr E.2.1 12 0)), (1, .int x1), (2, .int x2), (5, .int x5)] ⟨rfl, ⟨rfl, ⟨rfl, ⟨rfl, trivial⟩⟩⟩⟩ rfl (zt_X13_scanAll_p292 hL  h)
      · skip
        refine kz_aload_n (M := kt_M531) kX13_scanAll_c9.2.2.2.2.2.2.2.1 rfl ?_
        refine kz_gfc (M := kt_M531) (x := 4074) (c := 12) (o := 0) kX13_scanAll_c10.1 wf_X13_16 (.inl rfl) ?_
        refine kz_aload_n (M := kt_M531) kX13_scanAll_c10.2.1 rfl ?_
        refine kz_gfi (M := kt_M531) (c := 12) (o := 0) kX13_scanAll_c10.2.2.1 wf_X13_462 (.inl rfl) ?_
        refine kz_iald (M := kt_M531) (c := 12) (o := 0) (k := 2) (a := (E.2.1 4074)) kX13_scanAll_c10.2.2.2.1 ow_12_0_2 oa_12_0_2 ot_0 h (fun h => ?_)
        refine kz_bi (M := kt_M531) 32 kX13_scanAll_c10.2.2.2.2.1 rfl ?_
        refine kz_icmp_ne (M := kt_M531) kX13_scanAll_c10.2.2.2.2.2.1 (t := 172) rfl h (fun h => ?_) (fun h => ?_)
        · skip
          refine kz_aload_n (M := kt_M531) kX13_scanAll_c11.2.2.2.2.2.1 rfl ?_
          refine kz_gfc (M := kt_M531) (x := 4074) (c := 12) (o := 0) kX13_scanAll_c11.2.2.2.2.2.2.1 wf_X13_16 (.inl rfl) ?_
          refine kz_aload_n (M := kt_M531) kX13_scanAll_c11.2.2.2.2.2.2.2.1 rfl ?_
          refine kz_gfi (M := kt_M531) (c := 12) (o := 0) kX13_scanAll_c12.1 wf_X13_462 (.inl rfl) ?_
          refine kz_iald (M := kt_M531) (c := 12) (o := 0) (k := 2) (a := (E.2.1 4074)) kX13_scanAll_c12.2.1 ow_12_0_2 oa_12_0_2 ot_0 h (fun h => ?_)
          refine kz_bi (M := kt_M531) 45 kX13_scanAll_c12.2.2.1 rfl ?_
          refine kz_icmp_ne (M := kt_M531) kX13_scanAll_c12.2.2.2.1 (t := 234) rfl h (fun h => ?_) (fun h => ?_)
          · skip
            exact kz_weak [(0, .ref (w_adr E.2.1 12 0)), (1, .int x1), (4, .int x4), (5, .int x5)] ⟨rfl, ⟨rfl, ⟨rfl, ⟨rfl, trivial⟩⟩⟩⟩ rfl (zt_X13_scanAll_p234 hL  h)
          · skip
            refine kz_aload_n (M := kt_M531) kX13_scanAll_c12.2.2.2.2.1 rfl ?_
            refine kz_ic (M := kt_M531) 1 kX13_scanAll_c12.2.2.2.2.2.1 rfl ?_
            refine kz_cv1 (M := kt_M531) (c := 12) (o := 0) (As := [.int 1]) (rest := []) kX13_scanAll_c12.2.2.2.2.2.2.1 wl_X13_489 wMv_429 rfl (.inl rfl) rfl (Nat.le_trans (Nat.le_of_ble_eq_true rfl) hL) (Nat.le_of_ble_eq_true rfl) (Nat.le_of_ble_eq_true rfl) h (fun v2 w1 hle h => ?_) (fun _ _ _ h => kzx_no rfl h)
            have h := h hle
            refine kz_bi (M := kt_M531) 45 kX13_scanAll_c12.2.2.2.2.2.2.2.1 rfl ?_
            refine kz_icmp_ne (M := kt_M531) kX13_scanAll_c13.1 (t := 234) rfl h (fun h => ?_) (fun h => ?_)
            · skip
              exact kz_weak [(0, .ref (w_adr E.2.1 12 0)), (1, .int x1), (4, .int x4), (5, .int x5)] ⟨rfl, ⟨rfl, ⟨rfl, ⟨rfl, trivial⟩⟩⟩⟩ rfl (zt_X13_scanAll_p234 hL  h)
            · skip
              exact kz_weak [(0, .ref (w_adr E.2.1 12 0)), (1, .int x1), (2, .int x2), (4, .int x4), (5, .int x5)] ⟨rfl, ⟨rfl, ⟨rfl, ⟨rfl, ⟨rfl, trivial⟩⟩⟩⟩⟩ rfl h
        · skip
          refine kz_aload_n (M := kt_M531) kX13_scanAll_c10.2.2.2.2.2.2.1 rfl ?_
          refine kz_dup (M := kt_M531) kX13_scanAll_c10.2.2.2.2.2.2.2.1 rfl ?_
          refine kz_gfi (M := kt_M531) (c := 12) (o := 0) kX13_scanAll_c11.1 wf_X13_462 (.inl rfl) ?_
          refine kz_ic (M := kt_M531) 1 kX13_scanAll_c11.2.1 rfl ?_
          refine kz_iadd (M := kt_M531) kX13_scanAll_c11.2.2.1 ?_
          refine kz_pfi (M := kt_M531) (c := 12) (o := 0) kX13_scanAll_c11.2.2.2.1 wq_X13_462 (.inl rfl) ?_
          refine kz_goto (M := kt_M531) kX13_scanAll_c11.2.2.2.2.1 (t := 116) rfl ?_
          exact kz_weak [(0, .ref (w_adr E.2.1 12 0)), (1, .int x1), (2, .int x2), (4, .int x4), (5, .int x5)] ⟨rfl, ⟨rfl, ⟨rfl, ⟨rfl, ⟨rfl, trivial⟩⟩⟩⟩⟩ rfl h
def zb_X13_scanAll_p102 (E : zE) (L : Nat) (Q : kx_Rs → wS → Prop) (x1 : Int32) (x2 : Int32) (x3 : Int32) (w : wS) : Prop := zL_X13_scanAll_p116 E L Q x1 x2 ((w_i w 12 0 23) - x3) (w_i w 12 0 6) w
theorem zt_X13_scanAll_p102 {E : zE} {L : Nat} {Q : kx_Rs → wS → Prop} {x1 : Int32} {x2 : Int32} {x3 : Int32} {w : wS} (hL : 26 ≤ L) (h : zb_X13_scanAll_p102 E L Q x1 x2 x3 w) : kzE E L kt_M531 102 [(0, .ref (w_adr E.2.1 12 0)), (1, .int x1), (2, .int x2), (3, .int x3)] [] w Q := by
  unfold zb_X13_scanAll_p102 at h
  refine kz_aload_n (M := kt_M531) kX13_scanAll_c7.2.1 rfl ?_
  refine kz_gfi (M := kt_M531) (c := 12) (o := 0) kX13_scanAll_c7.2.2.1 wf_X13_462 (.inl rfl) ?_
  refine kz_iload_n (M := kt_M531) kX13_scanAll_c7.2.2.2.1 rfl ?_
  refine kz_isub (M := kt_M531) kX13_scanAll_c7.2.2.2.2.1 ?_
  refine kz_sti (M := kt_M531) [(0, .ref (w_adr E.2.1 12 0)), (1, .int x1), (2, .int x2)] kX13_scanAll_c7.2.2.2.2.2.1 (Nat.le_of_ble_eq_true rfl) ⟨⟨rfl, rfl, .inl rfl⟩, ⟨⟨rfl, rfl, .inl rfl⟩, ⟨⟨rfl, rfl, .inl rfl⟩, trivial⟩⟩⟩ rfl ?_
  refine kz_aload_n (M := kt_M531) kX13_scanAll_c7.2.2.2.2.2.2.1 rfl ?_
  refine kz_gfi (M := kt_M531) (c := 12) (o := 0) kX13_scanAll_c7.2.2.2.2.2.2.2.1 wf_X13_472 (.inl rfl) ?_
  refine kz_sti (M := kt_M531) [(0, .ref (w_adr E.2.1 12 0)), (1, .int x1), (2, .int x2), (4, .int ((w_i w 12 0 23) - x3))] kX13_scanAll_c8.1 (Nat.le_of_ble_eq_true rfl) ⟨⟨rfl, rfl, .inl rfl⟩, ⟨⟨rfl, rfl, .inl rfl⟩, ⟨⟨rfl, rfl, .inl rfl⟩, ⟨⟨rfl, rfl, .inr rfl⟩, trivial⟩⟩⟩⟩ rfl ?_
  exact kz_weak [(0, .ref (w_adr E.2.1 12 0)), (1, .int x1), (2, .int x2), (4, .int ((w_i w 12 0 23) - x3)), (5, .int (w_i w 12 0 6))] ⟨rfl, ⟨rfl, ⟨rfl, ⟨rfl, ⟨rfl, trivial⟩⟩⟩⟩⟩ rfl h
def zb_X13_scanAll_p64 (E : zE) (L : Nat) (Q : kx_Rs → wS → Prop) (x1 : Int32) (x2 : Int32) (x3 : Int32) (w : wS) : Prop := (if w_i w 12 0 3 ≤ w_i w 12 0 23 then zb_X13_scanAll_p102 E L Q x1 x2 x3 w else (kx_inb (w_i w 12 0 23) (w_n w 12 0 2) = true ∧ (if ¬ w_a w 12 0 2 (w_i w 12 0 23).toNatClampNeg = 32 then zb_X13_scanAll_p102 E L Q x1 x2 x3 w else zL_X13_scanAll_p64 E L Q x1 x2 x3 (ws_i w 12 0 23 ((w_i w 12 0 23) + 1)))))
theorem zt_X13_scanAll_p64 {E : zE} {L : Nat} {Q : kx_Rs → wS → Prop} {x1 : Int32} {x2 : Int32} {x3 : Int32} {w : wS} (hL : 26 ≤ L) (h : zb_X13_scanAll_p64 E L Q x1 x2 x3 w) : kzE E L kt_M531 64 [(0, .ref (w_adr E.2.1 12 0)), (1, .int x1), (2, .int x2), (3, .int x3)] [] w Q := by
  unfold zb_X13_scanAll_p64 at h
  refine kz_aload_n (M := kt_M531) kX13_scanAll_c4.2.2.2.2.2.2.1 rfl ?_
  refine kz_gfi (M := kt_M531) (c := 12) (o := 0) kX13_scanAll_c4.2.2.2.2.2.2.2.1 wf_X13_462 (.inl rfl) ?_
  refine kz_aload_n (M := kt_M531) kX13_scanAll_c5.1 rfl ?_
  refine kz_gfi (M := kt_M531) (c := 12) (o := 0) kX13_scanAll_c5.2.1 wf_X13_455 (.inl rfl) ?_
  refine kz_icmp_ge (M := kt_M531) kX13_scanAll_c5.2.2.1 (t := 102) rfl h (fun h => ?_) (fun h => ?_)
  · skip
    exact kz_weak [(0, .ref (w_adr E.2.1 12 0)), (1, .int x1), (2, .int x2), (3, .int x3)] ⟨rfl, ⟨rfl, ⟨rfl, ⟨rfl, trivial⟩⟩⟩⟩ rfl (zt_X13_scanAll_p102 hL  h)
  · skip
    refine kz_aload_n (M := kt_M531) kX13_scanAll_c5.2.2.2.1 rfl ?_
    refine kz_gfc (M := kt_M531) (x := 4074) (c := 12) (o := 0) kX13_scanAll_c5.2.2.2.2.1 wf_X13_16 (.inl rfl) ?_
    refine kz_aload_n (M := kt_M531) kX13_scanAll_c5.2.2.2.2.2.1 rfl ?_
    refine kz_gfi (M := kt_M531) (c := 12) (o := 0) kX13_scanAll_c5.2.2.2.2.2.2.1 wf_X13_462 (.inl rfl) ?_
    refine kz_iald (M := kt_M531) (c := 12) (o := 0) (k := 2) (a := (E.2.1 4074)) kX13_scanAll_c5.2.2.2.2.2.2.2.1 ow_12_0_2 oa_12_0_2 ot_0 h (fun h => ?_)
    refine kz_bi (M := kt_M531) 32 kX13_scanAll_c6.1 rfl ?_
    refine kz_icmp_ne (M := kt_M531) kX13_scanAll_c6.2.1 (t := 102) rfl h (fun h => ?_) (fun h => ?_)
    · skip
      exact kz_weak [(0, .ref (w_adr E.2.1 12 0)), (1, .int x1), (2, .int x2), (3, .int x3)] ⟨rfl, ⟨rfl, ⟨rfl, ⟨rfl, trivial⟩⟩⟩⟩ rfl (zt_X13_scanAll_p102 hL  h)
    · skip
      refine kz_aload_n (M := kt_M531) kX13_scanAll_c6.2.2.1 rfl ?_
      refine kz_dup (M := kt_M531) kX13_scanAll_c6.2.2.2.1 rfl ?_
      refine kz_gfi (M := kt_M531) (c := 12) (o := 0) kX13_scanAll_c6.2.2.2.2.1 wf_X13_462 (.inl rfl) ?_
      refine kz_ic (M := kt_M531) 1 kX13_scanAll_c6.2.2.2.2.2.1 rfl ?_
      refine kz_iadd (M := kt_M531) kX13_scanAll_c6.2.2.2.2.2.2.1 ?_
      refine kz_pfi (M := kt_M531) (c := 12) (o := 0) kX13_scanAll_c6.2.2.2.2.2.2.2.1 wq_X13_462 (.inl rfl) ?_
      refine kz_goto (M := kt_M531) kX13_scanAll_c7.1 (t := 64) rfl ?_
      exact kz_weak [(0, .ref (w_adr E.2.1 12 0)), (1, .int x1), (2, .int x2), (3, .int x3)] ⟨rfl, ⟨rfl, ⟨rfl, ⟨rfl, trivial⟩⟩⟩⟩ rfl h
def zb_X13_scanAll_p44 (E : zE) (L : Nat) (Q : kx_Rs → wS → Prop) (x1 : Int32) (x2 : Int32) (w : wS) : Prop := (if w_i w 12 0 3 ≤ w_i w 12 0 23 then zb_X13_scanAll_p347 E L Q x1 w else (if x2 = 0 then zb_X13_scanAll_p347 E L Q x1 w else zL_X13_scanAll_p64 E L Q x1 x2 (w_i w 12 0 23) w))
theorem zt_X13_scanAll_p44 {E : zE} {L : Nat} {Q : kx_Rs → wS → Prop} {x1 : Int32} {x2 : Int32} {w : wS} (hL : 26 ≤ L) (h : zb_X13_scanAll_p44 E L Q x1 x2 w) : kzE E L kt_M531 44 [(0, .ref (w_adr E.2.1 12 0)), (1, .int x1), (2, .int x2)] [] w Q := by
  unfold zb_X13_scanAll_p44 at h
  refine kz_aload_n (M := kt_M531) kX13_scanAll_c3.2.2.2.2.1 rfl ?_
  refine kz_gfi (M := kt_M531) (c := 12) (o := 0) kX13_scanAll_c3.2.2.2.2.2.1 wf_X13_462 (.inl rfl) ?_
  refine kz_aload_n (M := kt_M531) kX13_scanAll_c3.2.2.2.2.2.2.1 rfl ?_
  refine kz_gfi (M := kt_M531) (c := 12) (o := 0) kX13_scanAll_c3.2.2.2.2.2.2.2.1 wf_X13_455 (.inl rfl) ?_
  refine kz_icmp_ge (M := kt_M531) kX13_scanAll_c4.1 (t := 347) rfl h (fun h => ?_) (fun h => ?_)
  · skip
    exact kz_weak [(0, .ref (w_adr E.2.1 12 0)), (1, .int x1)] ⟨rfl, ⟨rfl, trivial⟩⟩ rfl (zt_X13_scanAll_p347 hL  h)
  · skip
    refine kz_iload_n (M := kt_M531) kX13_scanAll_c4.2.1 rfl ?_
    refine kz_if_eq (M := kt_M531) kX13_scanAll_c4.2.2.1 (t := 347) rfl h (fun h => ?_) (fun h => ?_)
    · skip
      exact kz_weak [(0, .ref (w_adr E.2.1 12 0)), (1, .int x1)] ⟨rfl, ⟨rfl, trivial⟩⟩ rfl (zt_X13_scanAll_p347 hL  h)
    · skip
      refine kz_aload_n (M := kt_M531) kX13_scanAll_c4.2.2.2.1 rfl ?_
      refine kz_gfi (M := kt_M531) (c := 12) (o := 0) kX13_scanAll_c4.2.2.2.2.1 wf_X13_462 (.inl rfl) ?_
      refine kz_sti_n (M := kt_M531) [(0, .ref (w_adr E.2.1 12 0)), (1, .int x1), (2, .int x2)] kX13_scanAll_c4.2.2.2.2.2.1 (Nat.le_of_ble_eq_true rfl) ⟨⟨rfl, rfl, .inl rfl⟩, ⟨⟨rfl, rfl, .inl rfl⟩, ⟨⟨rfl, rfl, .inr rfl⟩, trivial⟩⟩⟩ rfl ?_
      exact kz_weak [(0, .ref (w_adr E.2.1 12 0)), (1, .int x1), (2, .int x2), (3, .int (w_i w 12 0 23))] ⟨rfl, ⟨rfl, ⟨rfl, ⟨rfl, trivial⟩⟩⟩⟩ rfl h
def zb_X13_scanAll_p0 (E : zE) (L : Nat) (Q : kx_Rs → wS → Prop) (w : wS) : Prop := zL_X13_scanAll_p44 E L Q 1 1 (ws_i (ws_i (ws_i (ws_i (ws_i (ws_i (ws_i (ws_i w 12 0 6 0) 12 0 13 0) 12 0 17 0) 12 0 18 0) 12 0 22 0) 12 0 11 0) 12 0 12 0) 12 0 23 0)
theorem zt_X13_scanAll_p0 {E : zE} {L : Nat} {Q : kx_Rs → wS → Prop} {w : wS} (hL : 26 ≤ L) (h : zb_X13_scanAll_p0 E L Q  w) : kzE E L kt_M531 0 [(0, .ref (w_adr E.2.1 12 0))] [] w Q := by
  unfold zb_X13_scanAll_p0 at h
  refine kz_aload_n (M := kt_M531) kX13_scanAll_c0.1 rfl ?_
  refine kz_ic (M := kt_M531) 0 kX13_scanAll_c0.2.1 rfl ?_
  refine kz_pfi (M := kt_M531) (c := 12) (o := 0) kX13_scanAll_c0.2.2.1 wq_X13_472 (.inl rfl) ?_
  refine kz_aload_n (M := kt_M531) kX13_scanAll_c0.2.2.2.1 rfl ?_
  refine kz_ic (M := kt_M531) 0 kX13_scanAll_c0.2.2.2.2.1 rfl ?_
  refine kz_pfi (M := kt_M531) (c := 12) (o := 0) kX13_scanAll_c0.2.2.2.2.2.1 wq_X13_475 (.inl rfl) ?_
  refine kz_aload_n (M := kt_M531) kX13_scanAll_c0.2.2.2.2.2.2.1 rfl ?_
  refine kz_ic (M := kt_M531) 0 kX13_scanAll_c0.2.2.2.2.2.2.2.1 rfl ?_
  refine kz_pfi (M := kt_M531) (c := 12) (o := 0) kX13_scanAll_c1.1 wq_X13_478 (.inl rfl) ?_
  refine kz_aload_n (M := kt_M531) kX13_scanAll_c1.2.1 rfl ?_
  refine kz_ic (M := kt_M531) 0 kX13_scanAll_c1.2.2.1 rfl ?_
  refine kz_pfi (M := kt_M531) (c := 12) (o := 0) kX13_scanAll_c1.2.2.2.1 wq_X13_525 (.inl rfl) ?_
  refine kz_aload_n (M := kt_M531) kX13_scanAll_c1.2.2.2.2.1 rfl ?_
  refine kz_ic (M := kt_M531) 0 kX13_scanAll_c1.2.2.2.2.2.1 rfl ?_
  refine kz_pfi (M := kt_M531) (c := 12) (o := 0) kX13_scanAll_c1.2.2.2.2.2.2.1 wq_X13_528 (.inl rfl) ?_
  refine kz_aload_n (M := kt_M531) kX13_scanAll_c1.2.2.2.2.2.2.2.1 rfl ?_
  refine kz_ic (M := kt_M531) 0 kX13_scanAll_c2.1 rfl ?_
  refine kz_pfi (M := kt_M531) (c := 12) (o := 0) kX13_scanAll_c2.2.1 wq_X13_531 (.inl rfl) ?_
  refine kz_aload_n (M := kt_M531) kX13_scanAll_c2.2.2.1 rfl ?_
  refine kz_ic (M := kt_M531) 0 kX13_scanAll_c2.2.2.2.1 rfl ?_
  refine kz_pfi (M := kt_M531) (c := 12) (o := 0) kX13_scanAll_c2.2.2.2.2.1 wq_X13_534 (.inl rfl) ?_
  refine kz_aload_n (M := kt_M531) kX13_scanAll_c2.2.2.2.2.2.1 rfl ?_
  refine kz_ic (M := kt_M531) 0 kX13_scanAll_c2.2.2.2.2.2.2.1 rfl ?_
  refine kz_pfi (M := kt_M531) (c := 12) (o := 0) kX13_scanAll_c2.2.2.2.2.2.2.2.1 wq_X13_462 (.inl rfl) ?_
  refine kz_ic (M := kt_M531) 1 kX13_scanAll_c3.1 rfl ?_
  refine kz_sti_n (M := kt_M531) [(0, .ref (w_adr E.2.1 12 0))] kX13_scanAll_c3.2.1 (Nat.le_of_ble_eq_true rfl) ⟨⟨rfl, rfl, .inr rfl⟩, trivial⟩ rfl ?_
  refine kz_ic (M := kt_M531) 1 kX13_scanAll_c3.2.2.1 rfl ?_
  refine kz_sti_n (M := kt_M531) [(0, .ref (w_adr E.2.1 12 0)), (1, .int 1)] kX13_scanAll_c3.2.2.2.1 (Nat.le_of_ble_eq_true rfl) ⟨⟨rfl, rfl, .inl rfl⟩, ⟨⟨rfl, rfl, .inr rfl⟩, trivial⟩⟩ rfl ?_
  exact kz_weak [(0, .ref (w_adr E.2.1 12 0)), (1, .int 1), (2, .int 1)] ⟨rfl, ⟨rfl, ⟨rfl, trivial⟩⟩⟩ rfl h
def zb_X13_here_p29 (E : zE) (L : Nat) (Q : kx_Rs → wS → Prop) (y0 : Int32) (w : wS) : Prop := Q (.inl (some (.int y0))) w
theorem zt_X13_here_p29 {E : zE} {L : Nat} {Q : kx_Rs → wS → Prop} {y0 : Int32} {w : wS} (hL : 19 ≤ L) (h : zb_X13_here_p29 E L Q y0 w) : kzE E L kt_M429 29 [(0, .ref (w_adr E.2.1 12 0))] [.int y0] w Q := by
  unfold zb_X13_here_p29 at h
  exact kz_iret (M := kt_M429) kX13_here_c2.1 rfl rfl h
def zb_X13_here_p0 (E : zE) (L : Nat) (Q : kx_Rs → wS → Prop) (x1 : Int32) (w : wS) : Prop := (if w_i w 12 0 3 ≤ ((w_i w 12 0 23) + x1) then zb_X13_here_p29 E L Q 10 w else (kx_inb ((w_i w 12 0 23) + x1) (w_n w 12 0 2) = true ∧ zb_X13_here_p29 E L Q (w_a w 12 0 2 (((w_i w 12 0 23) + x1)).toNatClampNeg) w))
theorem zt_X13_here_p0 {E : zE} {L : Nat} {Q : kx_Rs → wS → Prop} {x1 : Int32} {w : wS} (hL : 19 ≤ L) (h : zb_X13_here_p0 E L Q x1 w) : kzE E L kt_M429 0 [(0, .ref (w_adr E.2.1 12 0)), (1, .int x1)] [] w Q := by
  unfold zb_X13_here_p0 at h
  refine kz_aload_n (M := kt_M429) kX13_here_c0.1 rfl ?_
  refine kz_gfi (M := kt_M429) (c := 12) (o := 0) kX13_here_c0.2.1 wf_X13_462 (.inl rfl) ?_
  refine kz_iload_n (M := kt_M429) kX13_here_c0.2.2.1 rfl ?_
  refine kz_iadd (M := kt_M429) kX13_here_c0.2.2.2.1 ?_
  refine kz_aload_n (M := kt_M429) kX13_here_c0.2.2.2.2.1 rfl ?_
  refine kz_gfi (M := kt_M429) (c := 12) (o := 0) kX13_here_c0.2.2.2.2.2.1 wf_X13_455 (.inl rfl) ?_
  refine kz_icmp_ge (M := kt_M429) kX13_here_c0.2.2.2.2.2.2.1 (t := 27) rfl h (fun h => ?_) (fun h => ?_)
  · skip
    refine kz_bi (M := kt_M429) 10 kX13_here_c1.2.2.2.2.2.2.2.1 rfl ?_
    exact kz_weak [(0, .ref (w_adr E.2.1 12 0))] ⟨rfl, trivial⟩ rfl (zt_X13_here_p29 hL  h)
  · skip
    refine kz_aload_n (M := kt_M429) kX13_here_c0.2.2.2.2.2.2.2.1 rfl ?_
    refine kz_gfc (M := kt_M429) (x := 4074) (c := 12) (o := 0) kX13_here_c1.1 wf_X13_16 (.inl rfl) ?_
    refine kz_aload_n (M := kt_M429) kX13_here_c1.2.1 rfl ?_
    refine kz_gfi (M := kt_M429) (c := 12) (o := 0) kX13_here_c1.2.2.1 wf_X13_462 (.inl rfl) ?_
    refine kz_iload_n (M := kt_M429) kX13_here_c1.2.2.2.1 rfl ?_
    refine kz_iadd (M := kt_M429) kX13_here_c1.2.2.2.2.1 ?_
    refine kz_iald (M := kt_M429) (c := 12) (o := 0) (k := 2) (a := (E.2.1 4074)) kX13_here_c1.2.2.2.2.2.1 ow_12_0_2 oa_12_0_2 ot_0 h (fun h => ?_)
    refine kz_goto (M := kt_M429) kX13_here_c1.2.2.2.2.2.2.1 (t := 29) rfl ?_
    exact kz_weak [(0, .ref (w_adr E.2.1 12 0))] ⟨rfl, trivial⟩ rfl (zt_X13_here_p29 hL  h)
def zb_X13_isLetter_p29 (E : zE) (L : Nat) (Q : kx_Rs → wS → Prop) (y0 : Int32) (w : wS) : Prop := ((y0 = 0 ∨ y0 = 1) ∧ Q (.inl (some (.int y0))) w)
theorem zt_X13_isLetter_p29 {E : zE} {L : Nat} {Q : kx_Rs → wS → Prop} {y0 : Int32} {w : wS} (hL : 19 ≤ L) (h : zb_X13_isLetter_p29 E L Q y0 w) : kzE E L kt_M443 29 [] [.int y0] w Q := by
  unfold zb_X13_isLetter_p29 at h
  exact kz_iretz (M := kt_M443) kX13_isLetter_c1.2.2.2.2.2.2.2.1 rfl h.1 h.2
def zb_X13_isLetter_p28 (E : zE) (L : Nat) (Q : kx_Rs → wS → Prop) (w : wS) : Prop := zb_X13_isLetter_p29 E L Q 0 w
theorem zt_X13_isLetter_p28 {E : zE} {L : Nat} {Q : kx_Rs → wS → Prop} {w : wS} (hL : 19 ≤ L) (h : zb_X13_isLetter_p28 E L Q  w) : kzE E L kt_M443 28 [] [] w Q := by
  unfold zb_X13_isLetter_p28 at h
  refine kz_ic (M := kt_M443) 0 kX13_isLetter_c1.2.2.2.2.2.2.1 rfl ?_
  exact kz_weak [] trivial rfl (zt_X13_isLetter_p29 hL  h)
def zb_X13_isLetter_p24 (E : zE) (L : Nat) (Q : kx_Rs → wS → Prop) (w : wS) : Prop := zb_X13_isLetter_p29 E L Q 1 w
theorem zt_X13_isLetter_p24 {E : zE} {L : Nat} {Q : kx_Rs → wS → Prop} {w : wS} (hL : 19 ≤ L) (h : zb_X13_isLetter_p24 E L Q  w) : kzE E L kt_M443 24 [] [] w Q := by
  unfold zb_X13_isLetter_p24 at h
  refine kz_ic (M := kt_M443) 1 kX13_isLetter_c1.2.2.2.2.1 rfl ?_
  refine kz_goto (M := kt_M443) kX13_isLetter_c1.2.2.2.2.2.1 (t := 29) rfl ?_
  exact kz_weak [] trivial rfl (zt_X13_isLetter_p29 hL  h)
def zb_X13_isLetter_p12 (E : zE) (L : Nat) (Q : kx_Rs → wS → Prop) (x0 : Int32) (w : wS) : Prop := (if x0 < 65 then zb_X13_isLetter_p28 E L Q w else (if 90 < x0 then zb_X13_isLetter_p28 E L Q w else zb_X13_isLetter_p24 E L Q w))
theorem zt_X13_isLetter_p12 {E : zE} {L : Nat} {Q : kx_Rs → wS → Prop} {x0 : Int32} {w : wS} (hL : 19 ≤ L) (h : zb_X13_isLetter_p12 E L Q x0 w) : kzE E L kt_M443 12 [(0, .int x0)] [] w Q := by
  unfold zb_X13_isLetter_p12 at h
  refine kz_iload_n (M := kt_M443) kX13_isLetter_c0.2.2.2.2.2.2.1 rfl ?_
  refine kz_bi (M := kt_M443) 65 kX13_isLetter_c0.2.2.2.2.2.2.2.1 rfl ?_
  refine kz_icmp_lt (M := kt_M443) kX13_isLetter_c1.1 (t := 28) rfl h (fun h => ?_) (fun h => ?_)
  · skip
    exact kz_weak [] trivial rfl (zt_X13_isLetter_p28 hL  h)
  · skip
    refine kz_iload_n (M := kt_M443) kX13_isLetter_c1.2.1 rfl ?_
    refine kz_bi (M := kt_M443) 90 kX13_isLetter_c1.2.2.1 rfl ?_
    refine kz_icmp_gt (M := kt_M443) kX13_isLetter_c1.2.2.2.1 (t := 28) rfl h (fun h => ?_) (fun h => ?_)
    · skip
      exact kz_weak [] trivial rfl (zt_X13_isLetter_p28 hL  h)
    · skip
      exact kz_weak [] trivial rfl (zt_X13_isLetter_p24 hL  h)
def zb_X13_isLetter_p0 (E : zE) (L : Nat) (Q : kx_Rs → wS → Prop) (x0 : Int32) (w : wS) : Prop := (if x0 < 97 then zb_X13_isLetter_p12 E L Q x0 w else (if x0 ≤ 122 then zb_X13_isLetter_p24 E L Q w else zb_X13_isLetter_p12 E L Q x0 w))
theorem zt_X13_isLetter_p0 {E : zE} {L : Nat} {Q : kx_Rs → wS → Prop} {x0 : Int32} {w : wS} (hL : 19 ≤ L) (h : zb_X13_isLetter_p0 E L Q x0 w) : kzE E L kt_M443 0 [(0, .int x0)] [] w Q := by
  unfold zb_X13_isLetter_p0 at h
  refine kz_iload_n (M := kt_M443) kX13_isLetter_c0.1 rfl ?_
  refine kz_bi (M := kt_M443) 97 kX13_isLetter_c0.2.1 rfl ?_
  refine kz_icmp_lt (M := kt_M443) kX13_isLetter_c0.2.2.1 (t := 12) rfl h (fun h => ?_) (fun h => ?_)
  · skip
    exact kz_weak [(0, .int x0)] ⟨rfl, trivial⟩ rfl (zt_X13_isLetter_p12 hL  h)
  · skip
    refine kz_iload_n (M := kt_M443) kX13_isLetter_c0.2.2.2.1 rfl ?_
    refine kz_bi (M := kt_M443) 122 kX13_isLetter_c0.2.2.2.2.1 rfl ?_
    refine kz_icmp_le (M := kt_M443) kX13_isLetter_c0.2.2.2.2.2.1 (t := 24) rfl h (fun h => ?_) (fun h => ?_)
    · skip
      exact kz_weak [] trivial rfl (zt_X13_isLetter_p24 hL  h)
    · skip
      exact kz_weak [(0, .int x0)] ⟨rfl, trivial⟩ rfl (zt_X13_isLetter_p12 hL  h)
def zb_X13_goesOn_p25 (E : zE) (L : Nat) (Q : kx_Rs → wS → Prop) (y0 : Int32) (w : wS) : Prop := ((y0 = 0 ∨ y0 = 1) ∧ Q (.inl (some (.int y0))) w)
theorem zt_X13_goesOn_p25 {E : zE} {L : Nat} {Q : kx_Rs → wS → Prop} {y0 : Int32} {w : wS} (hL : 20 ≤ L) (h : zb_X13_goesOn_p25 E L Q y0 w) : kzE E L kt_M421 25 [] [.int y0] w Q := by
  unfold zb_X13_goesOn_p25 at h
  exact kz_iretz (M := kt_M421) kX13_goesOn_c1.2.2.2.2.1 rfl h.1 h.2
def zb_X13_goesOn_p20 (E : zE) (L : Nat) (Q : kx_Rs → wS → Prop) (w : wS) : Prop := zb_X13_goesOn_p25 E L Q 1 w
theorem zt_X13_goesOn_p20 {E : zE} {L : Nat} {Q : kx_Rs → wS → Prop} {w : wS} (hL : 20 ≤ L) (h : zb_X13_goesOn_p20 E L Q  w) : kzE E L kt_M421 20 [] [] w Q := by
  unfold zb_X13_goesOn_p20 at h
  refine kz_ic (M := kt_M421) 1 kX13_goesOn_c1.2.1 rfl ?_
  refine kz_goto (M := kt_M421) kX13_goesOn_c1.2.2.1 (t := 25) rfl ?_
  exact kz_weak [] trivial rfl (zt_X13_goesOn_p25 hL  h)
def zb_X13_goesOn_p0 (E : zE) (L : Nat) (Q : kx_Rs → wS → Prop) (x0 : Int32) (w : wS) : Prop := zw E (L - 20) kt_M443 [.int x0] w (wk1 (fun v2 w1 => wle w w1 → (if ¬ v2 = 0 then zb_X13_goesOn_p20 E L Q w1 else zw E (L - 20) kt_M441 [.int x0] w1 (wk1 (fun v4 w3 => wle w1 w3 → (if ¬ v4 = 0 then zb_X13_goesOn_p20 E L Q w3 else (if ¬ x0 = 46 then zb_X13_goesOn_p25 E L Q 0 w3 else zb_X13_goesOn_p20 E L Q w3))) (fun e w => Q (.inr e) w)))) (fun e w => Q (.inr e) w))
theorem zt_X13_goesOn_p0 {E : zE} {L : Nat} {Q : kx_Rs → wS → Prop} {x0 : Int32} {w : wS} (hL : 20 ≤ L) (h : zb_X13_goesOn_p0 E L Q x0 w) : kzE E L kt_M421 0 [(0, .int x0)] [] w Q := by
  unfold zb_X13_goesOn_p0 at h
  refine kz_iload_n (M := kt_M421) kX13_goesOn_c0.1 rfl ?_
  refine kz_cs1 (M := kt_M421) (As := [.int x0]) (rest := []) kX13_goesOn_c0.2.1 wl_X13_465 wMs_443 rfl (Nat.le_trans (Nat.le_of_ble_eq_true rfl) hL) (Nat.le_of_ble_eq_true rfl) (Nat.le_of_ble_eq_true rfl) h (fun v2 w1 hle h => ?_) (fun _ _ _ h => kzx_no rfl h)
  have h := h hle
  refine kz_if_ne (M := kt_M421) kX13_goesOn_c0.2.2.1 (t := 20) rfl h (fun h => ?_) (fun h => ?_)
  · skip
    exact kz_weak [] trivial rfl (zt_X13_goesOn_p20 hL  h)
  · skip
    refine kz_iload_n (M := kt_M421) kX13_goesOn_c0.2.2.2.1 rfl ?_
    refine kz_cs1 (M := kt_M421) (As := [.int x0]) (rest := []) kX13_goesOn_c0.2.2.2.2.1 wl_X13_469 wMs_441 rfl (Nat.le_trans (Nat.le_of_ble_eq_true rfl) hL) (Nat.le_of_ble_eq_true rfl) (Nat.le_of_ble_eq_true rfl) h (fun v4 w3 hle h => ?_) (fun _ _ _ h => kzx_no rfl h)
    have h := h hle
    refine kz_if_ne (M := kt_M421) kX13_goesOn_c0.2.2.2.2.2.1 (t := 20) rfl h (fun h => ?_) (fun h => ?_)
    · skip
      exact kz_weak [] trivial rfl (zt_X13_goesOn_p20 hL  h)
    · skip
      refine kz_iload_n (M := kt_M421) kX13_goesOn_c0.2.2.2.2.2.2.1 rfl ?_
      refine kz_bi (M := kt_M421) 46 kX13_goesOn_c0.2.2.2.2.2.2.2.1 rfl ?_
      refine kz_icmp_ne (M := kt_M421) kX13_goesOn_c1.1 (t := 24) rfl h (fun h => ?_) (fun h => ?_)
      · skip
        refine kz_ic (M := kt_M421) 0 kX13_goesOn_c1.2.2.2.1 rfl ?_
        exact kz_weak [] trivial rfl (zt_X13_goesOn_p25 hL  h)
      · skip
        exact kz_weak [] trivial rfl (zt_X13_goesOn_p20 hL  h)
def zb_X13_isDigit_p17 (E : zE) (L : Nat) (Q : kx_Rs → wS → Prop) (y0 : Int32) (w : wS) : Prop := ((y0 = 0 ∨ y0 = 1) ∧ Q (.inl (some (.int y0))) w)
theorem zt_X13_isDigit_p17 {E : zE} {L : Nat} {Q : kx_Rs → wS → Prop} {y0 : Int32} {w : wS} (hL : 19 ≤ L) (h : zb_X13_isDigit_p17 E L Q y0 w) : kzE E L kt_M441 17 [] [.int y0] w Q := by
  unfold zb_X13_isDigit_p17 at h
  exact kz_iretz (M := kt_M441) kX13_isDigit_c1.2.1 rfl h.1 h.2
def zb_X13_isDigit_p16 (E : zE) (L : Nat) (Q : kx_Rs → wS → Prop) (w : wS) : Prop := zb_X13_isDigit_p17 E L Q 0 w
theorem zt_X13_isDigit_p16 {E : zE} {L : Nat} {Q : kx_Rs → wS → Prop} {w : wS} (hL : 19 ≤ L) (h : zb_X13_isDigit_p16 E L Q  w) : kzE E L kt_M441 16 [] [] w Q := by
  unfold zb_X13_isDigit_p16 at h
  refine kz_ic (M := kt_M441) 0 kX13_isDigit_c1.1 rfl ?_
  exact kz_weak [] trivial rfl (zt_X13_isDigit_p17 hL  h)
def zb_X13_isDigit_p0 (E : zE) (L : Nat) (Q : kx_Rs → wS → Prop) (x0 : Int32) (w : wS) : Prop := (if x0 < 48 then zb_X13_isDigit_p16 E L Q w else (if 57 < x0 then zb_X13_isDigit_p16 E L Q w else zb_X13_isDigit_p17 E L Q 1 w))
theorem zt_X13_isDigit_p0 {E : zE} {L : Nat} {Q : kx_Rs → wS → Prop} {x0 : Int32} {w : wS} (hL : 19 ≤ L) (h : zb_X13_isDigit_p0 E L Q x0 w) : kzE E L kt_M441 0 [(0, .int x0)] [] w Q := by
  unfold zb_X13_isDigit_p0 at h
  refine kz_iload_n (M := kt_M441) kX13_isDigit_c0.1 rfl ?_
  refine kz_bi (M := kt_M441) 48 kX13_isDigit_c0.2.1 rfl ?_
  refine kz_icmp_lt (M := kt_M441) kX13_isDigit_c0.2.2.1 (t := 16) rfl h (fun h => ?_) (fun h => ?_)
  · skip
    exact kz_weak [] trivial rfl (zt_X13_isDigit_p16 hL  h)
  · skip
    refine kz_iload_n (M := kt_M441) kX13_isDigit_c0.2.2.2.1 rfl ?_
    refine kz_bi (M := kt_M441) 57 kX13_isDigit_c0.2.2.2.2.1 rfl ?_
    refine kz_icmp_gt (M := kt_M441) kX13_isDigit_c0.2.2.2.2.2.1 (t := 16) rfl h (fun h => ?_) (fun h => ?_)
    · skip
      exact kz_weak [] trivial rfl (zt_X13_isDigit_p16 hL  h)
    · skip
      refine kz_ic (M := kt_M441) 1 kX13_isDigit_c0.2.2.2.2.2.2.1 rfl ?_
      refine kz_goto (M := kt_M441) kX13_isDigit_c0.2.2.2.2.2.2.2.1 (t := 17) rfl ?_
      exact kz_weak [] trivial rfl (zt_X13_isDigit_p17 hL  h)
def zL_X13_nameOf_p118 (E : zE) (L : Nat) (Q : kx_Rs → wS → Prop) (x1 : Int32) (x2 : Int32) (x3 : Int32) (w : wS) : Prop := kzE E L kt_M480 118 [(0, .ref (w_adr E.2.1 12 0)), (1, .int x1), (2, .int x2), (3, .int x3)] [] w Q
def zL_X13_nameOf_p30 (E : zE) (L : Nat) (Q : kx_Rs → wS → Prop) (x1 : Int32) (x2 : Int32) (x3 : Int32) (x4 : Int32) (x5 : Int32) (w : wS) : Prop := kzE E L kt_M480 30 [(0, .ref (w_adr E.2.1 12 0)), (1, .int x1), (2, .int x2), (3, .int x3), (4, .int x4), (5, .int x5)] [] w Q
def zL_X13_nameOf_p2 (E : zE) (L : Nat) (Q : kx_Rs → wS → Prop) (x1 : Int32) (x2 : Int32) (x3 : Int32) (w : wS) : Prop := kzE E L kt_M480 2 [(0, .ref (w_adr E.2.1 12 0)), (1, .int x1), (2, .int x2), (3, .int x3)] [] w Q
def zb_X13_nameOf_p118 (E : zE) (L : Nat) (Q : kx_Rs → wS → Prop) (x1 : Int32) (x2 : Int32) (x3 : Int32) (w : wS) : Prop := (if x2 ≤ x3 then Q (.inl (some (.int (((w_i w 12 0 13) + 1) - 1)))) (ws_i (ws_i w 12 0 17 ((w_i w 12 0 17) + x2)) 12 0 13 ((w_i w 12 0 13) + 1)) else (kx_inb (x1 + x3) (w_n w 12 0 2) = true ∧ (kx_inb ((w_i w 12 0 17) + x3) (w_n w 12 0 16) = true ∧ zL_X13_nameOf_p118 E L Q x1 x2 (x3 + 1) (ws_a w 12 0 16 (((w_i w 12 0 17) + x3)).toNatClampNeg (w_a w 12 0 2 ((x1 + x3)).toNatClampNeg)))))
theorem zt_X13_nameOf_p118 {E : zE} {L : Nat} {Q : kx_Rs → wS → Prop} {x1 : Int32} {x2 : Int32} {x3 : Int32} {w : wS} (hL : 19 ≤ L) (h : zb_X13_nameOf_p118 E L Q x1 x2 x3 w) : kzE E L kt_M480 118 [(0, .ref (w_adr E.2.1 12 0)), (1, .int x1), (2, .int x2), (3, .int x3)] [] w Q := by
  unfold zb_X13_nameOf_p118 at h
  refine kz_iload_n (M := kt_M480) kX13_nameOf_c8.2.2.1 rfl ?_
  refine kz_iload_n (M := kt_M480) kX13_nameOf_c8.2.2.2.1 rfl ?_
  refine kz_icmp_ge (M := kt_M480) kX13_nameOf_c8.2.2.2.2.1 (t := 148) rfl h (fun h => ?_) (fun h => ?_)
  · skip
    refine kz_aload_n (M := kt_M480) kX13_nameOf_c10.2.2.2.2.1 rfl ?_
    refine kz_dup (M := kt_M480) kX13_nameOf_c10.2.2.2.2.2.1 rfl ?_
    refine kz_gfi (M := kt_M480) (c := 12) (o := 0) kX13_nameOf_c10.2.2.2.2.2.2.1 wf_X13_478 (.inl rfl) ?_
    refine kz_iload_n (M := kt_M480) kX13_nameOf_c10.2.2.2.2.2.2.2.1 rfl ?_
    refine kz_iadd (M := kt_M480) kX13_nameOf_c11.1 ?_
    refine kz_pfi (M := kt_M480) (c := 12) (o := 0) kX13_nameOf_c11.2.1 wq_X13_478 (.inl rfl) ?_
    refine kz_aload_n (M := kt_M480) kX13_nameOf_c11.2.2.1 rfl ?_
    refine kz_dup (M := kt_M480) kX13_nameOf_c11.2.2.2.1 rfl ?_
    refine kz_gfiR (M := kt_M480) (c := 12) (o := 0) (w_i w 12 0 13) kX13_nameOf_c11.2.2.2.2.1 wf_X13_475 (.inl rfl) (rd_i_i rfl) ?_
    refine kz_ic (M := kt_M480) 1 kX13_nameOf_c11.2.2.2.2.2.1 rfl ?_
    refine kz_iadd (M := kt_M480) kX13_nameOf_c11.2.2.2.2.2.2.1 ?_
    refine kz_pfi (M := kt_M480) (c := 12) (o := 0) kX13_nameOf_c11.2.2.2.2.2.2.2.1 wq_X13_475 (.inl rfl) ?_
    refine kz_aload_n (M := kt_M480) kX13_nameOf_c12.1 rfl ?_
    refine kz_gfiR (M := kt_M480) (c := 12) (o := 0) ((w_i w 12 0 13) + 1) kX13_nameOf_c12.2.1 wf_X13_475 (.inl rfl) rd_i_e ?_
    refine kz_ic (M := kt_M480) 1 kX13_nameOf_c12.2.2.1 rfl ?_
    refine kz_isub (M := kt_M480) kX13_nameOf_c12.2.2.2.1 ?_
    exact kz_iret (M := kt_M480) kX13_nameOf_c12.2.2.2.2.1 rfl rfl h
  · skip
    refine kz_aload_n (M := kt_M480) kX13_nameOf_c8.2.2.2.2.2.1 rfl ?_
    refine kz_gfc (M := kt_M480) (x := 4088) (c := 12) (o := 0) kX13_nameOf_c8.2.2.2.2.2.2.1 wf_X13_175 (.inl rfl) ?_
    refine kz_aload_n (M := kt_M480) kX13_nameOf_c8.2.2.2.2.2.2.2.1 rfl ?_
    refine kz_gfi (M := kt_M480) (c := 12) (o := 0) kX13_nameOf_c9.1 wf_X13_478 (.inl rfl) ?_
    refine kz_iload_n (M := kt_M480) kX13_nameOf_c9.2.1 rfl ?_
    refine kz_iadd (M := kt_M480) kX13_nameOf_c9.2.2.1 ?_
    refine kz_aload_n (M := kt_M480) kX13_nameOf_c9.2.2.2.1 rfl ?_
    refine kz_gfc (M := kt_M480) (x := 4074) (c := 12) (o := 0) kX13_nameOf_c9.2.2.2.2.1 wf_X13_16 (.inl rfl) ?_
    refine kz_iload_n (M := kt_M480) kX13_nameOf_c9.2.2.2.2.2.1 rfl ?_
    refine kz_iload_n (M := kt_M480) kX13_nameOf_c9.2.2.2.2.2.2.1 rfl ?_
    refine kz_iadd (M := kt_M480) kX13_nameOf_c9.2.2.2.2.2.2.2.1 ?_
    refine kz_iald (M := kt_M480) (c := 12) (o := 0) (k := 2) (a := (E.2.1 4074)) kX13_nameOf_c10.1 ow_12_0_2 oa_12_0_2 ot_0 h (fun h => ?_)
    refine kz_iast (M := kt_M480) (c := 12) (o := 0) (k := 16) (a := (E.2.1 4088)) kX13_nameOf_c10.2.1 ow_12_0_16 oa_12_0_16 ot_0 h (fun h => ?_)
    refine kz_inc (M := kt_M480) [(0, .ref (w_adr E.2.1 12 0)), (1, .int x1), (2, .int x2)] kX13_nameOf_c10.2.2.1 rfl (Nat.le_of_ble_eq_true rfl) ⟨⟨rfl, rfl, .inl rfl⟩, ⟨⟨rfl, rfl, .inl rfl⟩, ⟨⟨rfl, rfl, .inr rfl⟩, trivial⟩⟩⟩ rfl ?_
    refine kz_goto (M := kt_M480) kX13_nameOf_c10.2.2.2.1 (t := 118) rfl ?_
    exact kz_weak [(0, .ref (w_adr E.2.1 12 0)), (1, .int x1), (2, .int x2), (3, .int (x3 + 1))] ⟨rfl, ⟨rfl, ⟨rfl, ⟨rfl, trivial⟩⟩⟩⟩ rfl h
def zb_X13_nameOf_p80 (E : zE) (L : Nat) (Q : kx_Rs → wS → Prop) (x1 : Int32) (x2 : Int32) (x3 : Int32) (x4 : Int32) (w : wS) : Prop := (if x4 = 0 then zL_X13_nameOf_p2 E L Q x1 x2 (x3 + 1) w else Q (.inl (some (.int x3))) w)
theorem zt_X13_nameOf_p80 {E : zE} {L : Nat} {Q : kx_Rs → wS → Prop} {x1 : Int32} {x2 : Int32} {x3 : Int32} {x4 : Int32} {w : wS} (hL : 19 ≤ L) (h : zb_X13_nameOf_p80 E L Q x1 x2 x3 x4 w) : kzE E L kt_M480 80 [(0, .ref (w_adr E.2.1 12 0)), (1, .int x1), (2, .int x2), (3, .int x3), (4, .int x4)] [] w Q := by
  unfold zb_X13_nameOf_p80 at h
  refine kz_iload (M := kt_M480) kX13_nameOf_c5.2.2.2.2.2.1 rfl ?_
  refine kz_if_eq (M := kt_M480) kX13_nameOf_c5.2.2.2.2.2.2.1 (t := 87) rfl h (fun h => ?_) (fun h => ?_)
  · skip
    refine kz_inc (M := kt_M480) [(0, .ref (w_adr E.2.1 12 0)), (1, .int x1), (2, .int x2)] kX13_nameOf_c6.2.1 rfl (Nat.le_of_ble_eq_true rfl) ⟨⟨rfl, rfl, .inl rfl⟩, ⟨⟨rfl, rfl, .inl rfl⟩, ⟨⟨rfl, rfl, .inr rfl⟩, trivial⟩⟩⟩ rfl ?_
    refine kz_goto (M := kt_M480) kX13_nameOf_c6.2.2.1 (t := 2) rfl ?_
    exact kz_weak [(0, .ref (w_adr E.2.1 12 0)), (1, .int x1), (2, .int x2), (3, .int (x3 + 1))] ⟨rfl, ⟨rfl, ⟨rfl, ⟨rfl, trivial⟩⟩⟩⟩ rfl h
  · skip
    refine kz_iload_n (M := kt_M480) kX13_nameOf_c5.2.2.2.2.2.2.2.1 rfl ?_
    exact kz_iret (M := kt_M480) kX13_nameOf_c6.1 rfl rfl h
def zb_X13_nameOf_p72 (E : zE) (L : Nat) (Q : kx_Rs → wS → Prop) (x1 : Int32) (x2 : Int32) (x3 : Int32) (x5 : Int32) (y0 : Int32) (w : wS) : Prop := zL_X13_nameOf_p30 E L Q x1 x2 x3 y0 (x5 + 1) w
theorem zt_X13_nameOf_p72 {E : zE} {L : Nat} {Q : kx_Rs → wS → Prop} {x1 : Int32} {x2 : Int32} {x3 : Int32} {x5 : Int32} {y0 : Int32} {w : wS} (hL : 19 ≤ L) (h : zb_X13_nameOf_p72 E L Q x1 x2 x3 x5 y0 w) : kzE E L kt_M480 72 [(0, .ref (w_adr E.2.1 12 0)), (1, .int x1), (2, .int x2), (3, .int x3), (5, .int x5)] [.int y0] w Q := by
  unfold zb_X13_nameOf_p72 at h
  refine kz_sti (M := kt_M480) [(0, .ref (w_adr E.2.1 12 0)), (1, .int x1), (2, .int x2), (3, .int x3), (5, .int x5)] kX13_nameOf_c5.2.2.1 (Nat.le_of_ble_eq_true rfl) ⟨⟨rfl, rfl, .inl rfl⟩, ⟨⟨rfl, rfl, .inl rfl⟩, ⟨⟨rfl, rfl, .inl rfl⟩, ⟨⟨rfl, rfl, .inr rfl⟩, ⟨⟨rfl, rfl, .inl rfl⟩, trivial⟩⟩⟩⟩⟩ rfl ?_
  refine kz_inc (M := kt_M480) [(0, .ref (w_adr E.2.1 12 0)), (1, .int x1), (2, .int x2), (3, .int x3), (4, .int y0)] kX13_nameOf_c5.2.2.2.1 rfl (Nat.le_of_ble_eq_true rfl) ⟨⟨rfl, rfl, .inl rfl⟩, ⟨⟨rfl, rfl, .inl rfl⟩, ⟨⟨rfl, rfl, .inl rfl⟩, ⟨⟨rfl, rfl, .inl rfl⟩, ⟨⟨rfl, rfl, .inr rfl⟩, trivial⟩⟩⟩⟩⟩ rfl ?_
  refine kz_goto (M := kt_M480) kX13_nameOf_c5.2.2.2.2.1 (t := 30) rfl ?_
  exact kz_weak [(0, .ref (w_adr E.2.1 12 0)), (1, .int x1), (2, .int x2), (3, .int x3), (4, .int y0), (5, .int (x5 + 1))] ⟨rfl, ⟨rfl, ⟨rfl, ⟨rfl, ⟨rfl, ⟨rfl, trivial⟩⟩⟩⟩⟩⟩ rfl h
def zb_X13_nameOf_p30 (E : zE) (L : Nat) (Q : kx_Rs → wS → Prop) (x1 : Int32) (x2 : Int32) (x3 : Int32) (x4 : Int32) (x5 : Int32) (w : wS) : Prop := (if x2 ≤ x5 then zb_X13_nameOf_p80 E L Q x1 x2 x3 x4 w else (if x4 = 0 then zb_X13_nameOf_p80 E L Q x1 x2 x3 x4 w else (kx_inb x3 (w_n w 12 0 14) = true ∧ (kx_inb ((w_a w 12 0 14 (x3).toNatClampNeg) + x5) (w_n w 12 0 16) = true ∧ (kx_inb (x1 + x5) (w_n w 12 0 2) = true ∧ (if ¬ w_a w 12 0 16 (((w_a w 12 0 14 (x3).toNatClampNeg) + x5)).toNatClampNeg = w_a w 12 0 2 ((x1 + x5)).toNatClampNeg then zb_X13_nameOf_p72 E L Q x1 x2 x3 x5 0 w else zb_X13_nameOf_p72 E L Q x1 x2 x3 x5 1 w))))))
theorem zt_X13_nameOf_p30 {E : zE} {L : Nat} {Q : kx_Rs → wS → Prop} {x1 : Int32} {x2 : Int32} {x3 : Int32} {x4 : Int32} {x5 : Int32} {w : wS} (hL : 19 ≤ L) (h : zb_X13_nameOf_p30 E L Q x1 x2 x3 x4 x5 w) : kzE E L kt_M480 30 [(0, .ref (w_adr E.2.1 12 0)), (1, .int x1), (2, .int x2), (3, .int x3), (4, .int x4), (5, .int x5)] [] w Q := by
  unfold zb_X13_nameOf_p30 at h
  refine kz_iload (M := kt_M480) kX13_nameOf_c2.2.2.1 rfl ?_
  refine kz_iload_n (M := kt_M480) kX13_nameOf_c2.2.2.2.1 rfl ?_
  refine kz_icmp_ge (M := kt_M480) kX13_nameOf_c2.2.2.2.2.1 (t := 80) rfl h (fun h => ?_) (fun h => ?_)
  · skip
    exact kz_weak [(0, .ref (w_adr E.2.1 12 0)), (1, .int x1), (2, .int x2), (3, .int x3), (4, .int x4)] ⟨rfl, ⟨rfl, ⟨rfl, ⟨rfl, ⟨rfl, trivial⟩⟩⟩⟩⟩ rfl (zt_X13_nameOf_p80 hL  h)
  · skip
    refine kz_iload (M := kt_M480) kX13_nameOf_c2.2.2.2.2.2.1 rfl ?_
    refine kz_if_eq (M := kt_M480) kX13_nameOf_c2.2.2.2.2.2.2.1 (t := 80) rfl h (fun h => ?_) (fun h => ?_)
    · skip
      exact kz_weak [(0, .ref (w_adr E.2.1 12 0)), (1, .int x1), (2, .int x2), (3, .int x3), (4, .int x4)] ⟨rfl, ⟨rfl, ⟨rfl, ⟨rfl, ⟨rfl, trivial⟩⟩⟩⟩⟩ rfl (zt_X13_nameOf_p80 hL  h)
    · skip
      refine kz_aload_n (M := kt_M480) kX13_nameOf_c2.2.2.2.2.2.2.2.1 rfl ?_
      refine kz_gfc (M := kt_M480) (x := 4088) (c := 12) (o := 0) kX13_nameOf_c3.1 wf_X13_175 (.inl rfl) ?_
      refine kz_aload_n (M := kt_M480) kX13_nameOf_c3.2.1 rfl ?_
      refine kz_gfc (M := kt_M480) (x := 4086) (c := 12) (o := 0) kX13_nameOf_c3.2.2.1 wf_X13_169 (.inl rfl) ?_
      refine kz_iload_n (M := kt_M480) kX13_nameOf_c3.2.2.2.1 rfl ?_
      refine kz_iald (M := kt_M480) (c := 12) (o := 0) (k := 14) (a := (E.2.1 4086)) kX13_nameOf_c3.2.2.2.2.1 ow_12_0_14 oa_12_0_14 ot_0 h (fun h => ?_)
      refine kz_iload (M := kt_M480) kX13_nameOf_c3.2.2.2.2.2.1 rfl ?_
      refine kz_iadd (M := kt_M480) kX13_nameOf_c3.2.2.2.2.2.2.1 ?_
      refine kz_iald (M := kt_M480) (c := 12) (o := 0) (k := 16) (a := (E.2.1 4088)) kX13_nameOf_c3.2.2.2.2.2.2.2.1 ow_12_0_16 oa_12_0_16 ot_0 h (fun h => ?_)
      refine kz_aload_n (M := kt_M480) kX13_nameOf_c4.1 rfl ?_
      refine kz_gfc (M := kt_M480) (x := 4074) (c := 12) (o := 0) kX13_nameOf_c4.2.1 wf_X13_16 (.inl rfl) ?_
      refine kz_iload_n (M := kt_M480) kX13_nameOf_c4.2.2.1 rfl ?_
      refine kz_iload (M := kt_M480) kX13_nameOf_c4.2.2.2.1 rfl ?_
      refine kz_iadd (M := kt_M480) kX13_nameOf_c4.2.2.2.2.1 ?_
      refine kz_iald (M := kt_M480) (c := 12) (o := 0) (k := 2) (a := (E.2.1 4074)) kX13_nameOf_c4.2.2.2.2.2.1 ow_12_0_2 oa_12_0_2 ot_0 h (fun h => ?_)
      refine kz_icmp_ne (M := kt_M480) kX13_nameOf_c4.2.2.2.2.2.2.1 (t := 71) rfl h (fun h => ?_) (fun h => ?_)
      · skip
        refine kz_ic (M := kt_M480) 0 kX13_nameOf_c5.2.1 rfl ?_
        exact kz_weak [(0, .ref (w_adr E.2.1 12 0)), (1, .int x1), (2, .int x2), (3, .int x3), (5, .int x5)] ⟨rfl, ⟨rfl, ⟨rfl, ⟨rfl, ⟨rfl, trivial⟩⟩⟩⟩⟩ rfl (zt_X13_nameOf_p72 hL  h)
      · skip
        refine kz_ic (M := kt_M480) 1 kX13_nameOf_c4.2.2.2.2.2.2.2.1 rfl ?_
        refine kz_goto (M := kt_M480) kX13_nameOf_c5.1 (t := 72) rfl ?_
        exact kz_weak [(0, .ref (w_adr E.2.1 12 0)), (1, .int x1), (2, .int x2), (3, .int x3), (5, .int x5)] ⟨rfl, ⟨rfl, ⟨rfl, ⟨rfl, ⟨rfl, trivial⟩⟩⟩⟩⟩ rfl (zt_X13_nameOf_p72 hL  h)
def zb_X13_nameOf_p25 (E : zE) (L : Nat) (Q : kx_Rs → wS → Prop) (x1 : Int32) (x2 : Int32) (x3 : Int32) (y0 : Int32) (w : wS) : Prop := zL_X13_nameOf_p30 E L Q x1 x2 x3 y0 0 w
theorem zt_X13_nameOf_p25 {E : zE} {L : Nat} {Q : kx_Rs → wS → Prop} {x1 : Int32} {x2 : Int32} {x3 : Int32} {y0 : Int32} {w : wS} (hL : 19 ≤ L) (h : zb_X13_nameOf_p25 E L Q x1 x2 x3 y0 w) : kzE E L kt_M480 25 [(0, .ref (w_adr E.2.1 12 0)), (1, .int x1), (2, .int x2), (3, .int x3)] [.int y0] w Q := by
  unfold zb_X13_nameOf_p25 at h
  refine kz_sti (M := kt_M480) [(0, .ref (w_adr E.2.1 12 0)), (1, .int x1), (2, .int x2), (3, .int x3)] kX13_nameOf_c1.2.2.2.2.2.2.2.1 (Nat.le_of_ble_eq_true rfl) ⟨⟨rfl, rfl, .inl rfl⟩, ⟨⟨rfl, rfl, .inl rfl⟩, ⟨⟨rfl, rfl, .inl rfl⟩, ⟨⟨rfl, rfl, .inr rfl⟩, trivial⟩⟩⟩⟩ rfl ?_
  refine kz_ic (M := kt_M480) 0 kX13_nameOf_c2.1 rfl ?_
  refine kz_sti (M := kt_M480) [(0, .ref (w_adr E.2.1 12 0)), (1, .int x1), (2, .int x2), (3, .int x3), (4, .int y0)] kX13_nameOf_c2.2.1 (Nat.le_of_ble_eq_true rfl) ⟨⟨rfl, rfl, .inl rfl⟩, ⟨⟨rfl, rfl, .inl rfl⟩, ⟨⟨rfl, rfl, .inl rfl⟩, ⟨⟨rfl, rfl, .inl rfl⟩, ⟨⟨rfl, rfl, .inr rfl⟩, trivial⟩⟩⟩⟩⟩ rfl ?_
  exact kz_weak [(0, .ref (w_adr E.2.1 12 0)), (1, .int x1), (2, .int x2), (3, .int x3), (4, .int y0), (5, .int 0)] ⟨rfl, ⟨rfl, ⟨rfl, ⟨rfl, ⟨rfl, ⟨rfl, trivial⟩⟩⟩⟩⟩⟩ rfl h
def zb_X13_nameOf_p2 (E : zE) (L : Nat) (Q : kx_Rs → wS → Prop) (x1 : Int32) (x2 : Int32) (x3 : Int32) (w : wS) : Prop := (if w_i w 12 0 13 ≤ x3 then (kx_inb (w_i w 12 0 13) (w_n w 12 0 14) = true ∧ (kx_inb (w_i w 12 0 13) (w_n w 12 0 15) = true ∧ zL_X13_nameOf_p118 E L Q x1 x2 0 (ws_a (ws_a w 12 0 14 (w_i w 12 0 13).toNatClampNeg (w_i w 12 0 17)) 12 0 15 (w_i w 12 0 13).toNatClampNeg x2))) else (kx_inb x3 (w_n w 12 0 15) = true ∧ (if ¬ w_a w 12 0 15 (x3).toNatClampNeg = x2 then zb_X13_nameOf_p25 E L Q x1 x2 x3 0 w else zb_X13_nameOf_p25 E L Q x1 x2 x3 1 w)))
theorem zt_X13_nameOf_p2 {E : zE} {L : Nat} {Q : kx_Rs → wS → Prop} {x1 : Int32} {x2 : Int32} {x3 : Int32} {w : wS} (hL : 19 ≤ L) (h : zb_X13_nameOf_p2 E L Q x1 x2 x3 w) : kzE E L kt_M480 2 [(0, .ref (w_adr E.2.1 12 0)), (1, .int x1), (2, .int x2), (3, .int x3)] [] w Q := by
  unfold zb_X13_nameOf_p2 at h
  refine kz_iload_n (M := kt_M480) kX13_nameOf_c0.2.2.1 rfl ?_
  refine kz_aload_n (M := kt_M480) kX13_nameOf_c0.2.2.2.1 rfl ?_
  refine kz_gfi (M := kt_M480) (c := 12) (o := 0) kX13_nameOf_c0.2.2.2.2.1 wf_X13_475 (.inl rfl) ?_
  refine kz_icmp_ge (M := kt_M480) kX13_nameOf_c0.2.2.2.2.2.1 (t := 93) rfl h (fun h => ?_) (fun h => ?_)
  · skip
    refine kz_aload_n (M := kt_M480) kX13_nameOf_c6.2.2.2.1 rfl ?_
    refine kz_gfc (M := kt_M480) (x := 4086) (c := 12) (o := 0) kX13_nameOf_c6.2.2.2.2.1 wf_X13_169 (.inl rfl) ?_
    refine kz_aload_n (M := kt_M480) kX13_nameOf_c6.2.2.2.2.2.1 rfl ?_
    refine kz_gfi (M := kt_M480) (c := 12) (o := 0) kX13_nameOf_c6.2.2.2.2.2.2.1 wf_X13_475 (.inl rfl) ?_
    refine kz_aload_n (M := kt_M480) kX13_nameOf_c6.2.2.2.2.2.2.2.1 rfl ?_
    refine kz_gfi (M := kt_M480) (c := 12) (o := 0) kX13_nameOf_c7.1 wf_X13_478 (.inl rfl) ?_
    refine kz_iast (M := kt_M480) (c := 12) (o := 0) (k := 14) (a := (E.2.1 4086)) kX13_nameOf_c7.2.1 ow_12_0_14 oa_12_0_14 ot_0 h (fun h => ?_)
    refine kz_aload_n (M := kt_M480) kX13_nameOf_c7.2.2.1 rfl ?_
    refine kz_gfc (M := kt_M480) (x := 4087) (c := 12) (o := 0) kX13_nameOf_c7.2.2.2.1 wf_X13_172 (.inl rfl) ?_
    refine kz_aload_n (M := kt_M480) kX13_nameOf_c7.2.2.2.2.1 rfl ?_
    refine kz_gfiR (M := kt_M480) (c := 12) (o := 0) (w_i w 12 0 13) kX13_nameOf_c7.2.2.2.2.2.1 wf_X13_475 (.inl rfl) rd_i_a ?_
    refine kz_iload_n (M := kt_M480) kX13_nameOf_c7.2.2.2.2.2.2.1 rfl ?_
    refine kz_iastR (M := kt_M480) (n := w_n w 12 0 15) (c := 12) (o := 0) (k := 15) (a := (E.2.1 4087)) kX13_nameOf_c7.2.2.2.2.2.2.2.1 ow_12_0_15 oa_12_0_15 ot_0 rd_n_a h (fun h => ?_)
    refine kz_ic (M := kt_M480) 0 kX13_nameOf_c8.1 rfl ?_
    refine kz_sti_n (M := kt_M480) [(0, .ref (w_adr E.2.1 12 0)), (1, .int x1), (2, .int x2)] kX13_nameOf_c8.2.1 (Nat.le_of_ble_eq_true rfl) ⟨⟨rfl, rfl, .inl rfl⟩, ⟨⟨rfl, rfl, .inl rfl⟩, ⟨⟨rfl, rfl, .inr rfl⟩, trivial⟩⟩⟩ rfl ?_
    exact kz_weak [(0, .ref (w_adr E.2.1 12 0)), (1, .int x1), (2, .int x2), (3, .int 0)] ⟨rfl, ⟨rfl, ⟨rfl, ⟨rfl, trivial⟩⟩⟩⟩ rfl h
  · skip
    refine kz_aload_n (M := kt_M480) kX13_nameOf_c0.2.2.2.2.2.2.1 rfl ?_
    refine kz_gfc (M := kt_M480) (x := 4087) (c := 12) (o := 0) kX13_nameOf_c0.2.2.2.2.2.2.2.1 wf_X13_172 (.inl rfl) ?_
    refine kz_iload_n (M := kt_M480) kX13_nameOf_c1.1 rfl ?_
    refine kz_iald (M := kt_M480) (c := 12) (o := 0) (k := 15) (a := (E.2.1 4087)) kX13_nameOf_c1.2.1 ow_12_0_15 oa_12_0_15 ot_0 h (fun h => ?_)
    refine kz_iload_n (M := kt_M480) kX13_nameOf_c1.2.2.1 rfl ?_
    refine kz_icmp_ne (M := kt_M480) kX13_nameOf_c1.2.2.2.1 (t := 24) rfl h (fun h => ?_) (fun h => ?_)
    · skip
      refine kz_ic (M := kt_M480) 0 kX13_nameOf_c1.2.2.2.2.2.2.1 rfl ?_
      exact kz_weak [(0, .ref (w_adr E.2.1 12 0)), (1, .int x1), (2, .int x2), (3, .int x3)] ⟨rfl, ⟨rfl, ⟨rfl, ⟨rfl, trivial⟩⟩⟩⟩ rfl (zt_X13_nameOf_p25 hL  h)
    · skip
      refine kz_ic (M := kt_M480) 1 kX13_nameOf_c1.2.2.2.2.1 rfl ?_
      refine kz_goto (M := kt_M480) kX13_nameOf_c1.2.2.2.2.2.1 (t := 25) rfl ?_
      exact kz_weak [(0, .ref (w_adr E.2.1 12 0)), (1, .int x1), (2, .int x2), (3, .int x3)] ⟨rfl, ⟨rfl, ⟨rfl, ⟨rfl, trivial⟩⟩⟩⟩ rfl (zt_X13_nameOf_p25 hL  h)
def zb_X13_nameOf_p0 (E : zE) (L : Nat) (Q : kx_Rs → wS → Prop) (x1 : Int32) (x2 : Int32) (w : wS) : Prop := zL_X13_nameOf_p2 E L Q x1 x2 0 w
theorem zt_X13_nameOf_p0 {E : zE} {L : Nat} {Q : kx_Rs → wS → Prop} {x1 : Int32} {x2 : Int32} {w : wS} (hL : 19 ≤ L) (h : zb_X13_nameOf_p0 E L Q x1 x2 w) : kzE E L kt_M480 0 [(0, .ref (w_adr E.2.1 12 0)), (1, .int x1), (2, .int x2)] [] w Q := by
  unfold zb_X13_nameOf_p0 at h
  refine kz_ic (M := kt_M480) 0 kX13_nameOf_c0.1 rfl ?_
  refine kz_sti_n (M := kt_M480) [(0, .ref (w_adr E.2.1 12 0)), (1, .int x1), (2, .int x2)] kX13_nameOf_c0.2.1 (Nat.le_of_ble_eq_true rfl) ⟨⟨rfl, rfl, .inl rfl⟩, ⟨⟨rfl, rfl, .inl rfl⟩, ⟨⟨rfl, rfl, .inr rfl⟩, trivial⟩⟩⟩ rfl ?_
  exact kz_weak [(0, .ref (w_adr E.2.1 12 0)), (1, .int x1), (2, .int x2), (3, .int 0)] ⟨rfl, ⟨rfl, ⟨rfl, ⟨rfl, trivial⟩⟩⟩⟩ rfl h
def zL_X13_decimal_p4 (E : zE) (L : Nat) (Q : kx_Rs → wS → Prop) (x1 : Int64) (x3 : Int32) (w : wS) : Prop := kzE E L kt_M382 4 [(0, .ref (w_adr E.2.1 12 0)), (1, .long (x1)), (3, .int x3)] [] w Q
def zb_X13_decimal_p83 (E : zE) (L : Nat) (Q : kx_Rs → wS → Prop) (w : wS) : Prop := Q (.inl (some (.int 76))) w
theorem zt_X13_decimal_p83 {E : zE} {L : Nat} {Q : kx_Rs → wS → Prop} {w : wS} (hL : 21 ≤ L) (h : zb_X13_decimal_p83 E L Q  w) : kzE E L kt_M382 83 [(0, .ref (w_adr E.2.1 12 0))] [] w Q := by
  unfold zb_X13_decimal_p83 at h
  refine kz_bi (M := kt_M382) 76 kX13_decimal_c5.2.2.2.2.2.1 rfl ?_
  exact kz_iret (M := kt_M382) kX13_decimal_c5.2.2.2.2.2.2.1 rfl rfl h
def zb_X13_decimal_p44 (E : zE) (L : Nat) (Q : kx_Rs → wS → Prop) (x3 : Int32) (y0 : Int64) (w : wS) : Prop := zL_X13_decimal_p4 E L Q y0 x3 (ws_i w 12 0 23 ((w_i w 12 0 23) + 1))
theorem zt_X13_decimal_p44 {E : zE} {L : Nat} {Q : kx_Rs → wS → Prop} {x3 : Int32} {y0 : Int64} {w : wS} (hL : 21 ≤ L) (h : zb_X13_decimal_p44 E L Q x3 y0 w) : kzE E L kt_M382 44 [(0, .ref (w_adr E.2.1 12 0)), (3, .int x3)] [.long (y0)] w Q := by
  unfold zb_X13_decimal_p44 at h
  refine kz_stl_n (M := kt_M382) [(0, .ref (w_adr E.2.1 12 0)), (3, .int x3)] kX13_decimal_c3.2.1 (Nat.le_of_ble_eq_true rfl) ⟨⟨rfl, rfl, .inr rfl⟩, ⟨⟨rfl, rfl, .inl rfl⟩, trivial⟩⟩ rfl rfl ?_
  refine kz_aload_n (M := kt_M382) kX13_decimal_c3.2.2.1 rfl ?_
  refine kz_dup (M := kt_M382) kX13_decimal_c3.2.2.2.1 rfl ?_
  refine kz_gfi (M := kt_M382) (c := 12) (o := 0) kX13_decimal_c3.2.2.2.2.1 wf_X13_462 (.inl rfl) ?_
  refine kz_ic (M := kt_M382) 1 kX13_decimal_c3.2.2.2.2.2.1 rfl ?_
  refine kz_iadd (M := kt_M382) kX13_decimal_c3.2.2.2.2.2.2.1 ?_
  refine kz_pfi (M := kt_M382) (c := 12) (o := 0) kX13_decimal_c3.2.2.2.2.2.2.2.1 wq_X13_462 (.inl rfl) ?_
  refine kz_goto (M := kt_M382) kX13_decimal_c4.1 (t := 4) rfl ?_
  exact kz_weak [(0, .ref (w_adr E.2.1 12 0)), (1, .long (y0)), (3, .int x3)] ⟨rfl, ⟨rfl, ⟨rfl, trivial⟩⟩⟩ rfl h
def zb_X13_decimal_p4 (E : zE) (L : Nat) (Q : kx_Rs → wS → Prop) (x1 : Int64) (x3 : Int32) (w : wS) : Prop := zw E (L - 21) kt_M429 [.ref (w_adr E.2.1 12 0), .int 0] w (wk1 (fun v2 w1 => wle w w1 → zw E (L - 20) kt_M441 [.int v2] w1 (wk1 (fun v4 w3 => wle w1 w3 → (if v4 = 0 then (if 10 < x3 then zb_X13_decimal_p83 E L Q w3 else (if 0 < (lg_cmp x1 2147483647) then zb_X13_decimal_p83 E L Q w3 else zw E (L - 21) kt_M429 [.ref (w_adr E.2.1 12 0), .int 0] w3 (wk1 (fun v6 w5 => wle w3 w5 → zw E (L - 20) kt_M421 [.int v6] w5 (wk1 (fun v8 w7 => wle w5 w7 → (if v8 = 0 then Q (.inl (some (.int 71))) (ws_i w7 12 0 24 ((x1).toInt32)) else zb_X13_decimal_p83 E L Q w7)) (fun e w => Q (.inr e) w))) (fun e w => Q (.inr e) w)))) else (if 10 < (x3 + 1) then zb_X13_decimal_p44 E L Q (x3 + 1) x1 w3 else zw E (L - 21) kt_M429 [.ref (w_adr E.2.1 12 0), .int 0] w3 (wk1 (fun v10 w9 => wle w3 w9 → zb_X13_decimal_p44 E L Q (x3 + 1) (((10 * x1) + ((v10).toInt64)) - 48) w9) (fun e w => Q (.inr e) w))))) (fun e w => Q (.inr e) w))) (fun e w => Q (.inr e) w))
theorem zt_X13_decimal_p4 {E : zE} {L : Nat} {Q : kx_Rs → wS → Prop} {x1 : Int64} {x3 : Int32} {w : wS} (hL : 21 ≤ L) (h : zb_X13_decimal_p4 E L Q x1 x3 w) : kzE E L kt_M382 4 [(0, .ref (w_adr E.2.1 12 0)), (1, .long (x1)), (3, .int x3)] [] w Q := by
  unfold zb_X13_decimal_p4 at h
  refine kz_aload_n (M := kt_M382) kX13_decimal_c0.2.2.2.2.1 rfl ?_
  refine kz_ic (M := kt_M382) 0 kX13_decimal_c0.2.2.2.2.2.1 rfl ?_
  refine kz_cv1 (M := kt_M382) (c := 12) (o := 0) (As := [.int 0]) (rest := []) kX13_decimal_c0.2.2.2.2.2.2.1 wl_X13_489 wMv_429 rfl (.inl rfl) rfl (Nat.le_trans (Nat.le_of_ble_eq_true rfl) hL) (Nat.le_of_ble_eq_true rfl) (Nat.le_of_ble_eq_true rfl) h (fun v2 w1 hle h => ?_) (fun _ _ _ h => kzx_no rfl h)
  have h := h hle
  refine kz_cs1 (M := kt_M382) (As := [.int v2]) (rest := []) kX13_decimal_c0.2.2.2.2.2.2.2.1 wl_X13_469 wMs_441 rfl (Nat.le_trans (Nat.le_of_ble_eq_true rfl) hL) (Nat.le_of_ble_eq_true rfl) (Nat.le_of_ble_eq_true rfl) h (fun v4 w3 hle h => ?_) (fun _ _ _ h => kzx_no rfl h)
  have h := h hle
  refine kz_if_eq (M := kt_M382) kX13_decimal_c1.1 (t := 58) rfl h (fun h => ?_) (fun h => ?_)
  · skip
    refine kz_iload_n (M := kt_M382) kX13_decimal_c4.2.1 rfl ?_
    refine kz_bi (M := kt_M382) 10 kX13_decimal_c4.2.2.1 rfl ?_
    refine kz_icmp_gt (M := kt_M382) kX13_decimal_c4.2.2.2.1 (t := 83) rfl h (fun h => ?_) (fun h => ?_)
    · skip
      exact kz_weak [(0, .ref (w_adr E.2.1 12 0))] ⟨rfl, trivial⟩ rfl (zt_X13_decimal_p83 hL  h)
    · skip
      refine kz_lload_n (M := kt_M382) kX13_decimal_c4.2.2.2.2.1 rfl ?_
      refine kz_ldc2 (M := kt_M382) (x := 2147483647) kX13_decimal_c4.2.2.2.2.2.1 (zc_X13_523) ?_
      refine kz_lcmp (M := kt_M382) kX13_decimal_c4.2.2.2.2.2.2.1 ?_
      refine kz_if_gt (M := kt_M382) kX13_decimal_c4.2.2.2.2.2.2.2.1 (t := 83) rfl h (fun h => ?_) (fun h => ?_)
      · skip
        exact kz_weak [(0, .ref (w_adr E.2.1 12 0))] ⟨rfl, trivial⟩ rfl (zt_X13_decimal_p83 hL  h)
      · skip
        refine kz_aload_n (M := kt_M382) kX13_decimal_c5.1 rfl ?_
        refine kz_ic (M := kt_M382) 0 kX13_decimal_c5.2.1 rfl ?_
        refine kz_cv1 (M := kt_M382) (c := 12) (o := 0) (As := [.int 0]) (rest := []) kX13_decimal_c5.2.2.1 wl_X13_489 wMv_429 rfl (.inl rfl) rfl (Nat.le_trans (Nat.le_of_ble_eq_true rfl) hL) (Nat.le_of_ble_eq_true rfl) (Nat.le_of_ble_eq_true rfl) h (fun v6 w5 hle h => ?_) (fun _ _ _ h => kzx_no rfl h)
        have h := h hle
        refine kz_cs1 (M := kt_M382) (As := [.int v6]) (rest := []) kX13_decimal_c5.2.2.2.1 wl_X13_496 wMs_421 rfl (Nat.le_trans (Nat.le_of_ble_eq_true rfl) hL) (Nat.le_of_ble_eq_true rfl) (Nat.le_of_ble_eq_true rfl) h (fun v8 w7 hle h => ?_) (fun _ _ _ h => kzx_no rfl h)
        have h := h hle
        refine kz_if_eq (M := kt_M382) kX13_decimal_c5.2.2.2.2.1 (t := 86) rfl h (fun h => ?_) (fun h => ?_)
        · skip
          refine kz_aload_n (M := kt_M382) kX13_decimal_c5.2.2.2.2.2.2.2.1 rfl ?_
          refine kz_lload_n (M := kt_M382) kX13_decimal_c6.1 rfl ?_
          refine kz_l2i (M := kt_M382) kX13_decimal_c6.2.1 ?_
          refine kz_pfi (M := kt_M382) (c := 12) (o := 0) kX13_decimal_c6.2.2.1 wq_X13_493 (.inl rfl) ?_
          refine kz_bi (M := kt_M382) 71 kX13_decimal_c6.2.2.2.1 rfl ?_
          exact kz_iret (M := kt_M382) kX13_decimal_c6.2.2.2.2.1 rfl rfl h
        · skip
          exact kz_weak [(0, .ref (w_adr E.2.1 12 0))] ⟨rfl, trivial⟩ rfl (zt_X13_decimal_p83 hL  h)
  · skip
    refine kz_inc (M := kt_M382) [(0, .ref (w_adr E.2.1 12 0)), (1, .long (x1))] kX13_decimal_c1.2.1 rfl (Nat.le_of_ble_eq_true rfl) ⟨⟨rfl, rfl, .inl rfl⟩, ⟨⟨rfl, rfl, .inl rfl⟩, trivial⟩⟩ rfl ?_
    refine kz_iload_n (M := kt_M382) kX13_decimal_c1.2.2.1 rfl ?_
    refine kz_bi (M := kt_M382) 10 kX13_decimal_c1.2.2.2.1 rfl ?_
    refine kz_icmp_gt (M := kt_M382) kX13_decimal_c1.2.2.2.2.1 (t := 43) rfl h (fun h => ?_) (fun h => ?_)
    · skip
      refine kz_lload_n (M := kt_M382) kX13_decimal_c3.1 rfl ?_
      exact kz_weak [(0, .ref (w_adr E.2.1 12 0)), (3, .int (x3 + 1))] ⟨rfl, ⟨rfl, trivial⟩⟩ rfl (zt_X13_decimal_p44 hL  h)
    · skip
      refine kz_ldc2 (M := kt_M382) (x := 10) kX13_decimal_c1.2.2.2.2.2.1 (zc_X13_519) ?_
      refine kz_lload_n (M := kt_M382) kX13_decimal_c1.2.2.2.2.2.2.1 rfl ?_
      refine kz_lmul (M := kt_M382) kX13_decimal_c1.2.2.2.2.2.2.2.1 ?_
      refine kz_aload_n (M := kt_M382) kX13_decimal_c2.1 rfl ?_
      refine kz_ic (M := kt_M382) 0 kX13_decimal_c2.2.1 rfl ?_
      refine kz_cv1 (M := kt_M382) (c := 12) (o := 0) (As := [.int 0]) (rest := [.long ((10 * x1))]) kX13_decimal_c2.2.2.1 wl_X13_489 wMv_429 rfl (.inl rfl) rfl (Nat.le_trans (Nat.le_of_ble_eq_true rfl) hL) (Nat.le_of_ble_eq_true rfl) (Nat.le_of_ble_eq_true rfl) h (fun v10 w9 hle h => ?_) (fun _ _ _ h => kzx_no rfl h)
      have h := h hle
      refine kz_i2l (M := kt_M382) kX13_decimal_c2.2.2.2.1 ?_
      refine kz_ladd (M := kt_M382) kX13_decimal_c2.2.2.2.2.1 ?_
      refine kz_ldc2 (M := kt_M382) (x := 48) kX13_decimal_c2.2.2.2.2.2.1 (zc_X13_521) ?_
      refine kz_lsub (M := kt_M382) kX13_decimal_c2.2.2.2.2.2.2.1 ?_
      refine kz_goto (M := kt_M382) kX13_decimal_c2.2.2.2.2.2.2.2.1 (t := 44) rfl ?_
      exact kz_weak [(0, .ref (w_adr E.2.1 12 0)), (3, .int (x3 + 1))] ⟨rfl, ⟨rfl, trivial⟩⟩ rfl (zt_X13_decimal_p44 hL  h)
def zb_X13_decimal_p0 (E : zE) (L : Nat) (Q : kx_Rs → wS → Prop) (w : wS) : Prop := zL_X13_decimal_p4 E L Q 0 0 w
theorem zt_X13_decimal_p0 {E : zE} {L : Nat} {Q : kx_Rs → wS → Prop} {w : wS} (hL : 21 ≤ L) (h : zb_X13_decimal_p0 E L Q  w) : kzE E L kt_M382 0 [(0, .ref (w_adr E.2.1 12 0))] [] w Q := by
  unfold zb_X13_decimal_p0 at h
  refine kz_lconst (M := kt_M382) kX13_decimal_c0.1 ?_
  refine kz_stl_n (M := kt_M382) [(0, .ref (w_adr E.2.1 12 0))] kX13_decimal_c0.2.1 (Nat.le_of_ble_eq_true rfl) ⟨⟨rfl, rfl, .inr rfl⟩, trivial⟩ rfl rfl ?_
  refine kz_ic (M := kt_M382) 0 kX13_decimal_c0.2.2.1 rfl ?_
  refine kz_sti_n (M := kt_M382) [(0, .ref (w_adr E.2.1 12 0)), (1, .long (0))] kX13_decimal_c0.2.2.2.1 (Nat.le_of_ble_eq_true rfl) ⟨⟨rfl, rfl, .inl rfl⟩, ⟨⟨rfl, rfl, .inl rfl⟩, trivial⟩⟩ rfl ?_
  exact kz_weak [(0, .ref (w_adr E.2.1 12 0)), (1, .long (0)), (3, .int 0)] ⟨rfl, ⟨rfl, ⟨rfl, trivial⟩⟩⟩ rfl h
def zL_X13_sixteen_p14 (E : zE) (L : Nat) (Q : kx_Rs → wS → Prop) (x1 : Int32) (x2 : Int32) (w : wS) : Prop := kzE E L kt_M537 14 [(0, .ref (w_adr E.2.1 12 0)), (1, .int x1), (2, .int x2)] [] w Q
def zb_X13_sixteen_p120 (E : zE) (L : Nat) (Q : kx_Rs → wS → Prop) (w : wS) : Prop := Q (.inl (some (.int 76))) w
theorem zt_X13_sixteen_p120 {E : zE} {L : Nat} {Q : kx_Rs → wS → Prop} {w : wS} (hL : 21 ≤ L) (h : zb_X13_sixteen_p120 E L Q  w) : kzE E L kt_M537 120 [(0, .ref (w_adr E.2.1 12 0))] [] w Q := by
  unfold zb_X13_sixteen_p120 at h
  refine kz_bi (M := kt_M537) 76 kX13_sixteen_c8.2.2.1 rfl ?_
  exact kz_iret (M := kt_M537) kX13_sixteen_c8.2.2.2.1 rfl rfl h
def zb_X13_sixteen_p99 (E : zE) (L : Nat) (Q : kx_Rs → wS → Prop) (x1 : Int32) (x2 : Int32) (w : wS) : Prop := (if x2 = 0 then zb_X13_sixteen_p120 E L Q w else (if 8 < x2 then zb_X13_sixteen_p120 E L Q w else zw E (L - 21) kt_M429 [.ref (w_adr E.2.1 12 0), .int 0] w (wk1 (fun v2 w1 => wle w w1 → zw E (L - 20) kt_M421 [.int v2] w1 (wk1 (fun v4 w3 => wle w1 w3 → (if v4 = 0 then Q (.inl (some (.int 71))) (ws_i w3 12 0 24 x1) else zb_X13_sixteen_p120 E L Q w3)) (fun e w => Q (.inr e) w))) (fun e w => Q (.inr e) w))))
theorem zt_X13_sixteen_p99 {E : zE} {L : Nat} {Q : kx_Rs → wS → Prop} {x1 : Int32} {x2 : Int32} {w : wS} (hL : 21 ≤ L) (h : zb_X13_sixteen_p99 E L Q x1 x2 w) : kzE E L kt_M537 99 [(0, .ref (w_adr E.2.1 12 0)), (1, .int x1), (2, .int x2)] [] w Q := by
  unfold zb_X13_sixteen_p99 at h
  refine kz_iload_n (M := kt_M537) kX13_sixteen_c7.1 rfl ?_
  refine kz_if_eq (M := kt_M537) kX13_sixteen_c7.2.1 (t := 120) rfl h (fun h => ?_) (fun h => ?_)
  · skip
    exact kz_weak [(0, .ref (w_adr E.2.1 12 0))] ⟨rfl, trivial⟩ rfl (zt_X13_sixteen_p120 hL  h)
  · skip
    refine kz_iload_n (M := kt_M537) kX13_sixteen_c7.2.2.1 rfl ?_
    refine kz_bi (M := kt_M537) 8 kX13_sixteen_c7.2.2.2.1 rfl ?_
    refine kz_icmp_gt (M := kt_M537) kX13_sixteen_c7.2.2.2.2.1 (t := 120) rfl h (fun h => ?_) (fun h => ?_)
    · skip
      exact kz_weak [(0, .ref (w_adr E.2.1 12 0))] ⟨rfl, trivial⟩ rfl (zt_X13_sixteen_p120 hL  h)
    · skip
      refine kz_aload_n (M := kt_M537) kX13_sixteen_c7.2.2.2.2.2.1 rfl ?_
      refine kz_ic (M := kt_M537) 0 kX13_sixteen_c7.2.2.2.2.2.2.1 rfl ?_
      refine kz_cv1 (M := kt_M537) (c := 12) (o := 0) (As := [.int 0]) (rest := []) kX13_sixteen_c7.2.2.2.2.2.2.2.1 wl_X13_489 wMv_429 rfl (.inl rfl) rfl (Nat.le_trans (Nat.le_of_ble_eq_true rfl) hL) (Nat.le_of_ble_eq_true rfl) (Nat.le_of_ble_eq_true rfl) h (fun v2 w1 hle h => ?_) (fun _ _ _ h => kzx_no rfl h)
      have h := h hle
      refine kz_cs1 (M := kt_M537) (As := [.int v2]) (rest := []) kX13_sixteen_c8.1 wl_X13_496 wMs_421 rfl (Nat.le_trans (Nat.le_of_ble_eq_true rfl) hL) (Nat.le_of_ble_eq_true rfl) (Nat.le_of_ble_eq_true rfl) h (fun v4 w3 hle h => ?_) (fun _ _ _ h => kzx_no rfl h)
      have h := h hle
      refine kz_if_eq (M := kt_M537) kX13_sixteen_c8.2.1 (t := 123) rfl h (fun h => ?_) (fun h => ?_)
      · skip
        refine kz_aload_n (M := kt_M537) kX13_sixteen_c8.2.2.2.2.1 rfl ?_
        refine kz_iload_n (M := kt_M537) kX13_sixteen_c8.2.2.2.2.2.1 rfl ?_
        refine kz_pfi (M := kt_M537) (c := 12) (o := 0) kX13_sixteen_c8.2.2.2.2.2.2.1 wq_X13_493 (.inl rfl) ?_
        refine kz_bi (M := kt_M537) 71 kX13_sixteen_c8.2.2.2.2.2.2.2.1 rfl ?_
        exact kz_iret (M := kt_M537) kX13_sixteen_c9.1 rfl rfl h
      · skip
        exact kz_weak [(0, .ref (w_adr E.2.1 12 0))] ⟨rfl, trivial⟩ rfl (zt_X13_sixteen_p120 hL  h)
def zb_X13_sixteen_p84 (E : zE) (L : Nat) (Q : kx_Rs → wS → Prop) (x2 : Int32) (y0 : Int32) (y1 : Int32) (w : wS) : Prop := zL_X13_sixteen_p14 E L Q (y1 ||| y0) x2 (ws_i w 12 0 23 ((w_i w 12 0 23) + 1))
theorem zt_X13_sixteen_p84 {E : zE} {L : Nat} {Q : kx_Rs → wS → Prop} {x2 : Int32} {y0 : Int32} {y1 : Int32} {w : wS} (hL : 21 ≤ L) (h : zb_X13_sixteen_p84 E L Q x2 y0 y1 w) : kzE E L kt_M537 84 [(0, .ref (w_adr E.2.1 12 0)), (2, .int x2)] [.int y0, .int y1] w Q := by
  unfold zb_X13_sixteen_p84 at h
  refine kz_ior (M := kt_M537) kX13_sixteen_c5.2.2.2.2.2.2.2.1 ?_
  refine kz_sti_n (M := kt_M537) [(0, .ref (w_adr E.2.1 12 0)), (2, .int x2)] kX13_sixteen_c6.1 (Nat.le_of_ble_eq_true rfl) ⟨⟨rfl, rfl, .inr rfl⟩, ⟨⟨rfl, rfl, .inl rfl⟩, trivial⟩⟩ rfl ?_
  refine kz_aload_n (M := kt_M537) kX13_sixteen_c6.2.1 rfl ?_
  refine kz_dup (M := kt_M537) kX13_sixteen_c6.2.2.1 rfl ?_
  refine kz_gfi (M := kt_M537) (c := 12) (o := 0) kX13_sixteen_c6.2.2.2.1 wf_X13_462 (.inl rfl) ?_
  refine kz_ic (M := kt_M537) 1 kX13_sixteen_c6.2.2.2.2.1 rfl ?_
  refine kz_iadd (M := kt_M537) kX13_sixteen_c6.2.2.2.2.2.1 ?_
  refine kz_pfi (M := kt_M537) (c := 12) (o := 0) kX13_sixteen_c6.2.2.2.2.2.2.1 wq_X13_462 (.inl rfl) ?_
  refine kz_goto (M := kt_M537) kX13_sixteen_c6.2.2.2.2.2.2.2.1 (t := 14) rfl ?_
  exact kz_weak [(0, .ref (w_adr E.2.1 12 0)), (1, .int (y1 ||| y0)), (2, .int x2)] ⟨rfl, ⟨rfl, ⟨rfl, trivial⟩⟩⟩ rfl h
def zb_X13_sixteen_p45 (E : zE) (L : Nat) (Q : kx_Rs → wS → Prop) (x1 : Int32) (x2 : Int32) (w : wS) : Prop := zw E (L - 21) kt_M429 [.ref (w_adr E.2.1 12 0), .int 0] w (wk1 (fun v2 w1 => wle w w1 → zw E (L - 20) kt_M441 [.int v2] w1 (wk1 (fun v4 w3 => wle w1 w3 → (if v4 = 0 then zw E (L - 21) kt_M429 [.ref (w_adr E.2.1 12 0), .int 0] w3 (wk1 (fun v6 w5 => wle w3 w5 → zb_X13_sixteen_p84 E L Q (x2 + 1) ((v6 - 65) + 10) (x1 <<< (4 &&& 31)) w5) (fun e w => Q (.inr e) w)) else zw E (L - 21) kt_M429 [.ref (w_adr E.2.1 12 0), .int 0] w3 (wk1 (fun v8 w7 => wle w3 w7 → zb_X13_sixteen_p84 E L Q (x2 + 1) (v8 - 48) (x1 <<< (4 &&& 31)) w7) (fun e w => Q (.inr e) w)))) (fun e w => Q (.inr e) w))) (fun e w => Q (.inr e) w))
theorem zt_X13_sixteen_p45 {E : zE} {L : Nat} {Q : kx_Rs → wS → Prop} {x1 : Int32} {x2 : Int32} {w : wS} (hL : 21 ≤ L) (h : zb_X13_sixteen_p45 E L Q x1 x2 w) : kzE E L kt_M537 45 [(0, .ref (w_adr E.2.1 12 0)), (1, .int x1), (2, .int x2)] [] w Q := by
  unfold zb_X13_sixteen_p45 at h
  refine kz_inc (M := kt_M537) [(0, .ref (w_adr E.2.1 12 0)), (1, .int x1)] kX13_sixteen_c3.2.1 rfl (Nat.le_of_ble_eq_true rfl) ⟨⟨rfl, rfl, .inl rfl⟩, ⟨⟨rfl, rfl, .inr rfl⟩, trivial⟩⟩ rfl ?_
  refine kz_iload_n (M := kt_M537) kX13_sixteen_c3.2.2.1 rfl ?_
  refine kz_ic (M := kt_M537) 4 kX13_sixteen_c3.2.2.2.1 rfl ?_
  refine kz_ishl (M := kt_M537) kX13_sixteen_c3.2.2.2.2.1 ?_
  refine kz_aload_n (M := kt_M537) kX13_sixteen_c3.2.2.2.2.2.1 rfl ?_
  refine kz_ic (M := kt_M537) 0 kX13_sixteen_c3.2.2.2.2.2.2.1 rfl ?_
  refine kz_cv1 (M := kt_M537) (c := 12) (o := 0) (As := [.int 0]) (rest := [.int (x1 <<< (4 &&& 31))]) kX13_sixteen_c3.2.2.2.2.2.2.2.1 wl_X13_489 wMv_429 rfl (.inl rfl) rfl (Nat.le_trans (Nat.le_of_ble_eq_true rfl) hL) (Nat.le_of_ble_eq_true rfl) (Nat.le_of_ble_eq_true rfl) h (fun v2 w1 hle h => ?_) (fun _ _ _ h => kzx_no rfl h)
  have h := h hle
  refine kz_cs1 (M := kt_M537) (As := [.int v2]) (rest := [.int (x1 <<< (4 &&& 31))]) kX13_sixteen_c4.1 wl_X13_469 wMs_441 rfl (Nat.le_trans (Nat.le_of_ble_eq_true rfl) hL) (Nat.le_of_ble_eq_true rfl) (Nat.le_of_ble_eq_true rfl) h (fun v4 w3 hle h => ?_) (fun _ _ _ h => kzx_no rfl h)
  have h := h hle
  refine kz_if_eq (M := kt_M537) kX13_sixteen_c4.2.1 (t := 73) rfl h (fun h => ?_) (fun h => ?_)
  · skip
    refine kz_aload_n (M := kt_M537) kX13_sixteen_c5.1 rfl ?_
    refine kz_ic (M := kt_M537) 0 kX13_sixteen_c5.2.1 rfl ?_
    refine kz_cv1 (M := kt_M537) (c := 12) (o := 0) (As := [.int 0]) (rest := [.int (x1 <<< (4 &&& 31))]) kX13_sixteen_c5.2.2.1 wl_X13_489 wMv_429 rfl (.inl rfl) rfl (Nat.le_trans (Nat.le_of_ble_eq_true rfl) hL) (Nat.le_of_ble_eq_true rfl) (Nat.le_of_ble_eq_true rfl) h (fun v6 w5 hle h => ?_) (fun _ _ _ h => kzx_no rfl h)
    have h := h hle
    refine kz_bi (M := kt_M537) 65 kX13_sixteen_c5.2.2.2.1 rfl ?_
    refine kz_isub (M := kt_M537) kX13_sixteen_c5.2.2.2.2.1 ?_
    refine kz_bi (M := kt_M537) 10 kX13_sixteen_c5.2.2.2.2.2.1 rfl ?_
    refine kz_iadd (M := kt_M537) kX13_sixteen_c5.2.2.2.2.2.2.1 ?_
    exact kz_weak [(0, .ref (w_adr E.2.1 12 0)), (2, .int (x2 + 1))] ⟨rfl, ⟨rfl, trivial⟩⟩ rfl (zt_X13_sixteen_p84 hL  h)
  · skip
    refine kz_aload_n (M := kt_M537) kX13_sixteen_c4.2.2.1 rfl ?_
    refine kz_ic (M := kt_M537) 0 kX13_sixteen_c4.2.2.2.1 rfl ?_
    refine kz_cv1 (M := kt_M537) (c := 12) (o := 0) (As := [.int 0]) (rest := [.int (x1 <<< (4 &&& 31))]) kX13_sixteen_c4.2.2.2.2.1 wl_X13_489 wMv_429 rfl (.inl rfl) rfl (Nat.le_trans (Nat.le_of_ble_eq_true rfl) hL) (Nat.le_of_ble_eq_true rfl) (Nat.le_of_ble_eq_true rfl) h (fun v8 w7 hle h => ?_) (fun _ _ _ h => kzx_no rfl h)
    have h := h hle
    refine kz_bi (M := kt_M537) 48 kX13_sixteen_c4.2.2.2.2.2.1 rfl ?_
    refine kz_isub (M := kt_M537) kX13_sixteen_c4.2.2.2.2.2.2.1 ?_
    refine kz_goto (M := kt_M537) kX13_sixteen_c4.2.2.2.2.2.2.2.1 (t := 84) rfl ?_
    exact kz_weak [(0, .ref (w_adr E.2.1 12 0)), (2, .int (x2 + 1))] ⟨rfl, ⟨rfl, trivial⟩⟩ rfl (zt_X13_sixteen_p84 hL  h)
def zb_X13_sixteen_p14 (E : zE) (L : Nat) (Q : kx_Rs → wS → Prop) (x1 : Int32) (x2 : Int32) (w : wS) : Prop := zw E (L - 21) kt_M429 [.ref (w_adr E.2.1 12 0), .int 0] w (wk1 (fun v2 w1 => wle w w1 → zw E (L - 20) kt_M441 [.int v2] w1 (wk1 (fun v4 w3 => wle w1 w3 → (if ¬ v4 = 0 then zb_X13_sixteen_p45 E L Q x1 x2 w3 else zw E (L - 21) kt_M429 [.ref (w_adr E.2.1 12 0), .int 0] w3 (wk1 (fun v6 w5 => wle w3 w5 → (if v6 < 65 then zb_X13_sixteen_p99 E L Q x1 x2 w5 else zw E (L - 21) kt_M429 [.ref (w_adr E.2.1 12 0), .int 0] w5 (wk1 (fun v8 w7 => wle w5 w7 → (if 70 < v8 then zb_X13_sixteen_p99 E L Q x1 x2 w7 else zb_X13_sixteen_p45 E L Q x1 x2 w7)) (fun e w => Q (.inr e) w)))) (fun e w => Q (.inr e) w)))) (fun e w => Q (.inr e) w))) (fun e w => Q (.inr e) w))
theorem zt_X13_sixteen_p14 {E : zE} {L : Nat} {Q : kx_Rs → wS → Prop} {x1 : Int32} {x2 : Int32} {w : wS} (hL : 21 ≤ L) (h : zb_X13_sixteen_p14 E L Q x1 x2 w) : kzE E L kt_M537 14 [(0, .ref (w_adr E.2.1 12 0)), (1, .int x1), (2, .int x2)] [] w Q := by
  unfold zb_X13_sixteen_p14 at h
  refine kz_aload_n (M := kt_M537) kX13_sixteen_c1.2.2.1 rfl ?_
  refine kz_ic (M := kt_M537) 0 kX13_sixteen_c1.2.2.2.1 rfl ?_
  refine kz_cv1 (M := kt_M537) (c := 12) (o := 0) (As := [.int 0]) (rest := []) kX13_sixteen_c1.2.2.2.2.1 wl_X13_489 wMv_429 rfl (.inl rfl) rfl (Nat.le_trans (Nat.le_of_ble_eq_true rfl) hL) (Nat.le_of_ble_eq_true rfl) (Nat.le_of_ble_eq_true rfl) h (fun v2 w1 hle h => ?_) (fun _ _ _ h => kzx_no rfl h)
  have h := h hle
  refine kz_cs1 (M := kt_M537) (As := [.int v2]) (rest := []) kX13_sixteen_c1.2.2.2.2.2.1 wl_X13_469 wMs_441 rfl (Nat.le_trans (Nat.le_of_ble_eq_true rfl) hL) (Nat.le_of_ble_eq_true rfl) (Nat.le_of_ble_eq_true rfl) h (fun v4 w3 hle h => ?_) (fun _ _ _ h => kzx_no rfl h)
  have h := h hle
  refine kz_if_ne (M := kt_M537) kX13_sixteen_c1.2.2.2.2.2.2.1 (t := 45) rfl h (fun h => ?_) (fun h => ?_)
  · skip
    exact kz_weak [(0, .ref (w_adr E.2.1 12 0)), (1, .int x1), (2, .int x2)] ⟨rfl, ⟨rfl, ⟨rfl, trivial⟩⟩⟩ rfl (zt_X13_sixteen_p45 hL  h)
  · skip
    refine kz_aload_n (M := kt_M537) kX13_sixteen_c1.2.2.2.2.2.2.2.1 rfl ?_
    refine kz_ic (M := kt_M537) 0 kX13_sixteen_c2.1 rfl ?_
    refine kz_cv1 (M := kt_M537) (c := 12) (o := 0) (As := [.int 0]) (rest := []) kX13_sixteen_c2.2.1 wl_X13_489 wMv_429 rfl (.inl rfl) rfl (Nat.le_trans (Nat.le_of_ble_eq_true rfl) hL) (Nat.le_of_ble_eq_true rfl) (Nat.le_of_ble_eq_true rfl) h (fun v6 w5 hle h => ?_) (fun _ _ _ h => kzx_no rfl h)
    have h := h hle
    refine kz_bi (M := kt_M537) 65 kX13_sixteen_c2.2.2.1 rfl ?_
    refine kz_icmp_lt (M := kt_M537) kX13_sixteen_c2.2.2.2.1 (t := 99) rfl h (fun h => ?_) (fun h => ?_)
    · skip
      exact kz_weak [(0, .ref (w_adr E.2.1 12 0)), (1, .int x1), (2, .int x2)] ⟨rfl, ⟨rfl, ⟨rfl, trivial⟩⟩⟩ rfl (zt_X13_sixteen_p99 hL  h)
    · skip
      refine kz_aload_n (M := kt_M537) kX13_sixteen_c2.2.2.2.2.1 rfl ?_
      refine kz_ic (M := kt_M537) 0 kX13_sixteen_c2.2.2.2.2.2.1 rfl ?_
      refine kz_cv1 (M := kt_M537) (c := 12) (o := 0) (As := [.int 0]) (rest := []) kX13_sixteen_c2.2.2.2.2.2.2.1 wl_X13_489 wMv_429 rfl (.inl rfl) rfl (Nat.le_trans (Nat.le_of_ble_eq_true rfl) hL) (Nat.le_of_ble_eq_true rfl) (Nat.le_of_ble_eq_true rfl) h (fun v8 w7 hle h => ?_) (fun _ _ _ h => kzx_no rfl h)
      have h := h hle
      refine kz_bi (M := kt_M537) 70 kX13_sixteen_c2.2.2.2.2.2.2.2.1 rfl ?_
      refine kz_icmp_gt (M := kt_M537) kX13_sixteen_c3.1 (t := 99) rfl h (fun h => ?_) (fun h => ?_)
      · skip
        exact kz_weak [(0, .ref (w_adr E.2.1 12 0)), (1, .int x1), (2, .int x2)] ⟨rfl, ⟨rfl, ⟨rfl, trivial⟩⟩⟩ rfl (zt_X13_sixteen_p99 hL  h)
      · skip
        exact kz_weak [(0, .ref (w_adr E.2.1 12 0)), (1, .int x1), (2, .int x2)] ⟨rfl, ⟨rfl, ⟨rfl, trivial⟩⟩⟩ rfl (zt_X13_sixteen_p45 hL  h)
def zb_X13_sixteen_p0 (E : zE) (L : Nat) (Q : kx_Rs → wS → Prop) (w : wS) : Prop := zL_X13_sixteen_p14 E L Q 0 0 (ws_i w 12 0 23 ((w_i w 12 0 23) + 1))
theorem zt_X13_sixteen_p0 {E : zE} {L : Nat} {Q : kx_Rs → wS → Prop} {w : wS} (hL : 21 ≤ L) (h : zb_X13_sixteen_p0 E L Q  w) : kzE E L kt_M537 0 [(0, .ref (w_adr E.2.1 12 0))] [] w Q := by
  unfold zb_X13_sixteen_p0 at h
  refine kz_aload_n (M := kt_M537) kX13_sixteen_c0.1 rfl ?_
  refine kz_dup (M := kt_M537) kX13_sixteen_c0.2.1 rfl ?_
  refine kz_gfi (M := kt_M537) (c := 12) (o := 0) kX13_sixteen_c0.2.2.1 wf_X13_462 (.inl rfl) ?_
  refine kz_ic (M := kt_M537) 1 kX13_sixteen_c0.2.2.2.1 rfl ?_
  refine kz_iadd (M := kt_M537) kX13_sixteen_c0.2.2.2.2.1 ?_
  refine kz_pfi (M := kt_M537) (c := 12) (o := 0) kX13_sixteen_c0.2.2.2.2.2.1 wq_X13_462 (.inl rfl) ?_
  refine kz_ic (M := kt_M537) 0 kX13_sixteen_c0.2.2.2.2.2.2.1 rfl ?_
  refine kz_sti_n (M := kt_M537) [(0, .ref (w_adr E.2.1 12 0))] kX13_sixteen_c0.2.2.2.2.2.2.2.1 (Nat.le_of_ble_eq_true rfl) ⟨⟨rfl, rfl, .inr rfl⟩, trivial⟩ rfl ?_
  refine kz_ic (M := kt_M537) 0 kX13_sixteen_c1.1 rfl ?_
  refine kz_sti_n (M := kt_M537) [(0, .ref (w_adr E.2.1 12 0)), (1, .int 0)] kX13_sixteen_c1.2.1 (Nat.le_of_ble_eq_true rfl) ⟨⟨rfl, rfl, .inl rfl⟩, ⟨⟨rfl, rfl, .inr rfl⟩, trivial⟩⟩ rfl ?_
  exact kz_weak [(0, .ref (w_adr E.2.1 12 0)), (1, .int 0), (2, .int 0)] ⟨rfl, ⟨rfl, ⟨rfl, trivial⟩⟩⟩ rfl h
def zb_X13_oneSign_p143 (E : zE) (L : Nat) (Q : kx_Rs → wS → Prop) (y0 : Int32) (w : wS) : Prop := ((y0 = 0 ∨ y0 = 1) ∧ Q (.inl (some (.int y0))) w)
theorem zt_X13_oneSign_p143 {E : zE} {L : Nat} {Q : kx_Rs → wS → Prop} {y0 : Int32} {w : wS} (hL : 21 ≤ L) (h : zb_X13_oneSign_p143 E L Q y0 w) : kzE E L kt_M495 143 [(0, .ref (w_adr E.2.1 12 0))] [.int y0] w Q := by
  unfold zb_X13_oneSign_p143 at h
  exact kz_iretz (M := kt_M495) kX13_oneSign_c9.2.2.2.2.2.1 rfl h.1 h.2
def zb_X13_oneSign_p128 (E : zE) (L : Nat) (Q : kx_Rs → wS → Prop) (y0 : Int32) (w : wS) : Prop := (if y0 < 0 then zb_X13_oneSign_p143 E L Q 0 (ws_i w 12 0 24 y0) else zb_X13_oneSign_p143 E L Q 1 (ws_i w 12 0 24 y0))
theorem zt_X13_oneSign_p128 {E : zE} {L : Nat} {Q : kx_Rs → wS → Prop} {y0 : Int32} {w : wS} (hL : 21 ≤ L) (h : zb_X13_oneSign_p128 E L Q y0 w) : kzE E L kt_M495 128 [(0, .ref (w_adr E.2.1 12 0))] [.int y0, .ref (w_adr E.2.1 12 0)] w Q := by
  unfold zb_X13_oneSign_p128 at h
  refine kz_pfi (M := kt_M495) (c := 12) (o := 0) kX13_oneSign_c8.2.2.2.2.2.2.1 wq_X13_493 (.inl rfl) ?_
  refine kz_aload_n (M := kt_M495) kX13_oneSign_c8.2.2.2.2.2.2.2.1 rfl ?_
  refine kz_gfiR (M := kt_M495) (c := 12) (o := 0) y0 kX13_oneSign_c9.1 wf_X13_493 (.inl rfl) rd_i_e ?_
  refine kz_if_lt (M := kt_M495) kX13_oneSign_c9.2.1 (t := 142) rfl h (fun h => ?_) (fun h => ?_)
  · skip
    refine kz_ic (M := kt_M495) 0 kX13_oneSign_c9.2.2.2.2.1 rfl ?_
    exact kz_weak [(0, .ref (w_adr E.2.1 12 0))] ⟨rfl, trivial⟩ rfl (zt_X13_oneSign_p143 hL  h)
  · skip
    refine kz_ic (M := kt_M495) 1 kX13_oneSign_c9.2.2.1 rfl ?_
    refine kz_goto (M := kt_M495) kX13_oneSign_c9.2.2.2.1 (t := 143) rfl ?_
    exact kz_weak [(0, .ref (w_adr E.2.1 12 0))] ⟨rfl, trivial⟩ rfl (zt_X13_oneSign_p143 hL  h)
def zb_X13_oneSign_p123 (E : zE) (L : Nat) (Q : kx_Rs → wS → Prop) (x2 : Int32) (w : wS) : Prop := zb_X13_oneSign_p128 E L Q x2 w
theorem zt_X13_oneSign_p123 {E : zE} {L : Nat} {Q : kx_Rs → wS → Prop} {x2 : Int32} {w : wS} (hL : 21 ≤ L) (h : zb_X13_oneSign_p123 E L Q x2 w) : kzE E L kt_M495 123 [(0, .ref (w_adr E.2.1 12 0)), (2, .int x2)] [.ref (w_adr E.2.1 12 0)] w Q := by
  unfold zb_X13_oneSign_p123 at h
  refine kz_iload_n (M := kt_M495) kX13_oneSign_c8.2.2.2.1 rfl ?_
  refine kz_goto (M := kt_M495) kX13_oneSign_c8.2.2.2.2.1 (t := 128) rfl ?_
  exact kz_weak [(0, .ref (w_adr E.2.1 12 0))] ⟨rfl, trivial⟩ rfl (zt_X13_oneSign_p128 hL  h)
def zb_X13_oneSign_p30 (E : zE) (L : Nat) (Q : kx_Rs → wS → Prop) (w : wS) : Prop := Q (.inl (some (.int 0))) w
theorem zt_X13_oneSign_p30 {E : zE} {L : Nat} {Q : kx_Rs → wS → Prop} {w : wS} (hL : 21 ≤ L) (h : zb_X13_oneSign_p30 E L Q  w) : kzE E L kt_M495 30 [(0, .ref (w_adr E.2.1 12 0))] [] w Q := by
  unfold zb_X13_oneSign_p30 at h
  refine kz_ic (M := kt_M495) 0 kX13_oneSign_c2.1 rfl ?_
  exact kz_iretz (M := kt_M495) kX13_oneSign_c2.2.1 rfl (by decide) h
def zb_X13_oneSign_p0 (E : zE) (L : Nat) (Q : kx_Rs → wS → Prop) (w : wS) : Prop := zw E (L - 21) kt_M429 [.ref (w_adr E.2.1 12 0), .int 0] w (wk1 (fun v2 w1 => wle w w1 → (if v2 < 32 then zb_X13_oneSign_p30 E L Q w1 else (if 126 < v2 then zb_X13_oneSign_p30 E L Q w1 else (if v2 = 39 then zb_X13_oneSign_p30 E L Q w1 else (if ¬ v2 = 34 then (if v2 = 42 then zw E (L - 21) kt_M429 [.ref (w_adr E.2.1 12 0), .int 0] (ws_i (ws_i w1 12 0 23 ((w_i w1 12 0 23) + 1)) 12 0 24 v2) (wk1 (fun v4 w3 => wle (ws_i (ws_i w1 12 0 23 ((w_i w1 12 0 23) + 1)) 12 0 24 v2) w3 → (if ¬ v4 = 110 then (if ¬ v4 = 116 then (if ¬ v4 = 115 then (if v4 = 39 then zb_X13_oneSign_p123 E L Q v4 (ws_i w3 12 0 23 ((w_i w3 12 0 23) + 1)) else (if v4 = 34 then zb_X13_oneSign_p123 E L Q v4 (ws_i w3 12 0 23 ((w_i w3 12 0 23) + 1)) else (if ¬ v4 = 42 then zb_X13_oneSign_p128 E L Q (-1) (ws_i w3 12 0 23 ((w_i w3 12 0 23) + 1)) else zb_X13_oneSign_p123 E L Q v4 (ws_i w3 12 0 23 ((w_i w3 12 0 23) + 1))))) else zb_X13_oneSign_p128 E L Q 32 (ws_i w3 12 0 23 ((w_i w3 12 0 23) + 1))) else zb_X13_oneSign_p128 E L Q 9 (ws_i w3 12 0 23 ((w_i w3 12 0 23) + 1))) else zb_X13_oneSign_p128 E L Q 10 (ws_i w3 12 0 23 ((w_i w3 12 0 23) + 1)))) (fun e w => Q (.inr e) w)) else Q (.inl (some (.int 1))) (ws_i (ws_i w1 12 0 23 ((w_i w1 12 0 23) + 1)) 12 0 24 v2)) else zb_X13_oneSign_p30 E L Q w1))))) (fun e w => Q (.inr e) w))
theorem zt_X13_oneSign_p0 {E : zE} {L : Nat} {Q : kx_Rs → wS → Prop} {w : wS} (hL : 21 ≤ L) (h : zb_X13_oneSign_p0 E L Q  w) : kzE E L kt_M495 0 [(0, .ref (w_adr E.2.1 12 0))] [] w Q := by
  unfold zb_X13_oneSign_p0 at h
  refine kz_aload_n (M := kt_M495) kX13_oneSign_c0.1 rfl ?_
  refine kz_ic (M := kt_M495) 0 kX13_oneSign_c0.2.1 rfl ?_
  refine kz_cv1 (M := kt_M495) (c := 12) (o := 0) (As := [.int 0]) (rest := []) kX13_oneSign_c0.2.2.1 wl_X13_489 wMv_429 rfl (.inl rfl) rfl (Nat.le_trans (Nat.le_of_ble_eq_true rfl) hL) (Nat.le_of_ble_eq_true rfl) (Nat.le_of_ble_eq_true rfl) h (fun v2 w1 hle h => ?_) (fun _ _ _ h => kzx_no rfl h)
  have h := h hle
  refine kz_sti_n (M := kt_M495) [(0, .ref (w_adr E.2.1 12 0))] kX13_oneSign_c0.2.2.2.1 (Nat.le_of_ble_eq_true rfl) ⟨⟨rfl, rfl, .inr rfl⟩, trivial⟩ rfl ?_
  refine kz_iload_n (M := kt_M495) kX13_oneSign_c0.2.2.2.2.1 rfl ?_
  refine kz_bi (M := kt_M495) 32 kX13_oneSign_c0.2.2.2.2.2.1 rfl ?_
  refine kz_icmp_lt (M := kt_M495) kX13_oneSign_c0.2.2.2.2.2.2.1 (t := 30) rfl h (fun h => ?_) (fun h => ?_)
  · skip
    exact kz_weak [(0, .ref (w_adr E.2.1 12 0))] ⟨rfl, trivial⟩ rfl (zt_X13_oneSign_p30 hL  h)
  · skip
    refine kz_iload_n (M := kt_M495) kX13_oneSign_c0.2.2.2.2.2.2.2.1 rfl ?_
    refine kz_bi (M := kt_M495) 126 kX13_oneSign_c1.1 rfl ?_
    refine kz_icmp_gt (M := kt_M495) kX13_oneSign_c1.2.1 (t := 30) rfl h (fun h => ?_) (fun h => ?_)
    · skip
      exact kz_weak [(0, .ref (w_adr E.2.1 12 0))] ⟨rfl, trivial⟩ rfl (zt_X13_oneSign_p30 hL  h)
    · skip
      refine kz_iload_n (M := kt_M495) kX13_oneSign_c1.2.2.1 rfl ?_
      refine kz_bi (M := kt_M495) 39 kX13_oneSign_c1.2.2.2.1 rfl ?_
      refine kz_icmp_eq (M := kt_M495) kX13_oneSign_c1.2.2.2.2.1 (t := 30) rfl h (fun h => ?_) (fun h => ?_)
      · skip
        exact kz_weak [(0, .ref (w_adr E.2.1 12 0))] ⟨rfl, trivial⟩ rfl (zt_X13_oneSign_p30 hL  h)
      · skip
        refine kz_iload_n (M := kt_M495) kX13_oneSign_c1.2.2.2.2.2.1 rfl ?_
        refine kz_bi (M := kt_M495) 34 kX13_oneSign_c1.2.2.2.2.2.2.1 rfl ?_
        refine kz_icmp_ne (M := kt_M495) kX13_oneSign_c1.2.2.2.2.2.2.2.1 (t := 32) rfl h (fun h => ?_) (fun h => ?_)
        · skip
          refine kz_aload_n (M := kt_M495) kX13_oneSign_c2.2.2.1 rfl ?_
          refine kz_dup (M := kt_M495) kX13_oneSign_c2.2.2.2.1 rfl ?_
          refine kz_gfi (M := kt_M495) (c := 12) (o := 0) kX13_oneSign_c2.2.2.2.2.1 wf_X13_462 (.inl rfl) ?_
          refine kz_ic (M := kt_M495) 1 kX13_oneSign_c2.2.2.2.2.2.1 rfl ?_
          refine kz_iadd (M := kt_M495) kX13_oneSign_c2.2.2.2.2.2.2.1 ?_
          refine kz_pfi (M := kt_M495) (c := 12) (o := 0) kX13_oneSign_c2.2.2.2.2.2.2.2.1 wq_X13_462 (.inl rfl) ?_
          refine kz_aload_n (M := kt_M495) kX13_oneSign_c3.1 rfl ?_
          refine kz_iload_n (M := kt_M495) kX13_oneSign_c3.2.1 rfl ?_
          refine kz_pfi (M := kt_M495) (c := 12) (o := 0) kX13_oneSign_c3.2.2.1 wq_X13_493 (.inl rfl) ?_
          refine kz_iload_n (M := kt_M495) kX13_oneSign_c3.2.2.2.1 rfl ?_
          refine kz_bi (M := kt_M495) 42 kX13_oneSign_c3.2.2.2.2.1 rfl ?_
          refine kz_icmp_eq (M := kt_M495) kX13_oneSign_c3.2.2.2.2.2.1 (t := 55) rfl h (fun h => ?_) (fun h => ?_)
          · skip
            refine kz_aload_n (M := kt_M495) kX13_oneSign_c4.1 rfl ?_
            refine kz_ic (M := kt_M495) 0 kX13_oneSign_c4.2.1 rfl ?_
            refine kz_cv1 (M := kt_M495) (c := 12) (o := 0) (As := [.int 0]) (rest := []) kX13_oneSign_c4.2.2.1 wl_X13_489 wMv_429 rfl (.inl rfl) rfl (Nat.le_trans (Nat.le_of_ble_eq_true rfl) hL) (Nat.le_of_ble_eq_true rfl) (Nat.le_of_ble_eq_true rfl) h (fun v4 w3 hle h => ?_) (fun _ _ _ h => kzx_no rfl h)
            have h := h hle
            refine kz_sti_n (M := kt_M495) [(0, .ref (w_adr E.2.1 12 0))] kX13_oneSign_c4.2.2.2.1 (Nat.le_of_ble_eq_true rfl) ⟨⟨rfl, rfl, .inl rfl⟩, trivial⟩ rfl ?_
            refine kz_aload_n (M := kt_M495) kX13_oneSign_c4.2.2.2.2.1 rfl ?_
            refine kz_dup (M := kt_M495) kX13_oneSign_c4.2.2.2.2.2.1 rfl ?_
            refine kz_gfi (M := kt_M495) (c := 12) (o := 0) kX13_oneSign_c4.2.2.2.2.2.2.1 wf_X13_462 (.inl rfl) ?_
            refine kz_ic (M := kt_M495) 1 kX13_oneSign_c4.2.2.2.2.2.2.2.1 rfl ?_
            refine kz_iadd (M := kt_M495) kX13_oneSign_c5.1 ?_
            refine kz_pfi (M := kt_M495) (c := 12) (o := 0) kX13_oneSign_c5.2.1 wq_X13_462 (.inl rfl) ?_
            refine kz_aload_n (M := kt_M495) kX13_oneSign_c5.2.2.1 rfl ?_
            refine kz_iload_n (M := kt_M495) kX13_oneSign_c5.2.2.2.1 rfl ?_
            refine kz_bi (M := kt_M495) 110 kX13_oneSign_c5.2.2.2.2.1 rfl ?_
            refine kz_icmp_ne (M := kt_M495) kX13_oneSign_c5.2.2.2.2.2.1 (t := 83) rfl h (fun h => ?_) (fun h => ?_)
            · skip
              refine kz_iload_n (M := kt_M495) kX13_oneSign_c6.1 rfl ?_
              refine kz_bi (M := kt_M495) 116 kX13_oneSign_c6.2.1 rfl ?_
              refine kz_icmp_ne (M := kt_M495) kX13_oneSign_c6.2.2.1 (t := 94) rfl h (fun h => ?_) (fun h => ?_)
              · skip
                refine kz_iload_n (M := kt_M495) kX13_oneSign_c6.2.2.2.2.2.1 rfl ?_
                refine kz_bi (M := kt_M495) 115 kX13_oneSign_c6.2.2.2.2.2.2.1 rfl ?_
                refine kz_icmp_ne (M := kt_M495) kX13_oneSign_c6.2.2.2.2.2.2.2.1 (t := 105) rfl h (fun h => ?_) (fun h => ?_)
                · skip
                  refine kz_iload_n (M := kt_M495) kX13_oneSign_c7.2.2.1 rfl ?_
                  refine kz_bi (M := kt_M495) 39 kX13_oneSign_c7.2.2.2.1 rfl ?_
                  refine kz_icmp_eq (M := kt_M495) kX13_oneSign_c7.2.2.2.2.1 (t := 123) rfl h (fun h => ?_) (fun h => ?_)
                  · skip
                    exact kz_weak [(0, .ref (w_adr E.2.1 12 0)), (2, .int v4)] ⟨rfl, ⟨rfl, trivial⟩⟩ rfl (zt_X13_oneSign_p123 hL  h)
                  · skip
                    refine kz_iload_n (M := kt_M495) kX13_oneSign_c7.2.2.2.2.2.1 rfl ?_
                    refine kz_bi (M := kt_M495) 34 kX13_oneSign_c7.2.2.2.2.2.2.1 rfl ?_
                    refine kz_icmp_eq (M := kt_M495) kX13_oneSign_c7.2.2.2.2.2.2.2.1 (t := 123) rfl h (fun h => ?_) (fun h => ?_)
                    · skip
                      exact kz_weak [(0, .ref (w_adr E.2.1 12 0)), (2, .int v4)] ⟨rfl, ⟨rfl, trivial⟩⟩ rfl (zt_X13_oneSign_p123 hL  h)
                    · skip
                      refine kz_iload_n (M := kt_M495) kX13_oneSign_c8.1 rfl ?_
                      refine kz_bi (M := kt_M495) 42 kX13_oneSign_c8.2.1 rfl ?_
                      refine kz_icmp_ne (M := kt_M495) kX13_oneSign_c8.2.2.1 (t := 127) rfl h (fun h => ?_) (fun h => ?_)
                      · skip
                        refine kz_ic (M := kt_M495) (-1) kX13_oneSign_c8.2.2.2.2.2.1 rfl ?_
                        exact kz_weak [(0, .ref (w_adr E.2.1 12 0))] ⟨rfl, trivial⟩ rfl (zt_X13_oneSign_p128 hL  h)
                      · skip
                        exact kz_weak [(0, .ref (w_adr E.2.1 12 0)), (2, .int v4)] ⟨rfl, ⟨rfl, trivial⟩⟩ rfl (zt_X13_oneSign_p123 hL  h)
                · skip
                  refine kz_bi (M := kt_M495) 32 kX13_oneSign_c7.1 rfl ?_
                  refine kz_goto (M := kt_M495) kX13_oneSign_c7.2.1 (t := 128) rfl ?_
                  exact kz_weak [(0, .ref (w_adr E.2.1 12 0))] ⟨rfl, trivial⟩ rfl (zt_X13_oneSign_p128 hL  h)
              · skip
                refine kz_bi (M := kt_M495) 9 kX13_oneSign_c6.2.2.2.1 rfl ?_
                refine kz_goto (M := kt_M495) kX13_oneSign_c6.2.2.2.2.1 (t := 128) rfl ?_
                exact kz_weak [(0, .ref (w_adr E.2.1 12 0))] ⟨rfl, trivial⟩ rfl (zt_X13_oneSign_p128 hL  h)
            · skip
              refine kz_bi (M := kt_M495) 10 kX13_oneSign_c5.2.2.2.2.2.2.1 rfl ?_
              refine kz_goto (M := kt_M495) kX13_oneSign_c5.2.2.2.2.2.2.2.1 (t := 128) rfl ?_
              exact kz_weak [(0, .ref (w_adr E.2.1 12 0))] ⟨rfl, trivial⟩ rfl (zt_X13_oneSign_p128 hL  h)
          · skip
            refine kz_ic (M := kt_M495) 1 kX13_oneSign_c3.2.2.2.2.2.2.1 rfl ?_
            exact kz_iretz (M := kt_M495) kX13_oneSign_c3.2.2.2.2.2.2.2.1 rfl (by decide) h
        · skip
          exact kz_weak [(0, .ref (w_adr E.2.1 12 0))] ⟨rfl, trivial⟩ rfl (zt_X13_oneSign_p30 hL  h)
def zL_X13_string_p25 (E : zE) (L : Nat) (Q : kx_Rs → wS → Prop) (x1 : Int32) (w : wS) : Prop := kzE E L kt_M548 25 [(0, .ref (w_adr E.2.1 12 0)), (1, .int x1)] [] w Q
def zb_X13_string_p48 (E : zE) (L : Nat) (Q : kx_Rs → wS → Prop) (w : wS) : Prop := Q (.inl (some (.int 76))) w
theorem zt_X13_string_p48 {E : zE} {L : Nat} {Q : kx_Rs → wS → Prop} {w : wS} (hL : 22 ≤ L) (h : zb_X13_string_p48 E L Q  w) : kzE E L kt_M548 48 [(0, .ref (w_adr E.2.1 12 0))] [] w Q := by
  unfold zb_X13_string_p48 at h
  refine kz_bi (M := kt_M548) 76 kX13_string_c3.2.2.1 rfl ?_
  exact kz_iret (M := kt_M548) kX13_string_c3.2.2.2.1 rfl rfl h
def zb_X13_string_p25 (E : zE) (L : Nat) (Q : kx_Rs → wS → Prop) (x1 : Int32) (w : wS) : Prop := zw E (L - 21) kt_M429 [.ref (w_adr E.2.1 12 0), .int 0] w (wk1 (fun v2 w1 => wle w w1 → (if v2 = 34 then (if ¬ x1 = 0 then (kx_inb (w_i w1 12 0 18) (w_n w1 12 0 20) = true ∧ Q (.inl (some (.int 73))) (ws_i (ws_i (ws_i (ws_a (ws_i w1 12 0 23 ((w_i w1 12 0 23) + 1)) 12 0 20 (w_i w1 12 0 18).toNatClampNeg x1) 12 0 22 ((w_i w1 12 0 22) + x1)) 12 0 24 (w_i w1 12 0 18)) 12 0 18 ((w_i w1 12 0 18) + 1))) else Q (.inl (some (.int 76))) w1) else (if x1 = 60 then zb_X13_string_p48 E L Q w1 else zw E (L - 22) kt_M495 [.ref (w_adr E.2.1 12 0)] w1 (wk1 (fun v4 w3 => wle w1 w3 → (if ¬ v4 = 0 then (kx_inb ((w_i w3 12 0 22) + x1) (w_n w3 12 0 21) = true ∧ zL_X13_string_p25 E L Q (x1 + 1) (ws_a w3 12 0 21 (((w_i w3 12 0 22) + x1)).toNatClampNeg (w_i w3 12 0 24))) else zb_X13_string_p48 E L Q w3)) (fun e w => Q (.inr e) w))))) (fun e w => Q (.inr e) w))
theorem zt_X13_string_p25 {E : zE} {L : Nat} {Q : kx_Rs → wS → Prop} {x1 : Int32} {w : wS} (hL : 22 ≤ L) (h : zb_X13_string_p25 E L Q x1 w) : kzE E L kt_M548 25 [(0, .ref (w_adr E.2.1 12 0)), (1, .int x1)] [] w Q := by
  unfold zb_X13_string_p25 at h
  refine kz_aload_n (M := kt_M548) kX13_string_c1.2.2.2.2.2.2.2.1 rfl ?_
  refine kz_ic (M := kt_M548) 0 kX13_string_c2.1 rfl ?_
  refine kz_cv1 (M := kt_M548) (c := 12) (o := 0) (As := [.int 0]) (rest := []) kX13_string_c2.2.1 wl_X13_489 wMv_429 rfl (.inl rfl) rfl (Nat.le_trans (Nat.le_of_ble_eq_true rfl) hL) (Nat.le_of_ble_eq_true rfl) (Nat.le_of_ble_eq_true rfl) h (fun v2 w1 hle h => ?_) (fun _ _ _ h => kzx_no rfl h)
  have h := h hle
  refine kz_bi (M := kt_M548) 34 kX13_string_c2.2.2.1 rfl ?_
  refine kz_icmp_eq (M := kt_M548) kX13_string_c2.2.2.2.1 (t := 72) rfl h (fun h => ?_) (fun h => ?_)
  · skip
    refine kz_iload_n (M := kt_M548) kX13_string_c4.2.2.2.2.2.2.2.1 rfl ?_
    refine kz_if_ne (M := kt_M548) kX13_string_c5.1 (t := 79) rfl h (fun h => ?_) (fun h => ?_)
    · skip
      refine kz_aload_n (M := kt_M548) kX13_string_c5.2.2.2.1 rfl ?_
      refine kz_dup (M := kt_M548) kX13_string_c5.2.2.2.2.1 rfl ?_
      refine kz_gfi (M := kt_M548) (c := 12) (o := 0) kX13_string_c5.2.2.2.2.2.1 wf_X13_462 (.inl rfl) ?_
      refine kz_ic (M := kt_M548) 1 kX13_string_c5.2.2.2.2.2.2.1 rfl ?_
      refine kz_iadd (M := kt_M548) kX13_string_c5.2.2.2.2.2.2.2.1 ?_
      refine kz_pfi (M := kt_M548) (c := 12) (o := 0) kX13_string_c6.1 wq_X13_462 (.inl rfl) ?_
      refine kz_aload_n (M := kt_M548) kX13_string_c6.2.1 rfl ?_
      refine kz_gfc (M := kt_M548) (x := 4092) (c := 12) (o := 0) kX13_string_c6.2.2.1 wf_X13_181 (.inl rfl) ?_
      refine kz_aload_n (M := kt_M548) kX13_string_c6.2.2.2.1 rfl ?_
      refine kz_gfiR (M := kt_M548) (c := 12) (o := 0) (w_i w1 12 0 18) kX13_string_c6.2.2.2.2.1 wf_X13_525 (.inl rfl) (rd_i_i rfl) ?_
      refine kz_iload_n (M := kt_M548) kX13_string_c6.2.2.2.2.2.1 rfl ?_
      refine kz_iastR (M := kt_M548) (n := w_n w1 12 0 20) (c := 12) (o := 0) (k := 20) (a := (E.2.1 4092)) kX13_string_c6.2.2.2.2.2.2.1 ow_12_0_20 oa_12_0_20 ot_0 rd_n_i h (fun h => ?_)
      refine kz_aload_n (M := kt_M548) kX13_string_c6.2.2.2.2.2.2.2.1 rfl ?_
      refine kz_dup (M := kt_M548) kX13_string_c7.1 rfl ?_
      refine kz_gfiR (M := kt_M548) (c := 12) (o := 0) (w_i w1 12 0 22) kX13_string_c7.2.1 wf_X13_528 (.inl rfl) (rd_i_a.trans (rd_i_i rfl)) ?_
      refine kz_iload_n (M := kt_M548) kX13_string_c7.2.2.1 rfl ?_
      refine kz_iadd (M := kt_M548) kX13_string_c7.2.2.2.1 ?_
      refine kz_pfi (M := kt_M548) (c := 12) (o := 0) kX13_string_c7.2.2.2.2.1 wq_X13_528 (.inl rfl) ?_
      refine kz_aload_n (M := kt_M548) kX13_string_c7.2.2.2.2.2.1 rfl ?_
      refine kz_aload_n (M := kt_M548) kX13_string_c7.2.2.2.2.2.2.1 rfl ?_
      refine kz_gfiR (M := kt_M548) (c := 12) (o := 0) (w_i w1 12 0 18) kX13_string_c7.2.2.2.2.2.2.2.1 wf_X13_525 (.inl rfl) ((rd_i_i rfl).trans (rd_i_a.trans (rd_i_i rfl))) ?_
      refine kz_pfi (M := kt_M548) (c := 12) (o := 0) kX13_string_c8.1 wq_X13_493 (.inl rfl) ?_
      refine kz_aload_n (M := kt_M548) kX13_string_c8.2.1 rfl ?_
      refine kz_dup (M := kt_M548) kX13_string_c8.2.2.1 rfl ?_
      refine kz_gfiR (M := kt_M548) (c := 12) (o := 0) (w_i w1 12 0 18) kX13_string_c8.2.2.2.1 wf_X13_525 (.inl rfl) ((rd_i_i rfl).trans ((rd_i_i rfl).trans (rd_i_a.trans (rd_i_i rfl)))) ?_
      refine kz_ic (M := kt_M548) 1 kX13_string_c8.2.2.2.2.1 rfl ?_
      refine kz_iadd (M := kt_M548) kX13_string_c8.2.2.2.2.2.1 ?_
      refine kz_pfi (M := kt_M548) (c := 12) (o := 0) kX13_string_c8.2.2.2.2.2.2.1 wq_X13_525 (.inl rfl) ?_
      refine kz_bi (M := kt_M548) 73 kX13_string_c8.2.2.2.2.2.2.2.1 rfl ?_
      exact kz_iret (M := kt_M548) kX13_string_c9.1 rfl rfl h
    · skip
      refine kz_bi (M := kt_M548) 76 kX13_string_c5.2.1 rfl ?_
      exact kz_iret (M := kt_M548) kX13_string_c5.2.2.1 rfl rfl h
  · skip
    refine kz_iload_n (M := kt_M548) kX13_string_c2.2.2.2.2.1 rfl ?_
    refine kz_bi (M := kt_M548) 60 kX13_string_c2.2.2.2.2.2.1 rfl ?_
    refine kz_icmp_eq (M := kt_M548) kX13_string_c2.2.2.2.2.2.2.1 (t := 48) rfl h (fun h => ?_) (fun h => ?_)
    · skip
      exact kz_weak [(0, .ref (w_adr E.2.1 12 0))] ⟨rfl, trivial⟩ rfl (zt_X13_string_p48 hL  h)
    · skip
      refine kz_aload_n (M := kt_M548) kX13_string_c2.2.2.2.2.2.2.2.1 rfl ?_
      refine kz_cv1 (M := kt_M548) (c := 12) (o := 0) (As := []) (rest := []) kX13_string_c3.1 wl_X13_512 wMv_495 rfl (.inl rfl) rfl (Nat.le_trans (Nat.le_of_ble_eq_true rfl) hL) (Nat.le_of_ble_eq_true rfl) (Nat.le_of_ble_eq_true rfl) h (fun v4 w3 hle h => ?_) (fun _ _ _ h => kzx_no rfl h)
      have h := h hle
      refine kz_if_ne (M := kt_M548) kX13_string_c3.2.1 (t := 51) rfl h (fun h => ?_) (fun h => ?_)
      · skip
        refine kz_aload_n (M := kt_M548) kX13_string_c3.2.2.2.2.1 rfl ?_
        refine kz_gfc (M := kt_M548) (x := 4093) (c := 12) (o := 0) kX13_string_c3.2.2.2.2.2.1 wf_X13_184 (.inl rfl) ?_
        refine kz_aload_n (M := kt_M548) kX13_string_c3.2.2.2.2.2.2.1 rfl ?_
        refine kz_gfi (M := kt_M548) (c := 12) (o := 0) kX13_string_c3.2.2.2.2.2.2.2.1 wf_X13_528 (.inl rfl) ?_
        refine kz_iload_n (M := kt_M548) kX13_string_c4.1 rfl ?_
        refine kz_iadd (M := kt_M548) kX13_string_c4.2.1 ?_
        refine kz_aload_n (M := kt_M548) kX13_string_c4.2.2.1 rfl ?_
        refine kz_gfi (M := kt_M548) (c := 12) (o := 0) kX13_string_c4.2.2.2.1 wf_X13_493 (.inl rfl) ?_
        refine kz_iast (M := kt_M548) (c := 12) (o := 0) (k := 21) (a := (E.2.1 4093)) kX13_string_c4.2.2.2.2.1 ow_12_0_21 oa_12_0_21 ot_0 h (fun h => ?_)
        refine kz_inc (M := kt_M548) [(0, .ref (w_adr E.2.1 12 0))] kX13_string_c4.2.2.2.2.2.1 rfl (Nat.le_of_ble_eq_true rfl) ⟨⟨rfl, rfl, .inr rfl⟩, trivial⟩ rfl ?_
        refine kz_goto (M := kt_M548) kX13_string_c4.2.2.2.2.2.2.1 (t := 25) rfl ?_
        exact kz_weak [(0, .ref (w_adr E.2.1 12 0)), (1, .int (x1 + 1))] ⟨rfl, ⟨rfl, trivial⟩⟩ rfl h
      · skip
        exact kz_weak [(0, .ref (w_adr E.2.1 12 0))] ⟨rfl, trivial⟩ rfl (zt_X13_string_p48 hL  h)
def zb_X13_string_p0 (E : zE) (L : Nat) (Q : kx_Rs → wS → Prop) (w : wS) : Prop := (kx_inb (w_i w 12 0 18) (w_n w 12 0 19) = true ∧ zL_X13_string_p25 E L Q 0 (ws_a (ws_i w 12 0 23 ((w_i w 12 0 23) + 1)) 12 0 19 (w_i w 12 0 18).toNatClampNeg (w_i w 12 0 22)))
theorem zt_X13_string_p0 {E : zE} {L : Nat} {Q : kx_Rs → wS → Prop} {w : wS} (hL : 22 ≤ L) (h : zb_X13_string_p0 E L Q  w) : kzE E L kt_M548 0 [(0, .ref (w_adr E.2.1 12 0))] [] w Q := by
  unfold zb_X13_string_p0 at h
  refine kz_aload_n (M := kt_M548) kX13_string_c0.1 rfl ?_
  refine kz_dup (M := kt_M548) kX13_string_c0.2.1 rfl ?_
  refine kz_gfi (M := kt_M548) (c := 12) (o := 0) kX13_string_c0.2.2.1 wf_X13_462 (.inl rfl) ?_
  refine kz_ic (M := kt_M548) 1 kX13_string_c0.2.2.2.1 rfl ?_
  refine kz_iadd (M := kt_M548) kX13_string_c0.2.2.2.2.1 ?_
  refine kz_pfi (M := kt_M548) (c := 12) (o := 0) kX13_string_c0.2.2.2.2.2.1 wq_X13_462 (.inl rfl) ?_
  refine kz_aload_n (M := kt_M548) kX13_string_c0.2.2.2.2.2.2.1 rfl ?_
  refine kz_gfc (M := kt_M548) (x := 4091) (c := 12) (o := 0) kX13_string_c0.2.2.2.2.2.2.2.1 wf_X13_178 (.inl rfl) ?_
  refine kz_aload_n (M := kt_M548) kX13_string_c1.1 rfl ?_
  refine kz_gfiR (M := kt_M548) (c := 12) (o := 0) (w_i w 12 0 18) kX13_string_c1.2.1 wf_X13_525 (.inl rfl) (rd_i_i rfl) ?_
  refine kz_aload_n (M := kt_M548) kX13_string_c1.2.2.1 rfl ?_
  refine kz_gfiR (M := kt_M548) (c := 12) (o := 0) (w_i w 12 0 22) kX13_string_c1.2.2.2.1 wf_X13_528 (.inl rfl) (rd_i_i rfl) ?_
  refine kz_iastR (M := kt_M548) (n := w_n w 12 0 19) (c := 12) (o := 0) (k := 19) (a := (E.2.1 4091)) kX13_string_c1.2.2.2.2.1 ow_12_0_19 oa_12_0_19 ot_0 rd_n_i h (fun h => ?_)
  refine kz_ic (M := kt_M548) 0 kX13_string_c1.2.2.2.2.2.1 rfl ?_
  refine kz_sti_n (M := kt_M548) [(0, .ref (w_adr E.2.1 12 0))] kX13_string_c1.2.2.2.2.2.2.1 (Nat.le_of_ble_eq_true rfl) ⟨⟨rfl, rfl, .inr rfl⟩, trivial⟩ rfl ?_
  exact kz_weak [(0, .ref (w_adr E.2.1 12 0)), (1, .int 0)] ⟨rfl, ⟨rfl, trivial⟩⟩ rfl h
def zb_X13_token_p0 (E : zE) (L : Nat) (Q : kx_Rs → wS → Prop) (x1 : Int32) (x2 : Int32) (x3 : Int32) (x4 : Int32) (w : wS) : Prop := (kx_inb (w_i w 12 0 6) (w_n w 12 0 7) = true ∧ (kx_inb (w_i w 12 0 6) (w_n w 12 0 8) = true ∧ (kx_inb (w_i w 12 0 6) (w_n w 12 0 9) = true ∧ (kx_inb (w_i w 12 0 6) (w_n w 12 0 10) = true ∧ Q (.inl none) (ws_i (ws_a (ws_a (ws_a (ws_a w 12 0 7 (w_i w 12 0 6).toNatClampNeg x1) 12 0 8 (w_i w 12 0 6).toNatClampNeg x2) 12 0 9 (w_i w 12 0 6).toNatClampNeg x3) 12 0 10 (w_i w 12 0 6).toNatClampNeg x4) 12 0 6 ((w_i w 12 0 6) + 1))))))
theorem zt_X13_token_p0 {E : zE} {L : Nat} {Q : kx_Rs → wS → Prop} {x1 : Int32} {x2 : Int32} {x3 : Int32} {x4 : Int32} {w : wS} (hL : 19 ≤ L) (h : zb_X13_token_p0 E L Q x1 x2 x3 x4 w) : kzE E L kt_M562 0 [(0, .ref (w_adr E.2.1 12 0)), (1, .int x1), (2, .int x2), (3, .int x3), (4, .int x4)] [] w Q := by
  unfold zb_X13_token_p0 at h
  refine kz_aload_n (M := kt_M562) kX13_token_c0.1 rfl ?_
  refine kz_gfc (M := kt_M562) (x := 4079) (c := 12) (o := 0) kX13_token_c0.2.1 wf_X13_157 (.inl rfl) ?_
  refine kz_aload_n (M := kt_M562) kX13_token_c0.2.2.1 rfl ?_
  refine kz_gfi (M := kt_M562) (c := 12) (o := 0) kX13_token_c0.2.2.2.1 wf_X13_472 (.inl rfl) ?_
  refine kz_iload_n (M := kt_M562) kX13_token_c0.2.2.2.2.1 rfl ?_
  refine kz_iast (M := kt_M562) (c := 12) (o := 0) (k := 7) (a := (E.2.1 4079)) kX13_token_c0.2.2.2.2.2.1 ow_12_0_7 oa_12_0_7 ot_0 h (fun h => ?_)
  refine kz_aload_n (M := kt_M562) kX13_token_c0.2.2.2.2.2.2.1 rfl ?_
  refine kz_gfc (M := kt_M562) (x := 4080) (c := 12) (o := 0) kX13_token_c0.2.2.2.2.2.2.2.1 wf_X13_160 (.inl rfl) ?_
  refine kz_aload_n (M := kt_M562) kX13_token_c1.1 rfl ?_
  refine kz_gfiR (M := kt_M562) (c := 12) (o := 0) (w_i w 12 0 6) kX13_token_c1.2.1 wf_X13_472 (.inl rfl) rd_i_a ?_
  refine kz_iload_n (M := kt_M562) kX13_token_c1.2.2.1 rfl ?_
  refine kz_iastR (M := kt_M562) (n := w_n w 12 0 8) (c := 12) (o := 0) (k := 8) (a := (E.2.1 4080)) kX13_token_c1.2.2.2.1 ow_12_0_8 oa_12_0_8 ot_0 rd_n_a h (fun h => ?_)
  refine kz_aload_n (M := kt_M562) kX13_token_c1.2.2.2.2.1 rfl ?_
  refine kz_gfc (M := kt_M562) (x := 4081) (c := 12) (o := 0) kX13_token_c1.2.2.2.2.2.1 wf_X13_163 (.inl rfl) ?_
  refine kz_aload_n (M := kt_M562) kX13_token_c1.2.2.2.2.2.2.1 rfl ?_
  refine kz_gfiR (M := kt_M562) (c := 12) (o := 0) (w_i w 12 0 6) kX13_token_c1.2.2.2.2.2.2.2.1 wf_X13_472 (.inl rfl) (rd_i_a.trans rd_i_a) ?_
  refine kz_iload_n (M := kt_M562) kX13_token_c2.1 rfl ?_
  refine kz_iastR (M := kt_M562) (n := w_n w 12 0 9) (c := 12) (o := 0) (k := 9) (a := (E.2.1 4081)) kX13_token_c2.2.1 ow_12_0_9 oa_12_0_9 ot_0 (rd_n_a.trans rd_n_a) h (fun h => ?_)
  refine kz_aload_n (M := kt_M562) kX13_token_c2.2.2.1 rfl ?_
  refine kz_gfc (M := kt_M562) (x := 4082) (c := 12) (o := 0) kX13_token_c2.2.2.2.1 wf_X13_166 (.inl rfl) ?_
  refine kz_aload_n (M := kt_M562) kX13_token_c2.2.2.2.2.1 rfl ?_
  refine kz_gfiR (M := kt_M562) (c := 12) (o := 0) (w_i w 12 0 6) kX13_token_c2.2.2.2.2.2.1 wf_X13_472 (.inl rfl) (rd_i_a.trans (rd_i_a.trans rd_i_a)) ?_
  refine kz_iload (M := kt_M562) kX13_token_c2.2.2.2.2.2.2.1 rfl ?_
  refine kz_iastR (M := kt_M562) (n := w_n w 12 0 10) (c := 12) (o := 0) (k := 10) (a := (E.2.1 4082)) kX13_token_c2.2.2.2.2.2.2.2.1 ow_12_0_10 oa_12_0_10 ot_0 (rd_n_a.trans (rd_n_a.trans rd_n_a)) h (fun h => ?_)
  refine kz_aload_n (M := kt_M562) kX13_token_c3.1 rfl ?_
  refine kz_dup (M := kt_M562) kX13_token_c3.2.1 rfl ?_
  refine kz_gfiR (M := kt_M562) (c := 12) (o := 0) (w_i w 12 0 6) kX13_token_c3.2.2.1 wf_X13_472 (.inl rfl) (rd_i_a.trans (rd_i_a.trans (rd_i_a.trans rd_i_a))) ?_
  refine kz_ic (M := kt_M562) 1 kX13_token_c3.2.2.2.1 rfl ?_
  refine kz_iadd (M := kt_M562) kX13_token_c3.2.2.2.2.1 ?_
  refine kz_pfi (M := kt_M562) (c := 12) (o := 0) kX13_token_c3.2.2.2.2.2.1 wq_X13_472 (.inl rfl) ?_
  exact kz_ret (M := kt_M562) kX13_token_c3.2.2.2.2.2.2.1 rfl h
def zL_X13_process_p23 (E : zE) (L : Nat) (Q : kx_Rs → wS → Prop) (x1 : Int32) (x2 : Int32) (x3 : Int32) (w : wS) : Prop := kzE E L kt_M514 23 [(0, .ref (w_adr E.2.1 12 0)), (1, .int x1), (2, .int x2), (3, .int x3)] [] w Q
def zb_X13_process_p107 (E : zE) (L : Nat) (Q : kx_Rs → wS → Prop) (w : wS) : Prop := zw E (L - 22) kt_M545 [.ref (w_adr E.2.1 12 0), .int 2] w (wkr (fun v2 w1 => wle w w1 → (v2 = some (w_adr E.2.1 13 0) ∧ Q (.inr "MeetingHouseModel$Halt") w1)) (fun e w => Q (.inr e) w))
theorem zt_X13_process_p107 {E : zE} {L : Nat} {Q : kx_Rs → wS → Prop} {w : wS} (hL : 25 ≤ L) (h : zb_X13_process_p107 E L Q  w) : kzE E L kt_M514 107 [(0, .ref (w_adr E.2.1 12 0))] [] w Q := by
  unfold zb_X13_process_p107 at h
  refine kz_aload_n (M := kt_M514) kX13_process_c7.2.2.2.1 rfl ?_
  refine kz_ic (M := kt_M514) 2 kX13_process_c7.2.2.2.2.1 rfl ?_
  refine kz_cvr (M := kt_M514) (c := 12) (o := 0) (As := [.int 2]) (rest := []) kX13_process_c7.2.2.2.2.2.1 wl_X13_556 wMv_545 rfl (.inl rfl) rfl (Nat.le_trans (Nat.le_of_ble_eq_true rfl) hL) (Nat.le_of_ble_eq_true rfl) (Nat.le_of_ble_eq_true rfl) h (fun v2 w1 hle h => ?_) (fun _ _ _ h => kzx_no rfl h)
  have h := h hle
  exact kz_throw (M := kt_M514) (c := 13) (o := 0) kX13_process_c7.2.2.2.2.2.2.1 rfl (.inl rfl) h (fun h => kzx_no rfl h)
def zb_X13_process_p89 (E : zE) (L : Nat) (Q : kx_Rs → wS → Prop) (x1 : Int32) (x2 : Int32) (w : wS) : Prop := zw E (L - 21) kt_M438 [.ref (w_adr E.2.1 12 0), .int x1] w (wk1 (fun v2 w1 => wle w w1 → (if v2 = 0 then zb_X13_process_p107 E L Q w1 else zw E (L - 20) kt_M462 [.ref (w_adr E.2.1 12 0)] w1 (wk1 (fun v4 w3 => wle w1 w3 → zw E (L - 20) kt_M347 [.int v4] w3 (wk1 (fun v6 w5 => wle w3 w5 → (if ¬ v6 = 0 then zw E (L - 24) kt_M346 [.ref (w_adr E.2.1 12 0), .int x1] w5 (wk1 (fun v8 w7 => wle w5 w7 → (kx_inb x2 (w_n w7 12 0 29) = true ∧ Q (.inl (some (.int x2))) (ws_a w7 12 0 29 (x2).toNatClampNeg v8))) (fun e w => Q (.inr e) w)) else zb_X13_process_p107 E L Q w5)) (fun e w => Q (.inr e) w))) (fun e w => Q (.inr e) w)))) (fun e w => Q (.inr e) w))
theorem zt_X13_process_p89 {E : zE} {L : Nat} {Q : kx_Rs → wS → Prop} {x1 : Int32} {x2 : Int32} {w : wS} (hL : 25 ≤ L) (h : zb_X13_process_p89 E L Q x1 x2 w) : kzE E L kt_M514 89 [(0, .ref (w_adr E.2.1 12 0)), (1, .int x1), (2, .int x2)] [] w Q := by
  unfold zb_X13_process_p89 at h
  refine kz_aload_n (M := kt_M514) kX13_process_c6.2.2.2.1 rfl ?_
  refine kz_iload_n (M := kt_M514) kX13_process_c6.2.2.2.2.1 rfl ?_
  refine kz_cv1 (M := kt_M514) (c := 12) (o := 0) (As := [.int x1]) (rest := []) kX13_process_c6.2.2.2.2.2.1 wl_X13_578 wMv_438 rfl (.inl rfl) rfl (Nat.le_trans (Nat.le_of_ble_eq_true rfl) hL) (Nat.le_of_ble_eq_true rfl) (Nat.le_of_ble_eq_true rfl) h (fun v2 w1 hle h => ?_) (fun _ _ _ h => kzx_no rfl h)
  have h := h hle
  refine kz_if_eq (M := kt_M514) kX13_process_c6.2.2.2.2.2.2.1 (t := 107) rfl h (fun h => ?_) (fun h => ?_)
  · skip
    exact kz_weak [(0, .ref (w_adr E.2.1 12 0))] ⟨rfl, trivial⟩ rfl (zt_X13_process_p107 hL  h)
  · skip
    refine kz_aload_n (M := kt_M514) kX13_process_c6.2.2.2.2.2.2.2.1 rfl ?_
    refine kz_cv1 (M := kt_M514) (c := 12) (o := 0) (As := []) (rest := []) kX13_process_c7.1 wl_X13_560 wMv_462 rfl (.inl rfl) rfl (Nat.le_trans (Nat.le_of_ble_eq_true rfl) hL) (Nat.le_of_ble_eq_true rfl) (Nat.le_of_ble_eq_true rfl) h (fun v4 w3 hle h => ?_) (fun _ _ _ h => kzx_no rfl h)
    have h := h hle
    refine kz_cs1 (M := kt_M514) (As := [.int v4]) (rest := []) kX13_process_c7.2.1 wl_X13_572 wMs_347 rfl (Nat.le_trans (Nat.le_of_ble_eq_true rfl) hL) (Nat.le_of_ble_eq_true rfl) (Nat.le_of_ble_eq_true rfl) h (fun v6 w5 hle h => ?_) (fun _ _ _ h => kzx_no rfl h)
    have h := h hle
    refine kz_if_ne (M := kt_M514) kX13_process_c7.2.2.1 (t := 113) rfl h (fun h => ?_) (fun h => ?_)
    · skip
      refine kz_aload_n (M := kt_M514) kX13_process_c7.2.2.2.2.2.2.2.1 rfl ?_
      refine kz_gfc (M := kt_M514) (x := 4101) (c := 12) (o := 0) kX13_process_c8.1 wf_X13_196 (.inl rfl) ?_
      refine kz_iload_n (M := kt_M514) kX13_process_c8.2.1 rfl ?_
      refine kz_aload_n (M := kt_M514) kX13_process_c8.2.2.1 rfl ?_
      refine kz_iload_n (M := kt_M514) kX13_process_c8.2.2.2.1 rfl ?_
      refine kz_cv1 (M := kt_M514) (c := 12) (o := 0) (As := [.int x1]) (rest := [.int x2, .ref (E.2.1 4101)]) kX13_process_c8.2.2.2.2.1 wl_X13_601 wMv_346 rfl (.inl rfl) rfl (Nat.le_trans (Nat.le_of_ble_eq_true rfl) hL) (Nat.le_of_ble_eq_true rfl) (Nat.le_of_ble_eq_true rfl) h (fun v8 w7 hle h => ?_) (fun _ _ _ h => kzx_no rfl h)
      have h := h hle
      refine kz_iast (M := kt_M514) (c := 12) (o := 0) (k := 29) (a := (E.2.1 4101)) kX13_process_c8.2.2.2.2.2.1 ow_12_0_29 oa_12_0_29 ot_0 h (fun h => ?_)
      refine kz_iload_n (M := kt_M514) kX13_process_c8.2.2.2.2.2.2.1 rfl ?_
      exact kz_iret (M := kt_M514) kX13_process_c8.2.2.2.2.2.2.2.1 rfl rfl h
    · skip
      exact kz_weak [(0, .ref (w_adr E.2.1 12 0))] ⟨rfl, trivial⟩ rfl (zt_X13_process_p107 hL  h)
def zb_X13_process_p86 (E : zE) (L : Nat) (Q : kx_Rs → wS → Prop) (x1 : Int32) (x2 : Int32) (x3 : Int32) (w : wS) : Prop := zL_X13_process_p23 E L Q x1 x2 x3 w
theorem zt_X13_process_p86 {E : zE} {L : Nat} {Q : kx_Rs → wS → Prop} {x1 : Int32} {x2 : Int32} {x3 : Int32} {w : wS} (hL : 25 ≤ L) (h : zb_X13_process_p86 E L Q x1 x2 x3 w) : kzE E L kt_M514 86 [(0, .ref (w_adr E.2.1 12 0)), (1, .int x1), (2, .int x2), (3, .int x3)] [] w Q := by
  unfold zb_X13_process_p86 at h
  refine kz_goto (M := kt_M514) kX13_process_c6.2.2.1 (t := 23) rfl ?_
  exact kz_weak [(0, .ref (w_adr E.2.1 12 0)), (1, .int x1), (2, .int x2), (3, .int x3)] ⟨rfl, ⟨rfl, ⟨rfl, ⟨rfl, trivial⟩⟩⟩⟩ rfl h
def zb_X13_process_p23 (E : zE) (L : Nat) (Q : kx_Rs → wS → Prop) (x1 : Int32) (x2 : Int32) (x3 : Int32) (w : wS) : Prop := zw E (L - 21) kt_M438 [.ref (w_adr E.2.1 12 0), .int x1] w (wk1 (fun v2 w1 => wle w w1 → (if v2 = 0 then zb_X13_process_p89 E L Q x1 x2 w1 else zw E (L - 20) kt_M462 [.ref (w_adr E.2.1 12 0)] w1 (wk1 (fun v4 w3 => wle w1 w3 → zw E (L - 20) kt_M386 [.int v4] w3 (wk1 (fun v6 w5 => wle w3 w5 → (if v6 = 0 then zb_X13_process_p89 E L Q x1 x2 w5 else (if x1 ≤ 20 then zw E (L - 25) kt_M383 [.ref (w_adr E.2.1 12 0), .int x1] w5 (wk1 (fun v8 w7 => wle w5 w7 → zw E (L - 22) kt_M368 [.ref (w_adr E.2.1 12 0), .int x3, .int v8] w7 (wk1 (fun v10 w9 => wle w7 w9 → (kx_inb x2 (w_n w9 12 0 28) = true ∧ (if ¬ w_a w9 12 0 28 (x2).toNatClampNeg = (-1) then zb_X13_process_p86 E L Q x1 x2 v10 w9 else (kx_inb x2 (w_n w9 12 0 28) = true ∧ zb_X13_process_p86 E L Q x1 x2 v10 (ws_a w9 12 0 28 (x2).toNatClampNeg v8))))) (fun e w => Q (.inr e) w))) (fun e w => Q (.inr e) w)) else zw E (L - 22) kt_M545 [.ref (w_adr E.2.1 12 0), .int 3] w5 (wkr (fun v12 w11 => wle w5 w11 → (v12 = some (w_adr E.2.1 13 0) ∧ Q (.inr "MeetingHouseModel$Halt") w11)) (fun e w => Q (.inr e) w))))) (fun e w => Q (.inr e) w))) (fun e w => Q (.inr e) w)))) (fun e w => Q (.inr e) w))
theorem zt_X13_process_p23 {E : zE} {L : Nat} {Q : kx_Rs → wS → Prop} {x1 : Int32} {x2 : Int32} {x3 : Int32} {w : wS} (hL : 25 ≤ L) (h : zb_X13_process_p23 E L Q x1 x2 x3 w) : kzE E L kt_M514 23 [(0, .ref (w_adr E.2.1 12 0)), (1, .int x1), (2, .int x2), (3, .int x3)] [] w Q := by
  unfold zb_X13_process_p23 at h
  refine kz_aload_n (M := kt_M514) kX13_process_c1.2.2.2.2.2.2.2.1 rfl ?_
  refine kz_iload_n (M := kt_M514) kX13_process_c2.1 rfl ?_
  refine kz_cv1 (M := kt_M514) (c := 12) (o := 0) (As := [.int x1]) (rest := []) kX13_process_c2.2.1 wl_X13_578 wMv_438 rfl (.inl rfl) rfl (Nat.le_trans (Nat.le_of_ble_eq_true rfl) hL) (Nat.le_of_ble_eq_true rfl) (Nat.le_of_ble_eq_true rfl) h (fun v2 w1 hle h => ?_) (fun _ _ _ h => kzx_no rfl h)
  have h := h hle
  refine kz_if_eq (M := kt_M514) kX13_process_c2.2.2.1 (t := 89) rfl h (fun h => ?_) (fun h => ?_)
  · skip
    exact kz_weak [(0, .ref (w_adr E.2.1 12 0)), (1, .int x1), (2, .int x2)] ⟨rfl, ⟨rfl, ⟨rfl, trivial⟩⟩⟩ rfl (zt_X13_process_p89 hL  h)
  · skip
    refine kz_aload_n (M := kt_M514) kX13_process_c2.2.2.2.1 rfl ?_
    refine kz_cv1 (M := kt_M514) (c := 12) (o := 0) (As := []) (rest := []) kX13_process_c2.2.2.2.2.1 wl_X13_560 wMv_462 rfl (.inl rfl) rfl (Nat.le_trans (Nat.le_of_ble_eq_true rfl) hL) (Nat.le_of_ble_eq_true rfl) (Nat.le_of_ble_eq_true rfl) h (fun v4 w3 hle h => ?_) (fun _ _ _ h => kzx_no rfl h)
    have h := h hle
    refine kz_cs1 (M := kt_M514) (As := [.int v4]) (rest := []) kX13_process_c2.2.2.2.2.2.1 wl_X13_569 wMs_386 rfl (Nat.le_trans (Nat.le_of_ble_eq_true rfl) hL) (Nat.le_of_ble_eq_true rfl) (Nat.le_of_ble_eq_true rfl) h (fun v6 w5 hle h => ?_) (fun _ _ _ h => kzx_no rfl h)
    have h := h hle
    refine kz_if_eq (M := kt_M514) kX13_process_c2.2.2.2.2.2.2.1 (t := 89) rfl h (fun h => ?_) (fun h => ?_)
    · skip
      exact kz_weak [(0, .ref (w_adr E.2.1 12 0)), (1, .int x1), (2, .int x2)] ⟨rfl, ⟨rfl, ⟨rfl, trivial⟩⟩⟩ rfl (zt_X13_process_p89 hL  h)
    · skip
      refine kz_iload_n (M := kt_M514) kX13_process_c2.2.2.2.2.2.2.2.1 rfl ?_
      refine kz_bi (M := kt_M514) 20 kX13_process_c3.1 rfl ?_
      refine kz_icmp_le (M := kt_M514) kX13_process_c3.2.1 (t := 53) rfl h (fun h => ?_) (fun h => ?_)
      · skip
        refine kz_aload_n (M := kt_M514) kX13_process_c3.2.2.2.2.2.2.1 rfl ?_
        refine kz_iload_n (M := kt_M514) kX13_process_c3.2.2.2.2.2.2.2.1 rfl ?_
        refine kz_cv1 (M := kt_M514) (c := 12) (o := 0) (As := [.int x1]) (rest := []) kX13_process_c4.1 wl_X13_595 wMv_383 rfl (.inl rfl) rfl (Nat.le_trans (Nat.le_of_ble_eq_true rfl) hL) (Nat.le_of_ble_eq_true rfl) (Nat.le_of_ble_eq_true rfl) h (fun v8 w7 hle h => ?_) (fun _ _ _ h => kzx_no rfl h)
        have h := h hle
        refine kz_sti (M := kt_M514) [(0, .ref (w_adr E.2.1 12 0)), (1, .int x1), (2, .int x2), (3, .int x3)] kX13_process_c4.2.1 (Nat.le_of_ble_eq_true rfl) ⟨⟨rfl, rfl, .inl rfl⟩, ⟨⟨rfl, rfl, .inl rfl⟩, ⟨⟨rfl, rfl, .inl rfl⟩, ⟨⟨rfl, rfl, .inr rfl⟩, trivial⟩⟩⟩⟩ rfl ?_
        refine kz_aload_n (M := kt_M514) kX13_process_c4.2.2.1 rfl ?_
        refine kz_iload_n (M := kt_M514) kX13_process_c4.2.2.2.1 rfl ?_
        refine kz_iload (M := kt_M514) kX13_process_c4.2.2.2.2.1 rfl ?_
        refine kz_cv1 (M := kt_M514) (c := 12) (o := 0) (As := [.int x3, .int v8]) (rest := []) kX13_process_c4.2.2.2.2.2.1 wl_X13_598 wMv_368 rfl (.inl rfl) rfl (Nat.le_trans (Nat.le_of_ble_eq_true rfl) hL) (Nat.le_of_ble_eq_true rfl) (Nat.le_of_ble_eq_true rfl) h (fun v10 w9 hle h => ?_) (fun _ _ _ h => kzx_no rfl h)
        have h := h hle
        refine kz_sti_n (M := kt_M514) [(0, .ref (w_adr E.2.1 12 0)), (1, .int x1), (2, .int x2), (4, .int v8)] kX13_process_c4.2.2.2.2.2.2.1 (Nat.le_of_ble_eq_true rfl) ⟨⟨rfl, rfl, .inl rfl⟩, ⟨⟨rfl, rfl, .inl rfl⟩, ⟨⟨rfl, rfl, .inr rfl⟩, ⟨⟨rfl, rfl, .inl rfl⟩, trivial⟩⟩⟩⟩ rfl ?_
        refine kz_aload_n (M := kt_M514) kX13_process_c4.2.2.2.2.2.2.2.1 rfl ?_
        refine kz_gfc (M := kt_M514) (x := 4100) (c := 12) (o := 0) kX13_process_c5.1 wf_X13_193 (.inl rfl) ?_
        refine kz_iload_n (M := kt_M514) kX13_process_c5.2.1 rfl ?_
        refine kz_iald (M := kt_M514) (c := 12) (o := 0) (k := 28) (a := (E.2.1 4100)) kX13_process_c5.2.2.1 ow_12_0_28 oa_12_0_28 ot_0 h (fun h => ?_)
        refine kz_ic (M := kt_M514) (-1) kX13_process_c5.2.2.2.1 rfl ?_
        refine kz_icmp_ne (M := kt_M514) kX13_process_c5.2.2.2.2.1 (t := 86) rfl h (fun h => ?_) (fun h => ?_)
        · skip
          exact kz_weak [(0, .ref (w_adr E.2.1 12 0)), (1, .int x1), (2, .int x2), (3, .int v10)] ⟨rfl, ⟨rfl, ⟨rfl, ⟨rfl, trivial⟩⟩⟩⟩ rfl (zt_X13_process_p86 hL  h)
        · skip
          refine kz_aload_n (M := kt_M514) kX13_process_c5.2.2.2.2.2.1 rfl ?_
          refine kz_gfc (M := kt_M514) (x := 4100) (c := 12) (o := 0) kX13_process_c5.2.2.2.2.2.2.1 wf_X13_193 (.inl rfl) ?_
          refine kz_iload_n (M := kt_M514) kX13_process_c5.2.2.2.2.2.2.2.1 rfl ?_
          refine kz_iload (M := kt_M514) kX13_process_c6.1 rfl ?_
          refine kz_iast (M := kt_M514) (c := 12) (o := 0) (k := 28) (a := (E.2.1 4100)) kX13_process_c6.2.1 ow_12_0_28 oa_12_0_28 ot_0 h (fun h => ?_)
          exact kz_weak [(0, .ref (w_adr E.2.1 12 0)), (1, .int x1), (2, .int x2), (3, .int v10)] ⟨rfl, ⟨rfl, ⟨rfl, ⟨rfl, trivial⟩⟩⟩⟩ rfl (zt_X13_process_p86 hL  h)
      · skip
        refine kz_aload_n (M := kt_M514) kX13_process_c3.2.2.1 rfl ?_
        refine kz_ic (M := kt_M514) 3 kX13_process_c3.2.2.2.1 rfl ?_
        refine kz_cvr (M := kt_M514) (c := 12) (o := 0) (As := [.int 3]) (rest := []) kX13_process_c3.2.2.2.2.1 wl_X13_556 wMv_545 rfl (.inl rfl) rfl (Nat.le_trans (Nat.le_of_ble_eq_true rfl) hL) (Nat.le_of_ble_eq_true rfl) (Nat.le_of_ble_eq_true rfl) h (fun v12 w11 hle h => ?_) (fun _ _ _ h => kzx_no rfl h)
        have h := h hle
        exact kz_throw (M := kt_M514) (c := 13) (o := 0) kX13_process_c3.2.2.2.2.2.1 rfl (.inl rfl) h (fun h => kzx_no rfl h)
def zb_X13_process_p0 (E : zE) (L : Nat) (Q : kx_Rs → wS → Prop) (x1 : Int32) (w : wS) : Prop := zw E (L - 22) kt_M458 [.ref (w_adr E.2.1 12 0), .int x1, .int 0] w (wk0 (fun w1 => wle w w1 → (kx_inb (w_i w1 12 0 35) (w_n w1 12 0 9) = true ∧ zw E (L - 22) kt_M494 [.ref (w_adr E.2.1 12 0), .int 1, .int (w_a w1 12 0 9 (w_i w1 12 0 35).toNatClampNeg)] w1 (wk1 (fun v4 w3 => wle w1 w3 → zL_X13_process_p23 E L Q x1 v4 (-1) w3) (fun e w => Q (.inr e) w)))) (fun e w => Q (.inr e) w))
theorem zt_X13_process_p0 {E : zE} {L : Nat} {Q : kx_Rs → wS → Prop} {x1 : Int32} {w : wS} (hL : 25 ≤ L) (h : zb_X13_process_p0 E L Q x1 w) : kzE E L kt_M514 0 [(0, .ref (w_adr E.2.1 12 0)), (1, .int x1)] [] w Q := by
  unfold zb_X13_process_p0 at h
  refine kz_aload_n (M := kt_M514) kX13_process_c0.1 rfl ?_
  refine kz_iload_n (M := kt_M514) kX13_process_c0.2.1 rfl ?_
  refine kz_ic (M := kt_M514) 0 kX13_process_c0.2.2.1 rfl ?_
  refine kz_cv0 (M := kt_M514) (c := 12) (o := 0) (As := [.int x1, .int 0]) (rest := []) kX13_process_c0.2.2.2.1 wl_X13_588 wMv_458 rfl (.inl rfl) rfl (Nat.le_trans (Nat.le_of_ble_eq_true rfl) hL) (Nat.le_of_ble_eq_true rfl) (Nat.le_of_ble_eq_true rfl) h (fun w1 hle h => ?_) (fun _ _ _ h => kzx_no rfl h)
  have h := h hle
  refine kz_aload_n (M := kt_M514) kX13_process_c0.2.2.2.2.1 rfl ?_
  refine kz_ic (M := kt_M514) 1 kX13_process_c0.2.2.2.2.2.1 rfl ?_
  refine kz_aload_n (M := kt_M514) kX13_process_c0.2.2.2.2.2.2.1 rfl ?_
  refine kz_gfc (M := kt_M514) (x := 4081) (c := 12) (o := 0) kX13_process_c0.2.2.2.2.2.2.2.1 wf_X13_163 (.inl rfl) ?_
  refine kz_aload_n (M := kt_M514) kX13_process_c1.1 rfl ?_
  refine kz_gfi (M := kt_M514) (c := 12) (o := 0) kX13_process_c1.2.1 wf_X13_547 (.inl rfl) ?_
  refine kz_iald (M := kt_M514) (c := 12) (o := 0) (k := 9) (a := (E.2.1 4081)) kX13_process_c1.2.2.1 ow_12_0_9 oa_12_0_9 ot_0 h (fun h => ?_)
  refine kz_cv1 (M := kt_M514) (c := 12) (o := 0) (As := [.int 1, .int (w_a w1 12 0 9 (w_i w1 12 0 35).toNatClampNeg)]) (rest := []) kX13_process_c1.2.2.2.1 wl_X13_592 wMv_494 rfl (.inl rfl) rfl (Nat.le_trans (Nat.le_of_ble_eq_true rfl) hL) (Nat.le_of_ble_eq_true rfl) (Nat.le_of_ble_eq_true rfl) h (fun v4 w3 hle h => ?_) (fun _ _ _ h => kzx_no rfl h)
  have h := h hle
  refine kz_sti_n (M := kt_M514) [(0, .ref (w_adr E.2.1 12 0)), (1, .int x1)] kX13_process_c1.2.2.2.2.1 (Nat.le_of_ble_eq_true rfl) ⟨⟨rfl, rfl, .inl rfl⟩, ⟨⟨rfl, rfl, .inr rfl⟩, trivial⟩⟩ rfl ?_
  refine kz_ic (M := kt_M514) (-1) kX13_process_c1.2.2.2.2.2.1 rfl ?_
  refine kz_sti_n (M := kt_M514) [(0, .ref (w_adr E.2.1 12 0)), (1, .int x1), (2, .int v4)] kX13_process_c1.2.2.2.2.2.2.1 (Nat.le_of_ble_eq_true rfl) ⟨⟨rfl, rfl, .inl rfl⟩, ⟨⟨rfl, rfl, .inl rfl⟩, ⟨⟨rfl, rfl, .inr rfl⟩, trivial⟩⟩⟩ rfl ?_
  exact kz_weak [(0, .ref (w_adr E.2.1 12 0)), (1, .int x1), (2, .int v4), (3, .int (-1))] ⟨rfl, ⟨rfl, ⟨rfl, ⟨rfl, trivial⟩⟩⟩⟩ rfl h
def zb_X13_lineAt_p19 (E : zE) (L : Nat) (Q : kx_Rs → wS → Prop) (w : wS) : Prop := zw E (L - 22) kt_M545 [.ref (w_adr E.2.1 12 0), .int 2] w (wkr (fun v2 w1 => wle w w1 → (v2 = some (w_adr E.2.1 13 0) ∧ Q (.inr "MeetingHouseModel$Halt") w1)) (fun e w => Q (.inr e) w))
theorem zt_X13_lineAt_p19 {E : zE} {L : Nat} {Q : kx_Rs → wS → Prop} {w : wS} (hL : 22 ≤ L) (h : zb_X13_lineAt_p19 E L Q  w) : kzE E L kt_M458 19 [(0, .ref (w_adr E.2.1 12 0))] [] w Q := by
  unfold zb_X13_lineAt_p19 at h
  refine kz_aload_n (M := kt_M458) kX13_lineAt_c1.2.1 rfl ?_
  refine kz_ic (M := kt_M458) 2 kX13_lineAt_c1.2.2.1 rfl ?_
  refine kz_cvr (M := kt_M458) (c := 12) (o := 0) (As := [.int 2]) (rest := []) kX13_lineAt_c1.2.2.2.1 wl_X13_556 wMv_545 rfl (.inl rfl) rfl (Nat.le_trans (Nat.le_of_ble_eq_true rfl) hL) (Nat.le_of_ble_eq_true rfl) (Nat.le_of_ble_eq_true rfl) h (fun v2 w1 hle h => ?_) (fun _ _ _ h => kzx_no rfl h)
  have h := h hle
  exact kz_throw (M := kt_M458) (c := 13) (o := 0) kX13_lineAt_c1.2.2.2.2.1 rfl (.inl rfl) h (fun h => kzx_no rfl h)
def zb_X13_lineAt_p0 (E : zE) (L : Nat) (Q : kx_Rs → wS → Prop) (x1 : Int32) (x2 : Int32) (w : wS) : Prop := zw E (L - 21) kt_M438 [.ref (w_adr E.2.1 12 0), .int x1] w (wk1 (fun v2 w1 => wle w w1 → (if v2 = 0 then zb_X13_lineAt_p19 E L Q w1 else zw E (L - 20) kt_M462 [.ref (w_adr E.2.1 12 0)] w1 (wk1 (fun v4 w3 => wle w1 w3 → zw E (L - 21) kt_M359 [.int x2, .int v4] w3 (wk1 (fun v6 w5 => wle w3 w5 → (if ¬ v6 = 0 then (if x1 ≤ 20 then Q (.inl none) w5 else zw E (L - 22) kt_M545 [.ref (w_adr E.2.1 12 0), .int 3] w5 (wkr (fun v8 w7 => wle w5 w7 → (v8 = some (w_adr E.2.1 13 0) ∧ Q (.inr "MeetingHouseModel$Halt") w7)) (fun e w => Q (.inr e) w))) else zb_X13_lineAt_p19 E L Q w5)) (fun e w => Q (.inr e) w))) (fun e w => Q (.inr e) w)))) (fun e w => Q (.inr e) w))
theorem zt_X13_lineAt_p0 {E : zE} {L : Nat} {Q : kx_Rs → wS → Prop} {x1 : Int32} {x2 : Int32} {w : wS} (hL : 22 ≤ L) (h : zb_X13_lineAt_p0 E L Q x1 x2 w) : kzE E L kt_M458 0 [(0, .ref (w_adr E.2.1 12 0)), (1, .int x1), (2, .int x2)] [] w Q := by
  unfold zb_X13_lineAt_p0 at h
  refine kz_aload_n (M := kt_M458) kX13_lineAt_c0.1 rfl ?_
  refine kz_iload_n (M := kt_M458) kX13_lineAt_c0.2.1 rfl ?_
  refine kz_cv1 (M := kt_M458) (c := 12) (o := 0) (As := [.int x1]) (rest := []) kX13_lineAt_c0.2.2.1 wl_X13_578 wMv_438 rfl (.inl rfl) rfl (Nat.le_trans (Nat.le_of_ble_eq_true rfl) hL) (Nat.le_of_ble_eq_true rfl) (Nat.le_of_ble_eq_true rfl) h (fun v2 w1 hle h => ?_) (fun _ _ _ h => kzx_no rfl h)
  have h := h hle
  refine kz_if_eq (M := kt_M458) kX13_lineAt_c0.2.2.2.1 (t := 19) rfl h (fun h => ?_) (fun h => ?_)
  · skip
    exact kz_weak [(0, .ref (w_adr E.2.1 12 0))] ⟨rfl, trivial⟩ rfl (zt_X13_lineAt_p19 hL  h)
  · skip
    refine kz_iload_n (M := kt_M458) kX13_lineAt_c0.2.2.2.2.1 rfl ?_
    refine kz_aload_n (M := kt_M458) kX13_lineAt_c0.2.2.2.2.2.1 rfl ?_
    refine kz_cv1 (M := kt_M458) (c := 12) (o := 0) (As := []) (rest := [.int x2]) kX13_lineAt_c0.2.2.2.2.2.2.1 wl_X13_560 wMv_462 rfl (.inl rfl) rfl (Nat.le_trans (Nat.le_of_ble_eq_true rfl) hL) (Nat.le_of_ble_eq_true rfl) (Nat.le_of_ble_eq_true rfl) h (fun v4 w3 hle h => ?_) (fun _ _ _ h => kzx_no rfl h)
    have h := h hle
    refine kz_cs1 (M := kt_M458) (As := [.int x2, .int v4]) (rest := []) kX13_lineAt_c0.2.2.2.2.2.2.2.1 wl_X13_581 wMs_359 rfl (Nat.le_trans (Nat.le_of_ble_eq_true rfl) hL) (Nat.le_of_ble_eq_true rfl) (Nat.le_of_ble_eq_true rfl) h (fun v6 w5 hle h => ?_) (fun _ _ _ h => kzx_no rfl h)
    have h := h hle
    refine kz_if_ne (M := kt_M458) kX13_lineAt_c1.1 (t := 25) rfl h (fun h => ?_) (fun h => ?_)
    · skip
      refine kz_iload_n (M := kt_M458) kX13_lineAt_c1.2.2.2.2.2.1 rfl ?_
      refine kz_bi (M := kt_M458) 20 kX13_lineAt_c1.2.2.2.2.2.2.1 rfl ?_
      refine kz_icmp_le (M := kt_M458) kX13_lineAt_c1.2.2.2.2.2.2.2.1 (t := 37) rfl h (fun h => ?_) (fun h => ?_)
      · skip
        exact kz_ret (M := kt_M458) kX13_lineAt_c2.2.2.2.2.1 rfl h
      · skip
        refine kz_aload_n (M := kt_M458) kX13_lineAt_c2.1 rfl ?_
        refine kz_ic (M := kt_M458) 3 kX13_lineAt_c2.2.1 rfl ?_
        refine kz_cvr (M := kt_M458) (c := 12) (o := 0) (As := [.int 3]) (rest := []) kX13_lineAt_c2.2.2.1 wl_X13_556 wMv_545 rfl (.inl rfl) rfl (Nat.le_trans (Nat.le_of_ble_eq_true rfl) hL) (Nat.le_of_ble_eq_true rfl) (Nat.le_of_ble_eq_true rfl) h (fun v8 w7 hle h => ?_) (fun _ _ _ h => kzx_no rfl h)
        have h := h hle
        exact kz_throw (M := kt_M458) (c := 13) (o := 0) kX13_lineAt_c2.2.2.2.1 rfl (.inl rfl) h (fun h => kzx_no rfl h)
    · skip
      exact kz_weak [(0, .ref (w_adr E.2.1 12 0))] ⟨rfl, trivial⟩ rfl (zt_X13_lineAt_p19 hL  h)
def zb_X13_isAt_p29 (E : zE) (L : Nat) (Q : kx_Rs → wS → Prop) (y0 : Int32) (w : wS) : Prop := ((y0 = 0 ∨ y0 = 1) ∧ Q (.inl (some (.int y0))) w)
theorem zt_X13_isAt_p29 {E : zE} {L : Nat} {Q : kx_Rs → wS → Prop} {y0 : Int32} {w : wS} (hL : 20 ≤ L) (h : zb_X13_isAt_p29 E L Q y0 w) : kzE E L kt_M438 29 [(0, .ref (w_adr E.2.1 12 0))] [.int y0] w Q := by
  unfold zb_X13_isAt_p29 at h
  exact kz_iretz (M := kt_M438) kX13_isAt_c2.1 rfl h.1 h.2
def zb_X13_isAt_p28 (E : zE) (L : Nat) (Q : kx_Rs → wS → Prop) (w : wS) : Prop := zb_X13_isAt_p29 E L Q 0 w
theorem zt_X13_isAt_p28 {E : zE} {L : Nat} {Q : kx_Rs → wS → Prop} {w : wS} (hL : 20 ≤ L) (h : zb_X13_isAt_p28 E L Q  w) : kzE E L kt_M438 28 [(0, .ref (w_adr E.2.1 12 0))] [] w Q := by
  unfold zb_X13_isAt_p28 at h
  refine kz_ic (M := kt_M438) 0 kX13_isAt_c1.2.2.2.2.2.2.2.1 rfl ?_
  exact kz_weak [(0, .ref (w_adr E.2.1 12 0))] ⟨rfl, trivial⟩ rfl (zt_X13_isAt_p29 hL  h)
def zb_X13_isAt_p0 (E : zE) (L : Nat) (Q : kx_Rs → wS → Prop) (x1 : Int32) (w : wS) : Prop := zw E (L - 20) kt_M462 [.ref (w_adr E.2.1 12 0)] w (wk1 (fun v2 w1 => wle w w1 → (if v2 = 75 then zb_X13_isAt_p28 E L Q w1 else (kx_inb (w_i w1 12 0 35) (w_n w1 12 0 10) = true ∧ (if ¬ w_a w1 12 0 10 (w_i w1 12 0 35).toNatClampNeg = (2 * x1) then zb_X13_isAt_p28 E L Q w1 else zb_X13_isAt_p29 E L Q 1 w1)))) (fun e w => Q (.inr e) w))
theorem zt_X13_isAt_p0 {E : zE} {L : Nat} {Q : kx_Rs → wS → Prop} {x1 : Int32} {w : wS} (hL : 20 ≤ L) (h : zb_X13_isAt_p0 E L Q x1 w) : kzE E L kt_M438 0 [(0, .ref (w_adr E.2.1 12 0)), (1, .int x1)] [] w Q := by
  unfold zb_X13_isAt_p0 at h
  refine kz_aload_n (M := kt_M438) kX13_isAt_c0.1 rfl ?_
  refine kz_cv1 (M := kt_M438) (c := 12) (o := 0) (As := []) (rest := []) kX13_isAt_c0.2.1 wl_X13_560 wMv_462 rfl (.inl rfl) rfl (Nat.le_trans (Nat.le_of_ble_eq_true rfl) hL) (Nat.le_of_ble_eq_true rfl) (Nat.le_of_ble_eq_true rfl) h (fun v2 w1 hle h => ?_) (fun _ _ _ h => kzx_no rfl h)
  have h := h hle
  refine kz_bi (M := kt_M438) 75 kX13_isAt_c0.2.2.1 rfl ?_
  refine kz_icmp_eq (M := kt_M438) kX13_isAt_c0.2.2.2.1 (t := 28) rfl h (fun h => ?_) (fun h => ?_)
  · skip
    exact kz_weak [(0, .ref (w_adr E.2.1 12 0))] ⟨rfl, trivial⟩ rfl (zt_X13_isAt_p28 hL  h)
  · skip
    refine kz_aload_n (M := kt_M438) kX13_isAt_c0.2.2.2.2.1 rfl ?_
    refine kz_gfc (M := kt_M438) (x := 4082) (c := 12) (o := 0) kX13_isAt_c0.2.2.2.2.2.1 wf_X13_166 (.inl rfl) ?_
    refine kz_aload_n (M := kt_M438) kX13_isAt_c0.2.2.2.2.2.2.1 rfl ?_
    refine kz_gfi (M := kt_M438) (c := 12) (o := 0) kX13_isAt_c0.2.2.2.2.2.2.2.1 wf_X13_547 (.inl rfl) ?_
    refine kz_iald (M := kt_M438) (c := 12) (o := 0) (k := 10) (a := (E.2.1 4082)) kX13_isAt_c1.1 ow_12_0_10 oa_12_0_10 ot_0 h (fun h => ?_)
    refine kz_ic (M := kt_M438) 2 kX13_isAt_c1.2.1 rfl ?_
    refine kz_iload_n (M := kt_M438) kX13_isAt_c1.2.2.1 rfl ?_
    refine kz_imul (M := kt_M438) kX13_isAt_c1.2.2.2.1 ?_
    refine kz_icmp_ne (M := kt_M438) kX13_isAt_c1.2.2.2.2.1 (t := 28) rfl h (fun h => ?_) (fun h => ?_)
    · skip
      exact kz_weak [(0, .ref (w_adr E.2.1 12 0))] ⟨rfl, trivial⟩ rfl (zt_X13_isAt_p28 hL  h)
    · skip
      refine kz_ic (M := kt_M438) 1 kX13_isAt_c1.2.2.2.2.2.1 rfl ?_
      refine kz_goto (M := kt_M438) kX13_isAt_c1.2.2.2.2.2.2.1 (t := 29) rfl ?_
      exact kz_weak [(0, .ref (w_adr E.2.1 12 0))] ⟨rfl, trivial⟩ rfl (zt_X13_isAt_p29 hL  h)
def zb_X13_look_p0 (E : zE) (L : Nat) (Q : kx_Rs → wS → Prop) (w : wS) : Prop := (kx_inb (w_i w 12 0 35) (w_n w 12 0 7) = true ∧ Q (.inl (some (.int (w_a w 12 0 7 (w_i w 12 0 35).toNatClampNeg)))) w)
theorem zt_X13_look_p0 {E : zE} {L : Nat} {Q : kx_Rs → wS → Prop} {w : wS} (hL : 19 ≤ L) (h : zb_X13_look_p0 E L Q  w) : kzE E L kt_M462 0 [(0, .ref (w_adr E.2.1 12 0))] [] w Q := by
  unfold zb_X13_look_p0 at h
  refine kz_aload_n (M := kt_M462) kX13_look_c0.1 rfl ?_
  refine kz_gfc (M := kt_M462) (x := 4079) (c := 12) (o := 0) kX13_look_c0.2.1 wf_X13_157 (.inl rfl) ?_
  refine kz_aload_n (M := kt_M462) kX13_look_c0.2.2.1 rfl ?_
  refine kz_gfi (M := kt_M462) (c := 12) (o := 0) kX13_look_c0.2.2.2.1 wf_X13_547 (.inl rfl) ?_
  refine kz_iald (M := kt_M462) (c := 12) (o := 0) (k := 7) (a := (E.2.1 4079)) kX13_look_c0.2.2.2.2.1 ow_12_0_7 oa_12_0_7 ot_0 h (fun h => ?_)
  exact kz_iret (M := kt_M462) kX13_look_c0.2.2.2.2.2.1 rfl rfl h
def zb_X13_begins_p192 (E : zE) (L : Nat) (Q : kx_Rs → wS → Prop) (y0 : Int32) (w : wS) : Prop := ((y0 = 0 ∨ y0 = 1) ∧ Q (.inl (some (.int y0))) w)
theorem zt_X13_begins_p192 {E : zE} {L : Nat} {Q : kx_Rs → wS → Prop} {y0 : Int32} {w : wS} (hL : 20 ≤ L) (h : zb_X13_begins_p192 E L Q y0 w) : kzE E L kt_M359 192 [] [.int y0] w Q := by
  unfold zb_X13_begins_p192 at h
  exact kz_iretz (M := kt_M359) kX13_begins_c9.2.2.2.2.2.2.2.1 rfl h.1 h.2
def zb_X13_begins_p180 (E : zE) (L : Nat) (Q : kx_Rs → wS → Prop) (y0 : Int32) (w : wS) : Prop := ((y0 = 0 ∨ y0 = 1) ∧ Q (.inl (some (.int y0))) w)
theorem zt_X13_begins_p180 {E : zE} {L : Nat} {Q : kx_Rs → wS → Prop} {y0 : Int32} {w : wS} (hL : 20 ≤ L) (h : zb_X13_begins_p180 E L Q y0 w) : kzE E L kt_M359 180 [] [.int y0] w Q := by
  unfold zb_X13_begins_p180 at h
  exact kz_iretz (M := kt_M359) kX13_begins_c9.1 rfl h.1 h.2
def zb_X13_begins_p168 (E : zE) (L : Nat) (Q : kx_Rs → wS → Prop) (y0 : Int32) (w : wS) : Prop := ((y0 = 0 ∨ y0 = 1) ∧ Q (.inl (some (.int y0))) w)
theorem zt_X13_begins_p168 {E : zE} {L : Nat} {Q : kx_Rs → wS → Prop} {y0 : Int32} {w : wS} (hL : 20 ≤ L) (h : zb_X13_begins_p168 E L Q y0 w) : kzE E L kt_M359 168 [] [.int y0] w Q := by
  unfold zb_X13_begins_p168 at h
  exact kz_iretz (M := kt_M359) kX13_begins_c8.2.1 rfl h.1 h.2
def zb_X13_begins_p157 (E : zE) (L : Nat) (Q : kx_Rs → wS → Prop) (y0 : Int32) (w : wS) : Prop := ((y0 = 0 ∨ y0 = 1) ∧ Q (.inl (some (.int y0))) w)
theorem zt_X13_begins_p157 {E : zE} {L : Nat} {Q : kx_Rs → wS → Prop} {y0 : Int32} {w : wS} (hL : 20 ≤ L) (h : zb_X13_begins_p157 E L Q y0 w) : kzE E L kt_M359 157 [] [.int y0] w Q := by
  unfold zb_X13_begins_p157 at h
  exact kz_iretz (M := kt_M359) kX13_begins_c7.2.2.1 rfl h.1 h.2
def zb_X13_begins_p145 (E : zE) (L : Nat) (Q : kx_Rs → wS → Prop) (y0 : Int32) (w : wS) : Prop := ((y0 = 0 ∨ y0 = 1) ∧ Q (.inl (some (.int y0))) w)
theorem zt_X13_begins_p145 {E : zE} {L : Nat} {Q : kx_Rs → wS → Prop} {y0 : Int32} {w : wS} (hL : 20 ≤ L) (h : zb_X13_begins_p145 E L Q y0 w) : kzE E L kt_M359 145 [] [.int y0] w Q := by
  unfold zb_X13_begins_p145 at h
  exact kz_iretz (M := kt_M359) kX13_begins_c6.2.2.2.1 rfl h.1 h.2
def zb_X13_begins_p133 (E : zE) (L : Nat) (Q : kx_Rs → wS → Prop) (y0 : Int32) (w : wS) : Prop := ((y0 = 0 ∨ y0 = 1) ∧ Q (.inl (some (.int y0))) w)
theorem zt_X13_begins_p133 {E : zE} {L : Nat} {Q : kx_Rs → wS → Prop} {y0 : Int32} {w : wS} (hL : 20 ≤ L) (h : zb_X13_begins_p133 E L Q y0 w) : kzE E L kt_M359 133 [] [.int y0] w Q := by
  unfold zb_X13_begins_p133 at h
  exact kz_iretz (M := kt_M359) kX13_begins_c5.2.2.2.2.1 rfl h.1 h.2
def zb_X13_begins_p128 (E : zE) (L : Nat) (Q : kx_Rs → wS → Prop) (w : wS) : Prop := zb_X13_begins_p133 E L Q 1 w
theorem zt_X13_begins_p128 {E : zE} {L : Nat} {Q : kx_Rs → wS → Prop} {w : wS} (hL : 20 ≤ L) (h : zb_X13_begins_p128 E L Q  w) : kzE E L kt_M359 128 [] [] w Q := by
  unfold zb_X13_begins_p128 at h
  refine kz_ic (M := kt_M359) 1 kX13_begins_c5.2.1 rfl ?_
  refine kz_goto (M := kt_M359) kX13_begins_c5.2.2.1 (t := 133) rfl ?_
  exact kz_weak [] trivial rfl (zt_X13_begins_p133 hL  h)
def zb_X13_begins_p114 (E : zE) (L : Nat) (Q : kx_Rs → wS → Prop) (y0 : Int32) (w : wS) : Prop := ((y0 = 0 ∨ y0 = 1) ∧ Q (.inl (some (.int y0))) w)
theorem zt_X13_begins_p114 {E : zE} {L : Nat} {Q : kx_Rs → wS → Prop} {y0 : Int32} {w : wS} (hL : 20 ≤ L) (h : zb_X13_begins_p114 E L Q y0 w) : kzE E L kt_M359 114 [] [.int y0] w Q := by
  unfold zb_X13_begins_p114 at h
  exact kz_iretz (M := kt_M359) kX13_begins_c4.2.2.1 rfl h.1 h.2
def zb_X13_begins_p109 (E : zE) (L : Nat) (Q : kx_Rs → wS → Prop) (w : wS) : Prop := zb_X13_begins_p114 E L Q 1 w
theorem zt_X13_begins_p109 {E : zE} {L : Nat} {Q : kx_Rs → wS → Prop} {w : wS} (hL : 20 ≤ L) (h : zb_X13_begins_p109 E L Q  w) : kzE E L kt_M359 109 [] [] w Q := by
  unfold zb_X13_begins_p109 at h
  refine kz_ic (M := kt_M359) 1 kX13_begins_c3.2.2.2.2.2.2.2.1 rfl ?_
  refine kz_goto (M := kt_M359) kX13_begins_c4.1 (t := 114) rfl ?_
  exact kz_weak [] trivial rfl (zt_X13_begins_p114 hL  h)
def zb_X13_begins_p90 (E : zE) (L : Nat) (Q : kx_Rs → wS → Prop) (y0 : Int32) (w : wS) : Prop := ((y0 = 0 ∨ y0 = 1) ∧ Q (.inl (some (.int y0))) w)
theorem zt_X13_begins_p90 {E : zE} {L : Nat} {Q : kx_Rs → wS → Prop} {y0 : Int32} {w : wS} (hL : 20 ≤ L) (h : zb_X13_begins_p90 E L Q y0 w) : kzE E L kt_M359 90 [] [.int y0] w Q := by
  unfold zb_X13_begins_p90 at h
  exact kz_iretz (M := kt_M359) kX13_begins_c2.2.2.2.2.2.1 rfl h.1 h.2
def zb_X13_begins_p85 (E : zE) (L : Nat) (Q : kx_Rs → wS → Prop) (w : wS) : Prop := zb_X13_begins_p90 E L Q 1 w
theorem zt_X13_begins_p85 {E : zE} {L : Nat} {Q : kx_Rs → wS → Prop} {w : wS} (hL : 20 ≤ L) (h : zb_X13_begins_p85 E L Q  w) : kzE E L kt_M359 85 [] [] w Q := by
  unfold zb_X13_begins_p85 at h
  refine kz_ic (M := kt_M359) 1 kX13_begins_c2.2.2.1 rfl ?_
  refine kz_goto (M := kt_M359) kX13_begins_c2.2.2.2.1 (t := 90) rfl ?_
  exact kz_weak [] trivial rfl (zt_X13_begins_p90 hL  h)
def zb_X13_begins_p71 (E : zE) (L : Nat) (Q : kx_Rs → wS → Prop) (y0 : Int32) (w : wS) : Prop := ((y0 = 0 ∨ y0 = 1) ∧ Q (.inl (some (.int y0))) w)
theorem zt_X13_begins_p71 {E : zE} {L : Nat} {Q : kx_Rs → wS → Prop} {y0 : Int32} {w : wS} (hL : 20 ≤ L) (h : zb_X13_begins_p71 E L Q y0 w) : kzE E L kt_M359 71 [] [.int y0] w Q := by
  unfold zb_X13_begins_p71 at h
  exact kz_iretz (M := kt_M359) kX13_begins_c1.2.2.2.1 rfl h.1 h.2
def zb_X13_begins_p66 (E : zE) (L : Nat) (Q : kx_Rs → wS → Prop) (w : wS) : Prop := zb_X13_begins_p71 E L Q 1 w
theorem zt_X13_begins_p66 {E : zE} {L : Nat} {Q : kx_Rs → wS → Prop} {w : wS} (hL : 20 ≤ L) (h : zb_X13_begins_p66 E L Q  w) : kzE E L kt_M359 66 [] [] w Q := by
  unfold zb_X13_begins_p66 at h
  refine kz_ic (M := kt_M359) 1 kX13_begins_c1.1 rfl ?_
  refine kz_goto (M := kt_M359) kX13_begins_c1.2.1 (t := 71) rfl ?_
  exact kz_weak [] trivial rfl (zt_X13_begins_p71 hL  h)
def zb_X13_begins_p0 (E : zE) (L : Nat) (Q : kx_Rs → wS → Prop) (x0 : Int32) (x1 : Int32) (w : wS) : Prop := (if x0 = 0 then zw E (L - 20) kt_M386 [.int x1] w (wk1 (fun v2 w1 => wle w w1 → (if ¬ v2 = 0 then zb_X13_begins_p66 E L Q w1 else zw E (L - 20) kt_M347 [.int x1] w1 (wk1 (fun v4 w3 => wle w1 w3 → (if v4 = 0 then zb_X13_begins_p71 E L Q 0 w3 else zb_X13_begins_p66 E L Q w3)) (fun e w => Q (.inr e) w)))) (fun e w => Q (.inr e) w)) else (if x0 = 1 then zw E (L - 20) kt_M386 [.int x1] w (wk1 (fun v6 w5 => wle w w5 → (if ¬ v6 = 0 then zb_X13_begins_p85 E L Q w5 else (if ¬ x1 = 34 then zb_X13_begins_p90 E L Q 0 w5 else zb_X13_begins_p85 E L Q w5))) (fun e w => Q (.inr e) w)) else (if x0 = 2 then zw E (L - 20) kt_M407 [.int x1] w (wk1 (fun v8 w7 => wle w w7 → ((v8 = 0 ∨ v8 = 1) ∧ Q (.inl (some (.int v8))) w7)) (fun e w => Q (.inr e) w)) else (if x0 = 3 then zw E (L - 20) kt_M407 [.int x1] w (wk1 (fun v10 w9 => wle w w9 → (if ¬ v10 = 0 then zb_X13_begins_p109 E L Q w9 else (if ¬ x1 = 7 then zb_X13_begins_p114 E L Q 0 w9 else zb_X13_begins_p109 E L Q w9))) (fun e w => Q (.inr e) w)) else (if x0 = 4 then zw E (L - 20) kt_M407 [.int x1] w (wk1 (fun v12 w11 => wle w w11 → (if ¬ v12 = 0 then zb_X13_begins_p128 E L Q w11 else (if ¬ x1 = 28 then zb_X13_begins_p133 E L Q 0 w11 else zb_X13_begins_p128 E L Q w11))) (fun e w => Q (.inr e) w)) else (if x0 = 5 then (if ¬ x1 = 70 then zb_X13_begins_p145 E L Q 0 w else zb_X13_begins_p145 E L Q 1 w) else (if x0 = 6 then (if ¬ x1 = 46 then zb_X13_begins_p157 E L Q 0 w else zb_X13_begins_p157 E L Q 1 w) else (if x0 = 7 then (if ¬ x1 = 5 then zb_X13_begins_p168 E L Q 0 w else zb_X13_begins_p168 E L Q 1 w) else (if x0 = 8 then (if ¬ x1 = 34 then zb_X13_begins_p180 E L Q 0 w else zb_X13_begins_p180 E L Q 1 w) else (if ¬ x1 = 25 then zb_X13_begins_p192 E L Q 0 w else zb_X13_begins_p192 E L Q 1 w))))))))))
theorem zt_X13_begins_p0 {E : zE} {L : Nat} {Q : kx_Rs → wS → Prop} {x0 : Int32} {x1 : Int32} {w : wS} (hL : 20 ≤ L) (h : zb_X13_begins_p0 E L Q x0 x1 w) : kzE E L kt_M359 0 [(0, .int x0), (1, .int x1)] [] w Q := by
  unfold zb_X13_begins_p0 at h
  refine kz_iload_n (M := kt_M359) kX13_begins_c0.1 rfl ?_
  refine kz_tsw (M := kt_M359) [(0, 52), (1, 72), (2, 91), (3, 96), (4, 115), (5, 134), (6, 146), (7, 158), (8, 169)] [_, _, _, _, _, _, _, _, _] 181 dX13_begins_p1 (by decide +kernel) h ⟨fun h => ?_, fun h => ?_, fun h => ?_, fun h => ?_, fun h => ?_, fun h => ?_, fun h => ?_, fun h => ?_, fun h => ?_, trivial⟩ (fun h => ?_)
  · skip
    refine kz_iload_n (M := kt_M359) kX13_begins_c0.2.2.1 rfl ?_
    refine kz_cs1 (M := kt_M359) (As := [.int x1]) (rest := []) kX13_begins_c0.2.2.2.1 wl_X13_569 wMs_386 rfl (Nat.le_trans (Nat.le_of_ble_eq_true rfl) hL) (Nat.le_of_ble_eq_true rfl) (Nat.le_of_ble_eq_true rfl) h (fun v2 w1 hle h => ?_) (fun _ _ _ h => kzx_no rfl h)
    have h := h hle
    refine kz_if_ne (M := kt_M359) kX13_begins_c0.2.2.2.2.1 (t := 66) rfl h (fun h => ?_) (fun h => ?_)
    · skip
      exact kz_weak [] trivial rfl (zt_X13_begins_p66 hL  h)
    · skip
      refine kz_iload_n (M := kt_M359) kX13_begins_c0.2.2.2.2.2.1 rfl ?_
      refine kz_cs1 (M := kt_M359) (As := [.int x1]) (rest := []) kX13_begins_c0.2.2.2.2.2.2.1 wl_X13_572 wMs_347 rfl (Nat.le_trans (Nat.le_of_ble_eq_true rfl) hL) (Nat.le_of_ble_eq_true rfl) (Nat.le_of_ble_eq_true rfl) h (fun v4 w3 hle h => ?_) (fun _ _ _ h => kzx_no rfl h)
      have h := h hle
      refine kz_if_eq (M := kt_M359) kX13_begins_c0.2.2.2.2.2.2.2.1 (t := 70) rfl h (fun h => ?_) (fun h => ?_)
      · skip
        refine kz_ic (M := kt_M359) 0 kX13_begins_c1.2.2.1 rfl ?_
        exact kz_weak [] trivial rfl (zt_X13_begins_p71 hL  h)
      · skip
        exact kz_weak [] trivial rfl (zt_X13_begins_p66 hL  h)
  · skip
    refine kz_iload_n (M := kt_M359) kX13_begins_c1.2.2.2.2.1 rfl ?_
    refine kz_cs1 (M := kt_M359) (As := [.int x1]) (rest := []) kX13_begins_c1.2.2.2.2.2.1 wl_X13_569 wMs_386 rfl (Nat.le_trans (Nat.le_of_ble_eq_true rfl) hL) (Nat.le_of_ble_eq_true rfl) (Nat.le_of_ble_eq_true rfl) h (fun v6 w5 hle h => ?_) (fun _ _ _ h => kzx_no rfl h)
    have h := h hle
    refine kz_if_ne (M := kt_M359) kX13_begins_c1.2.2.2.2.2.2.1 (t := 85) rfl h (fun h => ?_) (fun h => ?_)
    · skip
      exact kz_weak [] trivial rfl (zt_X13_begins_p85 hL  h)
    · skip
      refine kz_iload_n (M := kt_M359) kX13_begins_c1.2.2.2.2.2.2.2.1 rfl ?_
      refine kz_bi (M := kt_M359) 34 kX13_begins_c2.1 rfl ?_
      refine kz_icmp_ne (M := kt_M359) kX13_begins_c2.2.1 (t := 89) rfl h (fun h => ?_) (fun h => ?_)
      · skip
        refine kz_ic (M := kt_M359) 0 kX13_begins_c2.2.2.2.2.1 rfl ?_
        exact kz_weak [] trivial rfl (zt_X13_begins_p90 hL  h)
      · skip
        exact kz_weak [] trivial rfl (zt_X13_begins_p85 hL  h)
  · skip
    refine kz_iload_n (M := kt_M359) kX13_begins_c2.2.2.2.2.2.2.1 rfl ?_
    refine kz_cs1 (M := kt_M359) (As := [.int x1]) (rest := []) kX13_begins_c2.2.2.2.2.2.2.2.1 wl_X13_575 wMs_407 rfl (Nat.le_trans (Nat.le_of_ble_eq_true rfl) hL) (Nat.le_of_ble_eq_true rfl) (Nat.le_of_ble_eq_true rfl) h (fun v8 w7 hle h => ?_) (fun _ _ _ h => kzx_no rfl h)
    have h := h hle
    exact kz_iretz (M := kt_M359) kX13_begins_c3.1 rfl h.1 h.2
  · skip
    refine kz_iload_n (M := kt_M359) kX13_begins_c3.2.1 rfl ?_
    refine kz_cs1 (M := kt_M359) (As := [.int x1]) (rest := []) kX13_begins_c3.2.2.1 wl_X13_575 wMs_407 rfl (Nat.le_trans (Nat.le_of_ble_eq_true rfl) hL) (Nat.le_of_ble_eq_true rfl) (Nat.le_of_ble_eq_true rfl) h (fun v10 w9 hle h => ?_) (fun _ _ _ h => kzx_no rfl h)
    have h := h hle
    refine kz_if_ne (M := kt_M359) kX13_begins_c3.2.2.2.1 (t := 109) rfl h (fun h => ?_) (fun h => ?_)
    · skip
      exact kz_weak [] trivial rfl (zt_X13_begins_p109 hL  h)
    · skip
      refine kz_iload_n (M := kt_M359) kX13_begins_c3.2.2.2.2.1 rfl ?_
      refine kz_bi (M := kt_M359) 7 kX13_begins_c3.2.2.2.2.2.1 rfl ?_
      refine kz_icmp_ne (M := kt_M359) kX13_begins_c3.2.2.2.2.2.2.1 (t := 113) rfl h (fun h => ?_) (fun h => ?_)
      · skip
        refine kz_ic (M := kt_M359) 0 kX13_begins_c4.2.1 rfl ?_
        exact kz_weak [] trivial rfl (zt_X13_begins_p114 hL  h)
      · skip
        exact kz_weak [] trivial rfl (zt_X13_begins_p109 hL  h)
  · skip
    refine kz_iload_n (M := kt_M359) kX13_begins_c4.2.2.2.1 rfl ?_
    refine kz_cs1 (M := kt_M359) (As := [.int x1]) (rest := []) kX13_begins_c4.2.2.2.2.1 wl_X13_575 wMs_407 rfl (Nat.le_trans (Nat.le_of_ble_eq_true rfl) hL) (Nat.le_of_ble_eq_true rfl) (Nat.le_of_ble_eq_true rfl) h (fun v12 w11 hle h => ?_) (fun _ _ _ h => kzx_no rfl h)
    have h := h hle
    refine kz_if_ne (M := kt_M359) kX13_begins_c4.2.2.2.2.2.1 (t := 128) rfl h (fun h => ?_) (fun h => ?_)
    · skip
      exact kz_weak [] trivial rfl (zt_X13_begins_p128 hL  h)
    · skip
      refine kz_iload_n (M := kt_M359) kX13_begins_c4.2.2.2.2.2.2.1 rfl ?_
      refine kz_bi (M := kt_M359) 28 kX13_begins_c4.2.2.2.2.2.2.2.1 rfl ?_
      refine kz_icmp_ne (M := kt_M359) kX13_begins_c5.1 (t := 132) rfl h (fun h => ?_) (fun h => ?_)
      · skip
        refine kz_ic (M := kt_M359) 0 kX13_begins_c5.2.2.2.1 rfl ?_
        exact kz_weak [] trivial rfl (zt_X13_begins_p133 hL  h)
      · skip
        exact kz_weak [] trivial rfl (zt_X13_begins_p128 hL  h)
  · skip
    refine kz_iload_n (M := kt_M359) kX13_begins_c5.2.2.2.2.2.1 rfl ?_
    refine kz_bi (M := kt_M359) 70 kX13_begins_c5.2.2.2.2.2.2.1 rfl ?_
    refine kz_icmp_ne (M := kt_M359) kX13_begins_c5.2.2.2.2.2.2.2.1 (t := 144) rfl h (fun h => ?_) (fun h => ?_)
    · skip
      refine kz_ic (M := kt_M359) 0 kX13_begins_c6.2.2.1 rfl ?_
      exact kz_weak [] trivial rfl (zt_X13_begins_p145 hL  h)
    · skip
      refine kz_ic (M := kt_M359) 1 kX13_begins_c6.1 rfl ?_
      refine kz_goto (M := kt_M359) kX13_begins_c6.2.1 (t := 145) rfl ?_
      exact kz_weak [] trivial rfl (zt_X13_begins_p145 hL  h)
  · skip
    refine kz_iload_n (M := kt_M359) kX13_begins_c6.2.2.2.2.1 rfl ?_
    refine kz_bi (M := kt_M359) 46 kX13_begins_c6.2.2.2.2.2.1 rfl ?_
    refine kz_icmp_ne (M := kt_M359) kX13_begins_c6.2.2.2.2.2.2.1 (t := 156) rfl h (fun h => ?_) (fun h => ?_)
    · skip
      refine kz_ic (M := kt_M359) 0 kX13_begins_c7.2.1 rfl ?_
      exact kz_weak [] trivial rfl (zt_X13_begins_p157 hL  h)
    · skip
      refine kz_ic (M := kt_M359) 1 kX13_begins_c6.2.2.2.2.2.2.2.1 rfl ?_
      refine kz_goto (M := kt_M359) kX13_begins_c7.1 (t := 157) rfl ?_
      exact kz_weak [] trivial rfl (zt_X13_begins_p157 hL  h)
  · skip
    refine kz_iload_n (M := kt_M359) kX13_begins_c7.2.2.2.1 rfl ?_
    refine kz_ic (M := kt_M359) 5 kX13_begins_c7.2.2.2.2.1 rfl ?_
    refine kz_icmp_ne (M := kt_M359) kX13_begins_c7.2.2.2.2.2.1 (t := 167) rfl h (fun h => ?_) (fun h => ?_)
    · skip
      refine kz_ic (M := kt_M359) 0 kX13_begins_c8.1 rfl ?_
      exact kz_weak [] trivial rfl (zt_X13_begins_p168 hL  h)
    · skip
      refine kz_ic (M := kt_M359) 1 kX13_begins_c7.2.2.2.2.2.2.1 rfl ?_
      refine kz_goto (M := kt_M359) kX13_begins_c7.2.2.2.2.2.2.2.1 (t := 168) rfl ?_
      exact kz_weak [] trivial rfl (zt_X13_begins_p168 hL  h)
  · skip
    refine kz_iload_n (M := kt_M359) kX13_begins_c8.2.2.1 rfl ?_
    refine kz_bi (M := kt_M359) 34 kX13_begins_c8.2.2.2.1 rfl ?_
    refine kz_icmp_ne (M := kt_M359) kX13_begins_c8.2.2.2.2.1 (t := 179) rfl h (fun h => ?_) (fun h => ?_)
    · skip
      refine kz_ic (M := kt_M359) 0 kX13_begins_c8.2.2.2.2.2.2.2.1 rfl ?_
      exact kz_weak [] trivial rfl (zt_X13_begins_p180 hL  h)
    · skip
      refine kz_ic (M := kt_M359) 1 kX13_begins_c8.2.2.2.2.2.1 rfl ?_
      refine kz_goto (M := kt_M359) kX13_begins_c8.2.2.2.2.2.2.1 (t := 180) rfl ?_
      exact kz_weak [] trivial rfl (zt_X13_begins_p180 hL  h)
  · skip
    refine kz_iload_n (M := kt_M359) kX13_begins_c9.2.1 rfl ?_
    refine kz_bi (M := kt_M359) 25 kX13_begins_c9.2.2.1 rfl ?_
    refine kz_icmp_ne (M := kt_M359) kX13_begins_c9.2.2.2.1 (t := 191) rfl h (fun h => ?_) (fun h => ?_)
    · skip
      refine kz_ic (M := kt_M359) 0 kX13_begins_c9.2.2.2.2.2.2.1 rfl ?_
      exact kz_weak [] trivial rfl (zt_X13_begins_p192 hL  h)
    · skip
      refine kz_ic (M := kt_M359) 1 kX13_begins_c9.2.2.2.2.1 rfl ?_
      refine kz_goto (M := kt_M359) kX13_begins_c9.2.2.2.2.2.1 (t := 192) rfl ?_
      exact kz_weak [] trivial rfl (zt_X13_begins_p192 hL  h)
def zb_X13_declares_p48 (E : zE) (L : Nat) (Q : kx_Rs → wS → Prop) (y0 : Int32) (w : wS) : Prop := ((y0 = 0 ∨ y0 = 1) ∧ Q (.inl (some (.int y0))) w)
theorem zt_X13_declares_p48 {E : zE} {L : Nat} {Q : kx_Rs → wS → Prop} {y0 : Int32} {w : wS} (hL : 20 ≤ L) (h : zb_X13_declares_p48 E L Q y0 w) : kzE E L kt_M386 48 [] [.int y0] w Q := by
  unfold zb_X13_declares_p48 at h
  exact kz_iretz (M := kt_M386) kX13_declares_c3.1 rfl h.1 h.2
def zb_X13_declares_p43 (E : zE) (L : Nat) (Q : kx_Rs → wS → Prop) (w : wS) : Prop := zb_X13_declares_p48 E L Q 1 w
theorem zt_X13_declares_p43 {E : zE} {L : Nat} {Q : kx_Rs → wS → Prop} {w : wS} (hL : 20 ≤ L) (h : zb_X13_declares_p43 E L Q  w) : kzE E L kt_M386 43 [] [] w Q := by
  unfold zb_X13_declares_p43 at h
  refine kz_ic (M := kt_M386) 1 kX13_declares_c2.2.2.2.2.2.1 rfl ?_
  refine kz_goto (M := kt_M386) kX13_declares_c2.2.2.2.2.2.2.1 (t := 48) rfl ?_
  exact kz_weak [] trivial rfl (zt_X13_declares_p48 hL  h)
def zb_X13_declares_p0 (E : zE) (L : Nat) (Q : kx_Rs → wS → Prop) (x0 : Int32) (w : wS) : Prop := zw E (L - 20) kt_M448 [.int x0] w (wk1 (fun v2 w1 => wle w w1 → (if ¬ v2 = 0 then zb_X13_declares_p43 E L Q w1 else (if x0 = 42 then zb_X13_declares_p43 E L Q w1 else (if x0 = 6 then zb_X13_declares_p43 E L Q w1 else (if x0 = 30 then zb_X13_declares_p43 E L Q w1 else (if x0 = 33 then zb_X13_declares_p43 E L Q w1 else (if x0 = 24 then zb_X13_declares_p43 E L Q w1 else (if ¬ x0 = 23 then zb_X13_declares_p48 E L Q 0 w1 else zb_X13_declares_p43 E L Q w1)))))))) (fun e w => Q (.inr e) w))
theorem zt_X13_declares_p0 {E : zE} {L : Nat} {Q : kx_Rs → wS → Prop} {x0 : Int32} {w : wS} (hL : 20 ≤ L) (h : zb_X13_declares_p0 E L Q x0 w) : kzE E L kt_M386 0 [(0, .int x0)] [] w Q := by
  unfold zb_X13_declares_p0 at h
  refine kz_iload_n (M := kt_M386) kX13_declares_c0.1 rfl ?_
  refine kz_cs1 (M := kt_M386) (As := [.int x0]) (rest := []) kX13_declares_c0.2.1 wl_X13_563 wMs_448 rfl (Nat.le_trans (Nat.le_of_ble_eq_true rfl) hL) (Nat.le_of_ble_eq_true rfl) (Nat.le_of_ble_eq_true rfl) h (fun v2 w1 hle h => ?_) (fun _ _ _ h => kzx_no rfl h)
  have h := h hle
  refine kz_if_ne (M := kt_M386) kX13_declares_c0.2.2.1 (t := 43) rfl h (fun h => ?_) (fun h => ?_)
  · skip
    exact kz_weak [] trivial rfl (zt_X13_declares_p43 hL  h)
  · skip
    refine kz_iload_n (M := kt_M386) kX13_declares_c0.2.2.2.1 rfl ?_
    refine kz_bi (M := kt_M386) 42 kX13_declares_c0.2.2.2.2.1 rfl ?_
    refine kz_icmp_eq (M := kt_M386) kX13_declares_c0.2.2.2.2.2.1 (t := 43) rfl h (fun h => ?_) (fun h => ?_)
    · skip
      exact kz_weak [] trivial rfl (zt_X13_declares_p43 hL  h)
    · skip
      refine kz_iload_n (M := kt_M386) kX13_declares_c0.2.2.2.2.2.2.1 rfl ?_
      refine kz_bi (M := kt_M386) 6 kX13_declares_c0.2.2.2.2.2.2.2.1 rfl ?_
      refine kz_icmp_eq (M := kt_M386) kX13_declares_c1.1 (t := 43) rfl h (fun h => ?_) (fun h => ?_)
      · skip
        exact kz_weak [] trivial rfl (zt_X13_declares_p43 hL  h)
      · skip
        refine kz_iload_n (M := kt_M386) kX13_declares_c1.2.1 rfl ?_
        refine kz_bi (M := kt_M386) 30 kX13_declares_c1.2.2.1 rfl ?_
        refine kz_icmp_eq (M := kt_M386) kX13_declares_c1.2.2.2.1 (t := 43) rfl h (fun h => ?_) (fun h => ?_)
        · skip
          exact kz_weak [] trivial rfl (zt_X13_declares_p43 hL  h)
        · skip
          refine kz_iload_n (M := kt_M386) kX13_declares_c1.2.2.2.2.1 rfl ?_
          refine kz_bi (M := kt_M386) 33 kX13_declares_c1.2.2.2.2.2.1 rfl ?_
          refine kz_icmp_eq (M := kt_M386) kX13_declares_c1.2.2.2.2.2.2.1 (t := 43) rfl h (fun h => ?_) (fun h => ?_)
          · skip
            exact kz_weak [] trivial rfl (zt_X13_declares_p43 hL  h)
          · skip
            refine kz_iload_n (M := kt_M386) kX13_declares_c1.2.2.2.2.2.2.2.1 rfl ?_
            refine kz_bi (M := kt_M386) 24 kX13_declares_c2.1 rfl ?_
            refine kz_icmp_eq (M := kt_M386) kX13_declares_c2.2.1 (t := 43) rfl h (fun h => ?_) (fun h => ?_)
            · skip
              exact kz_weak [] trivial rfl (zt_X13_declares_p43 hL  h)
            · skip
              refine kz_iload_n (M := kt_M386) kX13_declares_c2.2.2.1 rfl ?_
              refine kz_bi (M := kt_M386) 23 kX13_declares_c2.2.2.2.1 rfl ?_
              refine kz_icmp_ne (M := kt_M386) kX13_declares_c2.2.2.2.2.1 (t := 47) rfl h (fun h => ?_) (fun h => ?_)
              · skip
                refine kz_ic (M := kt_M386) 0 kX13_declares_c2.2.2.2.2.2.2.2.1 rfl ?_
                exact kz_weak [] trivial rfl (zt_X13_declares_p48 hL  h)
              · skip
                exact kz_weak [] trivial rfl (zt_X13_declares_p43 hL  h)
def zb_X13_isType_p21 (E : zE) (L : Nat) (Q : kx_Rs → wS → Prop) (y0 : Int32) (w : wS) : Prop := ((y0 = 0 ∨ y0 = 1) ∧ Q (.inl (some (.int y0))) w)
theorem zt_X13_isType_p21 {E : zE} {L : Nat} {Q : kx_Rs → wS → Prop} {y0 : Int32} {w : wS} (hL : 19 ≤ L) (h : zb_X13_isType_p21 E L Q y0 w) : kzE E L kt_M448 21 [] [.int y0] w Q := by
  unfold zb_X13_isType_p21 at h
  exact kz_iretz (M := kt_M448) kX13_isType_c1.2.2.2.2.1 rfl h.1 h.2
def zb_X13_isType_p16 (E : zE) (L : Nat) (Q : kx_Rs → wS → Prop) (w : wS) : Prop := zb_X13_isType_p21 E L Q 1 w
theorem zt_X13_isType_p16 {E : zE} {L : Nat} {Q : kx_Rs → wS → Prop} {w : wS} (hL : 19 ≤ L) (h : zb_X13_isType_p16 E L Q  w) : kzE E L kt_M448 16 [] [] w Q := by
  unfold zb_X13_isType_p16 at h
  refine kz_ic (M := kt_M448) 1 kX13_isType_c1.2.1 rfl ?_
  refine kz_goto (M := kt_M448) kX13_isType_c1.2.2.1 (t := 21) rfl ?_
  exact kz_weak [] trivial rfl (zt_X13_isType_p21 hL  h)
def zb_X13_isType_p0 (E : zE) (L : Nat) (Q : kx_Rs → wS → Prop) (x0 : Int32) (w : wS) : Prop := (if x0 = 12 then zb_X13_isType_p16 E L Q w else (if x0 = 4 then zb_X13_isType_p16 E L Q w else (if ¬ x0 = 3 then zb_X13_isType_p21 E L Q 0 w else zb_X13_isType_p16 E L Q w)))
theorem zt_X13_isType_p0 {E : zE} {L : Nat} {Q : kx_Rs → wS → Prop} {x0 : Int32} {w : wS} (hL : 19 ≤ L) (h : zb_X13_isType_p0 E L Q x0 w) : kzE E L kt_M448 0 [(0, .int x0)] [] w Q := by
  unfold zb_X13_isType_p0 at h
  refine kz_iload_n (M := kt_M448) kX13_isType_c0.1 rfl ?_
  refine kz_bi (M := kt_M448) 12 kX13_isType_c0.2.1 rfl ?_
  refine kz_icmp_eq (M := kt_M448) kX13_isType_c0.2.2.1 (t := 16) rfl h (fun h => ?_) (fun h => ?_)
  · skip
    exact kz_weak [] trivial rfl (zt_X13_isType_p16 hL  h)
  · skip
    refine kz_iload_n (M := kt_M448) kX13_isType_c0.2.2.2.1 rfl ?_
    refine kz_ic (M := kt_M448) 4 kX13_isType_c0.2.2.2.2.1 rfl ?_
    refine kz_icmp_eq (M := kt_M448) kX13_isType_c0.2.2.2.2.2.1 (t := 16) rfl h (fun h => ?_) (fun h => ?_)
    · skip
      exact kz_weak [] trivial rfl (zt_X13_isType_p16 hL  h)
    · skip
      refine kz_iload_n (M := kt_M448) kX13_isType_c0.2.2.2.2.2.2.1 rfl ?_
      refine kz_ic (M := kt_M448) 3 kX13_isType_c0.2.2.2.2.2.2.2.1 rfl ?_
      refine kz_icmp_ne (M := kt_M448) kX13_isType_c1.1 (t := 20) rfl h (fun h => ?_) (fun h => ?_)
      · skip
        refine kz_ic (M := kt_M448) 0 kX13_isType_c1.2.2.2.1 rfl ?_
        exact kz_weak [] trivial rfl (zt_X13_isType_p21 hL  h)
      · skip
        exact kz_weak [] trivial rfl (zt_X13_isType_p16 hL  h)
def zb_X13_acts_p63 (E : zE) (L : Nat) (Q : kx_Rs → wS → Prop) (y0 : Int32) (w : wS) : Prop := ((y0 = 0 ∨ y0 = 1) ∧ Q (.inl (some (.int y0))) w)
theorem zt_X13_acts_p63 {E : zE} {L : Nat} {Q : kx_Rs → wS → Prop} {y0 : Int32} {w : wS} (hL : 19 ≤ L) (h : zb_X13_acts_p63 E L Q y0 w) : kzE E L kt_M347 63 [] [.int y0] w Q := by
  unfold zb_X13_acts_p63 at h
  exact kz_iretz (M := kt_M347) kX13_acts_c4.2.1 rfl h.1 h.2
def zb_X13_acts_p58 (E : zE) (L : Nat) (Q : kx_Rs → wS → Prop) (w : wS) : Prop := zb_X13_acts_p63 E L Q 1 w
theorem zt_X13_acts_p58 {E : zE} {L : Nat} {Q : kx_Rs → wS → Prop} {w : wS} (hL : 19 ≤ L) (h : zb_X13_acts_p58 E L Q  w) : kzE E L kt_M347 58 [] [] w Q := by
  unfold zb_X13_acts_p58 at h
  refine kz_ic (M := kt_M347) 1 kX13_acts_c3.2.2.2.2.2.2.1 rfl ?_
  refine kz_goto (M := kt_M347) kX13_acts_c3.2.2.2.2.2.2.2.1 (t := 63) rfl ?_
  exact kz_weak [] trivial rfl (zt_X13_acts_p63 hL  h)
def zb_X13_acts_p0 (E : zE) (L : Nat) (Q : kx_Rs → wS → Prop) (x0 : Int32) (w : wS) : Prop := (if x0 = 28 then zb_X13_acts_p58 E L Q w else (if x0 = 29 then zb_X13_acts_p58 E L Q w else (if x0 = 70 then zb_X13_acts_p58 E L Q w else (if x0 = 26 then zb_X13_acts_p58 E L Q w else (if x0 = 20 then zb_X13_acts_p58 E L Q w else (if x0 = 11 then zb_X13_acts_p58 E L Q w else (if x0 = 5 then zb_X13_acts_p58 E L Q w else (if x0 = 35 then zb_X13_acts_p58 E L Q w else (if x0 = 22 then zb_X13_acts_p58 E L Q w else (if ¬ x0 = 1 then zb_X13_acts_p63 E L Q 0 w else zb_X13_acts_p58 E L Q w))))))))))
theorem zt_X13_acts_p0 {E : zE} {L : Nat} {Q : kx_Rs → wS → Prop} {x0 : Int32} {w : wS} (hL : 19 ≤ L) (h : zb_X13_acts_p0 E L Q x0 w) : kzE E L kt_M347 0 [(0, .int x0)] [] w Q := by
  unfold zb_X13_acts_p0 at h
  refine kz_iload_n (M := kt_M347) kX13_acts_c0.1 rfl ?_
  refine kz_bi (M := kt_M347) 28 kX13_acts_c0.2.1 rfl ?_
  refine kz_icmp_eq (M := kt_M347) kX13_acts_c0.2.2.1 (t := 58) rfl h (fun h => ?_) (fun h => ?_)
  · skip
    exact kz_weak [] trivial rfl (zt_X13_acts_p58 hL  h)
  · skip
    refine kz_iload_n (M := kt_M347) kX13_acts_c0.2.2.2.1 rfl ?_
    refine kz_bi (M := kt_M347) 29 kX13_acts_c0.2.2.2.2.1 rfl ?_
    refine kz_icmp_eq (M := kt_M347) kX13_acts_c0.2.2.2.2.2.1 (t := 58) rfl h (fun h => ?_) (fun h => ?_)
    · skip
      exact kz_weak [] trivial rfl (zt_X13_acts_p58 hL  h)
    · skip
      refine kz_iload_n (M := kt_M347) kX13_acts_c0.2.2.2.2.2.2.1 rfl ?_
      refine kz_bi (M := kt_M347) 70 kX13_acts_c0.2.2.2.2.2.2.2.1 rfl ?_
      refine kz_icmp_eq (M := kt_M347) kX13_acts_c1.1 (t := 58) rfl h (fun h => ?_) (fun h => ?_)
      · skip
        exact kz_weak [] trivial rfl (zt_X13_acts_p58 hL  h)
      · skip
        refine kz_iload_n (M := kt_M347) kX13_acts_c1.2.1 rfl ?_
        refine kz_bi (M := kt_M347) 26 kX13_acts_c1.2.2.1 rfl ?_
        refine kz_icmp_eq (M := kt_M347) kX13_acts_c1.2.2.2.1 (t := 58) rfl h (fun h => ?_) (fun h => ?_)
        · skip
          exact kz_weak [] trivial rfl (zt_X13_acts_p58 hL  h)
        · skip
          refine kz_iload_n (M := kt_M347) kX13_acts_c1.2.2.2.2.1 rfl ?_
          refine kz_bi (M := kt_M347) 20 kX13_acts_c1.2.2.2.2.2.1 rfl ?_
          refine kz_icmp_eq (M := kt_M347) kX13_acts_c1.2.2.2.2.2.2.1 (t := 58) rfl h (fun h => ?_) (fun h => ?_)
          · skip
            exact kz_weak [] trivial rfl (zt_X13_acts_p58 hL  h)
          · skip
            refine kz_iload_n (M := kt_M347) kX13_acts_c1.2.2.2.2.2.2.2.1 rfl ?_
            refine kz_bi (M := kt_M347) 11 kX13_acts_c2.1 rfl ?_
            refine kz_icmp_eq (M := kt_M347) kX13_acts_c2.2.1 (t := 58) rfl h (fun h => ?_) (fun h => ?_)
            · skip
              exact kz_weak [] trivial rfl (zt_X13_acts_p58 hL  h)
            · skip
              refine kz_iload_n (M := kt_M347) kX13_acts_c2.2.2.1 rfl ?_
              refine kz_ic (M := kt_M347) 5 kX13_acts_c2.2.2.2.1 rfl ?_
              refine kz_icmp_eq (M := kt_M347) kX13_acts_c2.2.2.2.2.1 (t := 58) rfl h (fun h => ?_) (fun h => ?_)
              · skip
                exact kz_weak [] trivial rfl (zt_X13_acts_p58 hL  h)
              · skip
                refine kz_iload_n (M := kt_M347) kX13_acts_c2.2.2.2.2.2.1 rfl ?_
                refine kz_bi (M := kt_M347) 35 kX13_acts_c2.2.2.2.2.2.2.1 rfl ?_
                refine kz_icmp_eq (M := kt_M347) kX13_acts_c2.2.2.2.2.2.2.2.1 (t := 58) rfl h (fun h => ?_) (fun h => ?_)
                · skip
                  exact kz_weak [] trivial rfl (zt_X13_acts_p58 hL  h)
                · skip
                  refine kz_iload_n (M := kt_M347) kX13_acts_c3.1 rfl ?_
                  refine kz_bi (M := kt_M347) 22 kX13_acts_c3.2.1 rfl ?_
                  refine kz_icmp_eq (M := kt_M347) kX13_acts_c3.2.2.1 (t := 58) rfl h (fun h => ?_) (fun h => ?_)
                  · skip
                    exact kz_weak [] trivial rfl (zt_X13_acts_p58 hL  h)
                  · skip
                    refine kz_iload_n (M := kt_M347) kX13_acts_c3.2.2.2.1 rfl ?_
                    refine kz_ic (M := kt_M347) 1 kX13_acts_c3.2.2.2.2.1 rfl ?_
                    refine kz_icmp_ne (M := kt_M347) kX13_acts_c3.2.2.2.2.2.1 (t := 62) rfl h (fun h => ?_) (fun h => ?_)
                    · skip
                      refine kz_ic (M := kt_M347) 0 kX13_acts_c4.1 rfl ?_
                      exact kz_weak [] trivial rfl (zt_X13_acts_p63 hL  h)
                    · skip
                      exact kz_weak [] trivial rfl (zt_X13_acts_p58 hL  h)
def zb_X13_expression_p42 (E : zE) (L : Nat) (Q : kx_Rs → wS → Prop) (y0 : Int32) (w : wS) : Prop := ((y0 = 0 ∨ y0 = 1) ∧ Q (.inl (some (.int y0))) w)
theorem zt_X13_expression_p42 {E : zE} {L : Nat} {Q : kx_Rs → wS → Prop} {y0 : Int32} {w : wS} (hL : 20 ≤ L) (h : zb_X13_expression_p42 E L Q y0 w) : kzE E L kt_M407 42 [] [.int y0] w Q := by
  unfold zb_X13_expression_p42 at h
  exact kz_iretz (M := kt_M407) kX13_expression_c2.2.2.2.2.2.1 rfl h.1 h.2
def zb_X13_expression_p37 (E : zE) (L : Nat) (Q : kx_Rs → wS → Prop) (w : wS) : Prop := zb_X13_expression_p42 E L Q 1 w
theorem zt_X13_expression_p37 {E : zE} {L : Nat} {Q : kx_Rs → wS → Prop} {w : wS} (hL : 20 ≤ L) (h : zb_X13_expression_p37 E L Q  w) : kzE E L kt_M407 37 [] [] w Q := by
  unfold zb_X13_expression_p37 at h
  refine kz_ic (M := kt_M407) 1 kX13_expression_c2.2.2.1 rfl ?_
  refine kz_goto (M := kt_M407) kX13_expression_c2.2.2.2.1 (t := 42) rfl ?_
  exact kz_weak [] trivial rfl (zt_X13_expression_p42 hL  h)
def zb_X13_expression_p0 (E : zE) (L : Nat) (Q : kx_Rs → wS → Prop) (x0 : Int32) (w : wS) : Prop := zw E (L - 20) kt_M499 [.int x0] w (wk1 (fun v2 w1 => wle w w1 → (if ¬ v2 = 0 then zb_X13_expression_p37 E L Q w1 else (if x0 = 58 then zb_X13_expression_p37 E L Q w1 else (if x0 = 67 then zb_X13_expression_p37 E L Q w1 else (if x0 = 17 then zb_X13_expression_p37 E L Q w1 else (if x0 = 14 then zb_X13_expression_p37 E L Q w1 else (if ¬ x0 = 27 then zb_X13_expression_p42 E L Q 0 w1 else zb_X13_expression_p37 E L Q w1))))))) (fun e w => Q (.inr e) w))
theorem zt_X13_expression_p0 {E : zE} {L : Nat} {Q : kx_Rs → wS → Prop} {x0 : Int32} {w : wS} (hL : 20 ≤ L) (h : zb_X13_expression_p0 E L Q x0 w) : kzE E L kt_M407 0 [(0, .int x0)] [] w Q := by
  unfold zb_X13_expression_p0 at h
  refine kz_iload_n (M := kt_M407) kX13_expression_c0.1 rfl ?_
  refine kz_cs1 (M := kt_M407) (As := [.int x0]) (rest := []) kX13_expression_c0.2.1 wl_X13_566 wMs_499 rfl (Nat.le_trans (Nat.le_of_ble_eq_true rfl) hL) (Nat.le_of_ble_eq_true rfl) (Nat.le_of_ble_eq_true rfl) h (fun v2 w1 hle h => ?_) (fun _ _ _ h => kzx_no rfl h)
  have h := h hle
  refine kz_if_ne (M := kt_M407) kX13_expression_c0.2.2.1 (t := 37) rfl h (fun h => ?_) (fun h => ?_)
  · skip
    exact kz_weak [] trivial rfl (zt_X13_expression_p37 hL  h)
  · skip
    refine kz_iload_n (M := kt_M407) kX13_expression_c0.2.2.2.1 rfl ?_
    refine kz_bi (M := kt_M407) 58 kX13_expression_c0.2.2.2.2.1 rfl ?_
    refine kz_icmp_eq (M := kt_M407) kX13_expression_c0.2.2.2.2.2.1 (t := 37) rfl h (fun h => ?_) (fun h => ?_)
    · skip
      exact kz_weak [] trivial rfl (zt_X13_expression_p37 hL  h)
    · skip
      refine kz_iload_n (M := kt_M407) kX13_expression_c0.2.2.2.2.2.2.1 rfl ?_
      refine kz_bi (M := kt_M407) 67 kX13_expression_c0.2.2.2.2.2.2.2.1 rfl ?_
      refine kz_icmp_eq (M := kt_M407) kX13_expression_c1.1 (t := 37) rfl h (fun h => ?_) (fun h => ?_)
      · skip
        exact kz_weak [] trivial rfl (zt_X13_expression_p37 hL  h)
      · skip
        refine kz_iload_n (M := kt_M407) kX13_expression_c1.2.1 rfl ?_
        refine kz_bi (M := kt_M407) 17 kX13_expression_c1.2.2.1 rfl ?_
        refine kz_icmp_eq (M := kt_M407) kX13_expression_c1.2.2.2.1 (t := 37) rfl h (fun h => ?_) (fun h => ?_)
        · skip
          exact kz_weak [] trivial rfl (zt_X13_expression_p37 hL  h)
        · skip
          refine kz_iload_n (M := kt_M407) kX13_expression_c1.2.2.2.2.1 rfl ?_
          refine kz_bi (M := kt_M407) 14 kX13_expression_c1.2.2.2.2.2.1 rfl ?_
          refine kz_icmp_eq (M := kt_M407) kX13_expression_c1.2.2.2.2.2.2.1 (t := 37) rfl h (fun h => ?_) (fun h => ?_)
          · skip
            exact kz_weak [] trivial rfl (zt_X13_expression_p37 hL  h)
          · skip
            refine kz_iload_n (M := kt_M407) kX13_expression_c1.2.2.2.2.2.2.2.1 rfl ?_
            refine kz_bi (M := kt_M407) 27 kX13_expression_c2.1 rfl ?_
            refine kz_icmp_ne (M := kt_M407) kX13_expression_c2.2.1 (t := 41) rfl h (fun h => ?_) (fun h => ?_)
            · skip
              refine kz_ic (M := kt_M407) 0 kX13_expression_c2.2.2.2.2.1 rfl ?_
              exact kz_weak [] trivial rfl (zt_X13_expression_p42 hL  h)
            · skip
              exact kz_weak [] trivial rfl (zt_X13_expression_p37 hL  h)
def zb_X13_operand_p72 (E : zE) (L : Nat) (Q : kx_Rs → wS → Prop) (y0 : Int32) (w : wS) : Prop := ((y0 = 0 ∨ y0 = 1) ∧ Q (.inl (some (.int y0))) w)
theorem zt_X13_operand_p72 {E : zE} {L : Nat} {Q : kx_Rs → wS → Prop} {y0 : Int32} {w : wS} (hL : 20 ≤ L) (h : zb_X13_operand_p72 E L Q y0 w) : kzE E L kt_M499 72 [] [.int y0] w Q := by
  unfold zb_X13_operand_p72 at h
  exact kz_iretz (M := kt_M499) kX13_operand_c4.2.2.2.2.1 rfl h.1 h.2
def zb_X13_operand_p67 (E : zE) (L : Nat) (Q : kx_Rs → wS → Prop) (w : wS) : Prop := zb_X13_operand_p72 E L Q 1 w
theorem zt_X13_operand_p67 {E : zE} {L : Nat} {Q : kx_Rs → wS → Prop} {w : wS} (hL : 20 ≤ L) (h : zb_X13_operand_p67 E L Q  w) : kzE E L kt_M499 67 [] [] w Q := by
  unfold zb_X13_operand_p67 at h
  refine kz_ic (M := kt_M499) 1 kX13_operand_c4.2.1 rfl ?_
  refine kz_goto (M := kt_M499) kX13_operand_c4.2.2.1 (t := 72) rfl ?_
  exact kz_weak [] trivial rfl (zt_X13_operand_p72 hL  h)
def zb_X13_operand_p0 (E : zE) (L : Nat) (Q : kx_Rs → wS → Prop) (x0 : Int32) (w : wS) : Prop := (if x0 = 71 then zb_X13_operand_p67 E L Q w else (if x0 = 72 then zb_X13_operand_p67 E L Q w else (if x0 = 73 then zb_X13_operand_p67 E L Q w else (if x0 = 32 then zb_X13_operand_p67 E L Q w else (if x0 = 8 then zb_X13_operand_p67 E L Q w else (if x0 = 16 then zb_X13_operand_p67 E L Q w else (if x0 = 15 then zb_X13_operand_p67 E L Q w else zw E (L - 20) kt_M448 [.int x0] w (wk1 (fun v2 w1 => wle w w1 → (if ¬ v2 = 0 then zb_X13_operand_p67 E L Q w1 else (if x0 = 40 then zb_X13_operand_p67 E L Q w1 else (if x0 = 42 then zb_X13_operand_p67 E L Q w1 else (if ¬ x0 = 70 then zb_X13_operand_p72 E L Q 0 w1 else zb_X13_operand_p67 E L Q w1))))) (fun e w => Q (.inr e) w)))))))))
theorem zt_X13_operand_p0 {E : zE} {L : Nat} {Q : kx_Rs → wS → Prop} {x0 : Int32} {w : wS} (hL : 20 ≤ L) (h : zb_X13_operand_p0 E L Q x0 w) : kzE E L kt_M499 0 [(0, .int x0)] [] w Q := by
  unfold zb_X13_operand_p0 at h
  refine kz_iload_n (M := kt_M499) kX13_operand_c0.1 rfl ?_
  refine kz_bi (M := kt_M499) 71 kX13_operand_c0.2.1 rfl ?_
  refine kz_icmp_eq (M := kt_M499) kX13_operand_c0.2.2.1 (t := 67) rfl h (fun h => ?_) (fun h => ?_)
  · skip
    exact kz_weak [] trivial rfl (zt_X13_operand_p67 hL  h)
  · skip
    refine kz_iload_n (M := kt_M499) kX13_operand_c0.2.2.2.1 rfl ?_
    refine kz_bi (M := kt_M499) 72 kX13_operand_c0.2.2.2.2.1 rfl ?_
    refine kz_icmp_eq (M := kt_M499) kX13_operand_c0.2.2.2.2.2.1 (t := 67) rfl h (fun h => ?_) (fun h => ?_)
    · skip
      exact kz_weak [] trivial rfl (zt_X13_operand_p67 hL  h)
    · skip
      refine kz_iload_n (M := kt_M499) kX13_operand_c0.2.2.2.2.2.2.1 rfl ?_
      refine kz_bi (M := kt_M499) 73 kX13_operand_c0.2.2.2.2.2.2.2.1 rfl ?_
      refine kz_icmp_eq (M := kt_M499) kX13_operand_c1.1 (t := 67) rfl h (fun h => ?_) (fun h => ?_)
      · skip
        exact kz_weak [] trivial rfl (zt_X13_operand_p67 hL  h)
      · skip
        refine kz_iload_n (M := kt_M499) kX13_operand_c1.2.1 rfl ?_
        refine kz_bi (M := kt_M499) 32 kX13_operand_c1.2.2.1 rfl ?_
        refine kz_icmp_eq (M := kt_M499) kX13_operand_c1.2.2.2.1 (t := 67) rfl h (fun h => ?_) (fun h => ?_)
        · skip
          exact kz_weak [] trivial rfl (zt_X13_operand_p67 hL  h)
        · skip
          refine kz_iload_n (M := kt_M499) kX13_operand_c1.2.2.2.2.1 rfl ?_
          refine kz_bi (M := kt_M499) 8 kX13_operand_c1.2.2.2.2.2.1 rfl ?_
          refine kz_icmp_eq (M := kt_M499) kX13_operand_c1.2.2.2.2.2.2.1 (t := 67) rfl h (fun h => ?_) (fun h => ?_)
          · skip
            exact kz_weak [] trivial rfl (zt_X13_operand_p67 hL  h)
          · skip
            refine kz_iload_n (M := kt_M499) kX13_operand_c1.2.2.2.2.2.2.2.1 rfl ?_
            refine kz_bi (M := kt_M499) 16 kX13_operand_c2.1 rfl ?_
            refine kz_icmp_eq (M := kt_M499) kX13_operand_c2.2.1 (t := 67) rfl h (fun h => ?_) (fun h => ?_)
            · skip
              exact kz_weak [] trivial rfl (zt_X13_operand_p67 hL  h)
            · skip
              refine kz_iload_n (M := kt_M499) kX13_operand_c2.2.2.1 rfl ?_
              refine kz_bi (M := kt_M499) 15 kX13_operand_c2.2.2.2.1 rfl ?_
              refine kz_icmp_eq (M := kt_M499) kX13_operand_c2.2.2.2.2.1 (t := 67) rfl h (fun h => ?_) (fun h => ?_)
              · skip
                exact kz_weak [] trivial rfl (zt_X13_operand_p67 hL  h)
              · skip
                refine kz_iload_n (M := kt_M499) kX13_operand_c2.2.2.2.2.2.1 rfl ?_
                refine kz_cs1 (M := kt_M499) (As := [.int x0]) (rest := []) kX13_operand_c2.2.2.2.2.2.2.1 wl_X13_563 wMs_448 rfl (Nat.le_trans (Nat.le_of_ble_eq_true rfl) hL) (Nat.le_of_ble_eq_true rfl) (Nat.le_of_ble_eq_true rfl) h (fun v2 w1 hle h => ?_) (fun _ _ _ h => kzx_no rfl h)
                have h := h hle
                refine kz_if_ne (M := kt_M499) kX13_operand_c2.2.2.2.2.2.2.2.1 (t := 67) rfl h (fun h => ?_) (fun h => ?_)
                · skip
                  exact kz_weak [] trivial rfl (zt_X13_operand_p67 hL  h)
                · skip
                  refine kz_iload_n (M := kt_M499) kX13_operand_c3.1 rfl ?_
                  refine kz_bi (M := kt_M499) 40 kX13_operand_c3.2.1 rfl ?_
                  refine kz_icmp_eq (M := kt_M499) kX13_operand_c3.2.2.1 (t := 67) rfl h (fun h => ?_) (fun h => ?_)
                  · skip
                    exact kz_weak [] trivial rfl (zt_X13_operand_p67 hL  h)
                  · skip
                    refine kz_iload_n (M := kt_M499) kX13_operand_c3.2.2.2.1 rfl ?_
                    refine kz_bi (M := kt_M499) 42 kX13_operand_c3.2.2.2.2.1 rfl ?_
                    refine kz_icmp_eq (M := kt_M499) kX13_operand_c3.2.2.2.2.2.1 (t := 67) rfl h (fun h => ?_) (fun h => ?_)
                    · skip
                      exact kz_weak [] trivial rfl (zt_X13_operand_p67 hL  h)
                    · skip
                      refine kz_iload_n (M := kt_M499) kX13_operand_c3.2.2.2.2.2.2.1 rfl ?_
                      refine kz_bi (M := kt_M499) 70 kX13_operand_c3.2.2.2.2.2.2.2.1 rfl ?_
                      refine kz_icmp_ne (M := kt_M499) kX13_operand_c4.1 (t := 71) rfl h (fun h => ?_) (fun h => ?_)
                      · skip
                        refine kz_ic (M := kt_M499) 0 kX13_operand_c4.2.2.2.1 rfl ?_
                        exact kz_weak [] trivial rfl (zt_X13_operand_p72 hL  h)
                      · skip
                        exact kz_weak [] trivial rfl (zt_X13_operand_p67 hL  h)
def zb_X13_stop_p30 (E : zE) (L : Nat) (Q : kx_Rs → wS → Prop) (y0 : Int32) (w : wS) : Prop := (kx_inb (w_i w 12 0 35) (w_n w 12 0 9) = true ∧ Q (.inl (some (va_rf (some (w_adr E.2.1 13 0))))) (ws_i (ws_i w 12 0 36 y0) 12 0 37 (w_a w 12 0 9 (w_i w 12 0 35).toNatClampNeg)))
theorem zt_X13_stop_p30 {E : zE} {L : Nat} {Q : kx_Rs → wS → Prop} {y0 : Int32} {w : wS} (hL : 19 ≤ L) (h : zb_X13_stop_p30 E L Q y0 w) : kzE E L kt_M545 30 [(0, .ref (w_adr E.2.1 12 0))] [.int y0, .ref (w_adr E.2.1 12 0)] w Q := by
  unfold zb_X13_stop_p30 at h
  refine kz_pfi (M := kt_M545) (c := 12) (o := 0) kX13_stop_c2.2.1 wq_X13_550 (.inl rfl) ?_
  refine kz_aload_n (M := kt_M545) kX13_stop_c2.2.2.1 rfl ?_
  refine kz_aload_n (M := kt_M545) kX13_stop_c2.2.2.2.1 rfl ?_
  refine kz_gfc (M := kt_M545) (x := 4081) (c := 12) (o := 0) kX13_stop_c2.2.2.2.2.1 wf_X13_163 (.inl rfl) ?_
  refine kz_aload_n (M := kt_M545) kX13_stop_c2.2.2.2.2.2.1 rfl ?_
  refine kz_gfiR (M := kt_M545) (c := 12) (o := 0) (w_i w 12 0 35) kX13_stop_c2.2.2.2.2.2.2.1 wf_X13_547 (.inl rfl) (rd_i_i rfl) ?_
  refine kz_ialdR (M := kt_M545) (n := w_n w 12 0 9) (c := 12) (o := 0) (k := 9) (a := (E.2.1 4081)) (w_a w 12 0 9 (w_i w 12 0 35).toNatClampNeg) kX13_stop_c2.2.2.2.2.2.2.2.1 ow_12_0_9 oa_12_0_9 ot_0 rd_n_i rd_a_i h (fun h => ?_)
  refine kz_pfi (M := kt_M545) (c := 12) (o := 0) kX13_stop_c3.1 wq_X13_553 (.inl rfl) ?_
  refine kz_aload_n (M := kt_M545) kX13_stop_c3.2.1 rfl ?_
  refine kz_gfc (M := kt_M545) (x := 52) (c := 12) (o := 0) kX13_stop_c3.2.2.1 wf_X13_10 (.inl rfl) ?_
  exact kz_areto (x := some (w_adr E.2.1 13 0)) (M := kt_M545) kX13_stop_c3.2.2.2.1 rfl h
def zb_X13_stop_p19 (E : zE) (L : Nat) (Q : kx_Rs → wS → Prop) (x1 : Int32) (y0 : Int32) (w : wS) : Prop := (if y0 = 0 then zb_X13_stop_p30 E L Q x1 w else zb_X13_stop_p30 E L Q 1 w)
theorem zt_X13_stop_p19 {E : zE} {L : Nat} {Q : kx_Rs → wS → Prop} {x1 : Int32} {y0 : Int32} {w : wS} (hL : 19 ≤ L) (h : zb_X13_stop_p19 E L Q x1 y0 w) : kzE E L kt_M545 19 [(0, .ref (w_adr E.2.1 12 0)), (1, .int x1)] [.int y0] w Q := by
  unfold zb_X13_stop_p19 at h
  refine kz_sti_n (M := kt_M545) [(0, .ref (w_adr E.2.1 12 0)), (1, .int x1)] kX13_stop_c1.2.2.1 (Nat.le_of_ble_eq_true rfl) ⟨⟨rfl, rfl, .inl rfl⟩, ⟨⟨rfl, rfl, .inr rfl⟩, trivial⟩⟩ rfl ?_
  refine kz_aload_n (M := kt_M545) kX13_stop_c1.2.2.2.1 rfl ?_
  refine kz_iload_n (M := kt_M545) kX13_stop_c1.2.2.2.2.1 rfl ?_
  refine kz_if_eq (M := kt_M545) kX13_stop_c1.2.2.2.2.2.1 (t := 29) rfl h (fun h => ?_) (fun h => ?_)
  · skip
    refine kz_iload_n (M := kt_M545) kX13_stop_c2.1 rfl ?_
    exact kz_weak [(0, .ref (w_adr E.2.1 12 0))] ⟨rfl, trivial⟩ rfl (zt_X13_stop_p30 hL  h)
  · skip
    refine kz_ic (M := kt_M545) 1 kX13_stop_c1.2.2.2.2.2.2.1 rfl ?_
    refine kz_goto (M := kt_M545) kX13_stop_c1.2.2.2.2.2.2.2.1 (t := 30) rfl ?_
    exact kz_weak [(0, .ref (w_adr E.2.1 12 0))] ⟨rfl, trivial⟩ rfl (zt_X13_stop_p30 hL  h)
def zb_X13_stop_p0 (E : zE) (L : Nat) (Q : kx_Rs → wS → Prop) (x1 : Int32) (w : wS) : Prop := (kx_inb (w_i w 12 0 35) (w_n w 12 0 7) = true ∧ (if ¬ w_a w 12 0 7 (w_i w 12 0 35).toNatClampNeg = 76 then zb_X13_stop_p19 E L Q x1 0 w else zb_X13_stop_p19 E L Q x1 1 w))
theorem zt_X13_stop_p0 {E : zE} {L : Nat} {Q : kx_Rs → wS → Prop} {x1 : Int32} {w : wS} (hL : 19 ≤ L) (h : zb_X13_stop_p0 E L Q x1 w) : kzE E L kt_M545 0 [(0, .ref (w_adr E.2.1 12 0)), (1, .int x1)] [] w Q := by
  unfold zb_X13_stop_p0 at h
  refine kz_aload_n (M := kt_M545) kX13_stop_c0.1 rfl ?_
  refine kz_gfc (M := kt_M545) (x := 4079) (c := 12) (o := 0) kX13_stop_c0.2.1 wf_X13_157 (.inl rfl) ?_
  refine kz_aload_n (M := kt_M545) kX13_stop_c0.2.2.1 rfl ?_
  refine kz_gfi (M := kt_M545) (c := 12) (o := 0) kX13_stop_c0.2.2.2.1 wf_X13_547 (.inl rfl) ?_
  refine kz_iald (M := kt_M545) (c := 12) (o := 0) (k := 7) (a := (E.2.1 4079)) kX13_stop_c0.2.2.2.2.1 ow_12_0_7 oa_12_0_7 ot_0 h (fun h => ?_)
  refine kz_bi (M := kt_M545) 76 kX13_stop_c0.2.2.2.2.2.1 rfl ?_
  refine kz_icmp_ne (M := kt_M545) kX13_stop_c0.2.2.2.2.2.2.1 (t := 18) rfl h (fun h => ?_) (fun h => ?_)
  · skip
    refine kz_ic (M := kt_M545) 0 kX13_stop_c1.2.1 rfl ?_
    exact kz_weak [(0, .ref (w_adr E.2.1 12 0)), (1, .int x1)] ⟨rfl, ⟨rfl, trivial⟩⟩ rfl (zt_X13_stop_p19 hL  h)
  · skip
    refine kz_ic (M := kt_M545) 1 kX13_stop_c0.2.2.2.2.2.2.2.1 rfl ?_
    refine kz_goto (M := kt_M545) kX13_stop_c1.1 (t := 19) rfl ?_
    exact kz_weak [(0, .ref (w_adr E.2.1 12 0)), (1, .int x1)] ⟨rfl, ⟨rfl, trivial⟩⟩ rfl (zt_X13_stop_p19 hL  h)
def zb_X13_node_p0 (E : zE) (L : Nat) (Q : kx_Rs → wS → Prop) (x1 : Int32) (x2 : Int32) (w : wS) : Prop := (kx_inb (w_i w 12 0 25) (w_n w 12 0 26) = true ∧ (kx_inb (w_i w 12 0 25) (w_n w 12 0 27) = true ∧ (kx_inb (w_i w 12 0 25) (w_n w 12 0 28) = true ∧ (kx_inb (w_i w 12 0 25) (w_n w 12 0 29) = true ∧ (kx_inb (w_i w 12 0 25) (w_n w 12 0 30) = true ∧ (kx_inb (w_i w 12 0 25) (w_n w 12 0 31) = true ∧ (kx_inb (w_i w 12 0 25) (w_n w 12 0 32) = true ∧ (kx_inb (w_i w 12 0 25) (w_n w 12 0 33) = true ∧ (kx_inb (w_i w 12 0 25) (w_n w 12 0 34) = true ∧ (kx_inb (w_i w 12 0 25) (w_n w 12 0 96) = true ∧ Q (.inl (some (.int (((w_i w 12 0 25) + 1) - 1)))) (ws_i (ws_a (ws_a (ws_a (ws_a (ws_a (ws_a (ws_a (ws_a (ws_a (ws_a w 12 0 26 (w_i w 12 0 25).toNatClampNeg x1) 12 0 27 (w_i w 12 0 25).toNatClampNeg x2) 12 0 28 (w_i w 12 0 25).toNatClampNeg (-1)) 12 0 29 (w_i w 12 0 25).toNatClampNeg (-1)) 12 0 30 (w_i w 12 0 25).toNatClampNeg (-1)) 12 0 31 (w_i w 12 0 25).toNatClampNeg (-1)) 12 0 32 (w_i w 12 0 25).toNatClampNeg (-1)) 12 0 33 (w_i w 12 0 25).toNatClampNeg (-1)) 12 0 34 (w_i w 12 0 25).toNatClampNeg 0) 12 0 96 (w_i w 12 0 25).toNatClampNeg 0) 12 0 25 ((w_i w 12 0 25) + 1))))))))))))
theorem zt_X13_node_p0 {E : zE} {L : Nat} {Q : kx_Rs → wS → Prop} {x1 : Int32} {x2 : Int32} {w : wS} (hL : 19 ≤ L) (h : zb_X13_node_p0 E L Q x1 x2 w) : kzE E L kt_M494 0 [(0, .ref (w_adr E.2.1 12 0)), (1, .int x1), (2, .int x2)] [] w Q := by
  unfold zb_X13_node_p0 at h
  refine kz_aload_n (M := kt_M494) kX13_node_c0.1 rfl ?_
  refine kz_gfc (M := kt_M494) (x := 4098) (c := 12) (o := 0) kX13_node_c0.2.1 wf_X13_187 (.inl rfl) ?_
  refine kz_aload_n (M := kt_M494) kX13_node_c0.2.2.1 rfl ?_
  refine kz_gfi (M := kt_M494) (c := 12) (o := 0) kX13_node_c0.2.2.2.1 wf_X13_544 (.inl rfl) ?_
  refine kz_iload_n (M := kt_M494) kX13_node_c0.2.2.2.2.1 rfl ?_
  refine kz_iast (M := kt_M494) (c := 12) (o := 0) (k := 26) (a := (E.2.1 4098)) kX13_node_c0.2.2.2.2.2.1 ow_12_0_26 oa_12_0_26 ot_0 h (fun h => ?_)
  refine kz_aload_n (M := kt_M494) kX13_node_c0.2.2.2.2.2.2.1 rfl ?_
  refine kz_gfc (M := kt_M494) (x := 4099) (c := 12) (o := 0) kX13_node_c0.2.2.2.2.2.2.2.1 wf_X13_190 (.inl rfl) ?_
  refine kz_aload_n (M := kt_M494) kX13_node_c1.1 rfl ?_
  refine kz_gfiR (M := kt_M494) (c := 12) (o := 0) (w_i w 12 0 25) kX13_node_c1.2.1 wf_X13_544 (.inl rfl) rd_i_a ?_
  refine kz_iload_n (M := kt_M494) kX13_node_c1.2.2.1 rfl ?_
  refine kz_iastR (M := kt_M494) (n := w_n w 12 0 27) (c := 12) (o := 0) (k := 27) (a := (E.2.1 4099)) kX13_node_c1.2.2.2.1 ow_12_0_27 oa_12_0_27 ot_0 rd_n_a h (fun h => ?_)
  refine kz_aload_n (M := kt_M494) kX13_node_c1.2.2.2.2.1 rfl ?_
  refine kz_gfc (M := kt_M494) (x := 4100) (c := 12) (o := 0) kX13_node_c1.2.2.2.2.2.1 wf_X13_193 (.inl rfl) ?_
  refine kz_aload_n (M := kt_M494) kX13_node_c1.2.2.2.2.2.2.1 rfl ?_
  refine kz_gfiR (M := kt_M494) (c := 12) (o := 0) (w_i w 12 0 25) kX13_node_c1.2.2.2.2.2.2.2.1 wf_X13_544 (.inl rfl) (rd_i_a.trans rd_i_a) ?_
  refine kz_ic (M := kt_M494) (-1) kX13_node_c2.1 rfl ?_
  refine kz_iastR (M := kt_M494) (n := w_n w 12 0 28) (c := 12) (o := 0) (k := 28) (a := (E.2.1 4100)) kX13_node_c2.2.1 ow_12_0_28 oa_12_0_28 ot_0 (rd_n_a.trans rd_n_a) h (fun h => ?_)
  refine kz_aload_n (M := kt_M494) kX13_node_c2.2.2.1 rfl ?_
  refine kz_gfc (M := kt_M494) (x := 4101) (c := 12) (o := 0) kX13_node_c2.2.2.2.1 wf_X13_196 (.inl rfl) ?_
  refine kz_aload_n (M := kt_M494) kX13_node_c2.2.2.2.2.1 rfl ?_
  refine kz_gfiR (M := kt_M494) (c := 12) (o := 0) (w_i w 12 0 25) kX13_node_c2.2.2.2.2.2.1 wf_X13_544 (.inl rfl) (rd_i_a.trans (rd_i_a.trans rd_i_a)) ?_
  refine kz_ic (M := kt_M494) (-1) kX13_node_c2.2.2.2.2.2.2.1 rfl ?_
  refine kz_iastR (M := kt_M494) (n := w_n w 12 0 29) (c := 12) (o := 0) (k := 29) (a := (E.2.1 4101)) kX13_node_c2.2.2.2.2.2.2.2.1 ow_12_0_29 oa_12_0_29 ot_0 (rd_n_a.trans (rd_n_a.trans rd_n_a)) h (fun h => ?_)
  refine kz_aload_n (M := kt_M494) kX13_node_c3.1 rfl ?_
  refine kz_gfc (M := kt_M494) (x := 4102) (c := 12) (o := 0) kX13_node_c3.2.1 wf_X13_199 (.inl rfl) ?_
  refine kz_aload_n (M := kt_M494) kX13_node_c3.2.2.1 rfl ?_
  refine kz_gfiR (M := kt_M494) (c := 12) (o := 0) (w_i w 12 0 25) kX13_node_c3.2.2.2.1 wf_X13_544 (.inl rfl) (rd_i_a.trans (rd_i_a.trans (rd_i_a.trans rd_i_a))) ?_
  refine kz_ic (M := kt_M494) (-1) kX13_node_c3.2.2.2.2.1 rfl ?_
  refine kz_iastR (M := kt_M494) (n := w_n w 12 0 30) (c := 12) (o := 0) (k := 30) (a := (E.2.1 4102)) kX13_node_c3.2.2.2.2.2.1 ow_12_0_30 oa_12_0_30 ot_0 (rd_n_a.trans (rd_n_a.trans (rd_n_a.trans rd_n_a))) h (fun h => ?_)
  refine kz_aload_n (M := kt_M494) kX13_node_c3.2.2.2.2.2.2.1 rfl ?_
  refine kz_gfc (M := kt_M494) (x := 4103) (c := 12) (o := 0) kX13_node_c3.2.2.2.2.2.2.2.1 wf_X13_202 (.inl rfl) ?_
  refine kz_aload_n (M := kt_M494) kX13_node_c4.1 rfl ?_
  refine kz_gfiR (M := kt_M494) (c := 12) (o := 0) (w_i w 12 0 25) kX13_node_c4.2.1 wf_X13_544 (.inl rfl) (rd_i_a.trans (rd_i_a.trans (rd_i_a.trans (rd_i_a.trans rd_i_a)))) ?_
  refine kz_ic (M := kt_M494) (-1) kX13_node_c4.2.2.1 rfl ?_
  refine kz_iastR (M := kt_M494) (n := w_n w 12 0 31) (c := 12) (o := 0) (k := 31) (a := (E.2.1 4103)) kX13_node_c4.2.2.2.1 ow_12_0_31 oa_12_0_31 ot_0 (rd_n_a.trans (rd_n_a.trans (rd_n_a.trans (rd_n_a.trans rd_n_a)))) h (fun h => ?_)
  refine kz_aload_n (M := kt_M494) kX13_node_c4.2.2.2.2.1 rfl ?_
  refine kz_gfc (M := kt_M494) (x := 4104) (c := 12) (o := 0) kX13_node_c4.2.2.2.2.2.1 wf_X13_205 (.inl rfl) ?_
  refine kz_aload_n (M := kt_M494) kX13_node_c4.2.2.2.2.2.2.1 rfl ?_
  refine kz_gfiR (M := kt_M494) (c := 12) (o := 0) (w_i w 12 0 25) kX13_node_c4.2.2.2.2.2.2.2.1 wf_X13_544 (.inl rfl) (rd_i_a.trans (rd_i_a.trans (rd_i_a.trans (rd_i_a.trans (rd_i_a.trans rd_i_a))))) ?_
  refine kz_ic (M := kt_M494) (-1) kX13_node_c5.1 rfl ?_
  refine kz_iastR (M := kt_M494) (n := w_n w 12 0 32) (c := 12) (o := 0) (k := 32) (a := (E.2.1 4104)) kX13_node_c5.2.1 ow_12_0_32 oa_12_0_32 ot_0 (rd_n_a.trans (rd_n_a.trans (rd_n_a.trans (rd_n_a.trans (rd_n_a.trans rd_n_a))))) h (fun h => ?_)
  refine kz_aload_n (M := kt_M494) kX13_node_c5.2.2.1 rfl ?_
  refine kz_gfc (M := kt_M494) (x := 4105) (c := 12) (o := 0) kX13_node_c5.2.2.2.1 wf_X13_208 (.inl rfl) ?_
  refine kz_aload_n (M := kt_M494) kX13_node_c5.2.2.2.2.1 rfl ?_
  refine kz_gfiR (M := kt_M494) (c := 12) (o := 0) (w_i w 12 0 25) kX13_node_c5.2.2.2.2.2.1 wf_X13_544 (.inl rfl) (rd_i_a.trans (rd_i_a.trans (rd_i_a.trans (rd_i_a.trans (rd_i_a.trans (rd_i_a.trans rd_i_a)))))) ?_
  refine kz_ic (M := kt_M494) (-1) kX13_node_c5.2.2.2.2.2.2.1 rfl ?_
  refine kz_iastR (M := kt_M494) (n := w_n w 12 0 33) (c := 12) (o := 0) (k := 33) (a := (E.2.1 4105)) kX13_node_c5.2.2.2.2.2.2.2.1 ow_12_0_33 oa_12_0_33 ot_0 (rd_n_a.trans (rd_n_a.trans (rd_n_a.trans (rd_n_a.trans (rd_n_a.trans (rd_n_a.trans rd_n_a)))))) h (fun h => ?_)
  refine kz_aload_n (M := kt_M494) kX13_node_c6.1 rfl ?_
  refine kz_gfc (M := kt_M494) (x := 4106) (c := 12) (o := 0) kX13_node_c6.2.1 wf_X13_211 (.inl rfl) ?_
  refine kz_aload_n (M := kt_M494) kX13_node_c6.2.2.1 rfl ?_
  refine kz_gfiR (M := kt_M494) (c := 12) (o := 0) (w_i w 12 0 25) kX13_node_c6.2.2.2.1 wf_X13_544 (.inl rfl) (rd_i_a.trans (rd_i_a.trans (rd_i_a.trans (rd_i_a.trans (rd_i_a.trans (rd_i_a.trans (rd_i_a.trans rd_i_a))))))) ?_
  refine kz_ic (M := kt_M494) 0 kX13_node_c6.2.2.2.2.1 rfl ?_
  refine kz_iastR (M := kt_M494) (n := w_n w 12 0 34) (c := 12) (o := 0) (k := 34) (a := (E.2.1 4106)) kX13_node_c6.2.2.2.2.2.1 ow_12_0_34 oa_12_0_34 ot_0 (rd_n_a.trans (rd_n_a.trans (rd_n_a.trans (rd_n_a.trans (rd_n_a.trans (rd_n_a.trans (rd_n_a.trans rd_n_a))))))) h (fun h => ?_)
  refine kz_aload_n (M := kt_M494) kX13_node_c6.2.2.2.2.2.2.1 rfl ?_
  refine kz_gfc (M := kt_M494) (x := 4168) (c := 12) (o := 0) kX13_node_c6.2.2.2.2.2.2.2.1 wf_X13_319 (.inl rfl) ?_
  refine kz_aload_n (M := kt_M494) kX13_node_c7.1 rfl ?_
  refine kz_gfiR (M := kt_M494) (c := 12) (o := 0) (w_i w 12 0 25) kX13_node_c7.2.1 wf_X13_544 (.inl rfl) (rd_i_a.trans (rd_i_a.trans (rd_i_a.trans (rd_i_a.trans (rd_i_a.trans (rd_i_a.trans (rd_i_a.trans (rd_i_a.trans rd_i_a)))))))) ?_
  refine kz_ic (M := kt_M494) 0 kX13_node_c7.2.2.1 rfl ?_
  refine kz_iastR (M := kt_M494) (n := w_n w 12 0 96) (c := 12) (o := 0) (k := 96) (a := (E.2.1 4168)) kX13_node_c7.2.2.2.1 ow_12_0_96 oa_12_0_96 ot_0 (rd_n_a.trans (rd_n_a.trans (rd_n_a.trans (rd_n_a.trans (rd_n_a.trans (rd_n_a.trans (rd_n_a.trans (rd_n_a.trans rd_n_a)))))))) h (fun h => ?_)
  refine kz_aload_n (M := kt_M494) kX13_node_c7.2.2.2.2.1 rfl ?_
  refine kz_dup (M := kt_M494) kX13_node_c7.2.2.2.2.2.1 rfl ?_
  refine kz_gfiR (M := kt_M494) (c := 12) (o := 0) (w_i w 12 0 25) kX13_node_c7.2.2.2.2.2.2.1 wf_X13_544 (.inl rfl) (rd_i_a.trans (rd_i_a.trans (rd_i_a.trans (rd_i_a.trans (rd_i_a.trans (rd_i_a.trans (rd_i_a.trans (rd_i_a.trans (rd_i_a.trans rd_i_a))))))))) ?_
  refine kz_ic (M := kt_M494) 1 kX13_node_c7.2.2.2.2.2.2.2.1 rfl ?_
  refine kz_iadd (M := kt_M494) kX13_node_c8.1 ?_
  refine kz_pfi (M := kt_M494) (c := 12) (o := 0) kX13_node_c8.2.1 wq_X13_544 (.inl rfl) ?_
  refine kz_aload_n (M := kt_M494) kX13_node_c8.2.2.1 rfl ?_
  refine kz_gfiR (M := kt_M494) (c := 12) (o := 0) ((w_i w 12 0 25) + 1) kX13_node_c8.2.2.2.1 wf_X13_544 (.inl rfl) rd_i_e ?_
  refine kz_ic (M := kt_M494) 1 kX13_node_c8.2.2.2.2.1 rfl ?_
  refine kz_isub (M := kt_M494) kX13_node_c8.2.2.2.2.2.1 ?_
  exact kz_iret (M := kt_M494) kX13_node_c8.2.2.2.2.2.2.1 rfl rfl h
def zb_X13_declaration_p254 (E : zE) (L : Nat) (Q : kx_Rs → wS → Prop) (x3 : Int32) (w : wS) : Prop := zw E (L - 20) kt_M601 [.ref (w_adr E.2.1 12 0)] w (wk1 (fun v2 w1 => wle w w1 → zw E (L - 24) kt_M451 [.ref (w_adr E.2.1 12 0), .int x3, .int v2] w1 (wk0 (fun w3 => wle w1 w3 → Q (.inl (some (.int x3))) w3) (fun e w => Q (.inr e) w))) (fun e w => Q (.inr e) w))
theorem zt_X13_declaration_p254 {E : zE} {L : Nat} {Q : kx_Rs → wS → Prop} {x3 : Int32} {w : wS} (hL : 24 ≤ L) (h : zb_X13_declaration_p254 E L Q x3 w) : kzE E L kt_M383 254 [(0, .ref (w_adr E.2.1 12 0)), (3, .int x3)] [] w Q := by
  unfold zb_X13_declaration_p254 at h
  refine kz_aload_n (M := kt_M383) kX13_declaration_c14.2.2.1 rfl ?_
  refine kz_iload_n (M := kt_M383) kX13_declaration_c14.2.2.2.1 rfl ?_
  refine kz_aload_n (M := kt_M383) kX13_declaration_c14.2.2.2.2.1 rfl ?_
  refine kz_cv1 (M := kt_M383) (c := 12) (o := 0) (As := []) (rest := [.int x3, .ref (w_adr E.2.1 12 0)]) kX13_declaration_c14.2.2.2.2.2.1 wl_X13_639 wMv_601 rfl (.inl rfl) rfl (Nat.le_trans (Nat.le_of_ble_eq_true rfl) hL) (Nat.le_of_ble_eq_true rfl) (Nat.le_of_ble_eq_true rfl) h (fun v2 w1 hle h => ?_) (fun _ _ _ h => kzx_no rfl h)
  have h := h hle
  refine kz_cv0 (M := kt_M383) (c := 12) (o := 0) (As := [.int x3, .int v2]) (rest := []) kX13_declaration_c14.2.2.2.2.2.2.1 wl_X13_686 wMv_451 rfl (.inl rfl) rfl (Nat.le_trans (Nat.le_of_ble_eq_true rfl) hL) (Nat.le_of_ble_eq_true rfl) (Nat.le_of_ble_eq_true rfl) h (fun w3 hle h => ?_) (fun _ _ _ h => kzx_no rfl h)
  have h := h hle
  refine kz_iload_n (M := kt_M383) kX13_declaration_c14.2.2.2.2.2.2.2.1 rfl ?_
  exact kz_iret (M := kt_M383) kX13_declaration_c15.1 rfl rfl h
def zb_X13_declaration_p188 (E : zE) (L : Nat) (Q : kx_Rs → wS → Prop) (x3 : Int32) (w : wS) : Prop := zw E (L - 20) kt_M601 [.ref (w_adr E.2.1 12 0)] w (wk1 (fun v2 w1 => wle w w1 → zw E (L - 22) kt_M339 [.ref (w_adr E.2.1 12 0), .int x3, .int v2] w1 (wk1 (fun v4 w3 => wle w1 w3 → Q (.inl (some (.int v4))) w3) (fun e w => Q (.inr e) w))) (fun e w => Q (.inr e) w))
theorem zt_X13_declaration_p188 {E : zE} {L : Nat} {Q : kx_Rs → wS → Prop} {x3 : Int32} {w : wS} (hL : 24 ≤ L) (h : zb_X13_declaration_p188 E L Q x3 w) : kzE E L kt_M383 188 [(0, .ref (w_adr E.2.1 12 0)), (3, .int x3)] [] w Q := by
  unfold zb_X13_declaration_p188 at h
  refine kz_aload_n (M := kt_M383) kX13_declaration_c9.2.2.2.2.2.1 rfl ?_
  refine kz_iload_n (M := kt_M383) kX13_declaration_c9.2.2.2.2.2.2.1 rfl ?_
  refine kz_aload_n (M := kt_M383) kX13_declaration_c9.2.2.2.2.2.2.2.1 rfl ?_
  refine kz_cv1 (M := kt_M383) (c := 12) (o := 0) (As := []) (rest := [.int x3, .ref (w_adr E.2.1 12 0)]) kX13_declaration_c10.1 wl_X13_639 wMv_601 rfl (.inl rfl) rfl (Nat.le_trans (Nat.le_of_ble_eq_true rfl) hL) (Nat.le_of_ble_eq_true rfl) (Nat.le_of_ble_eq_true rfl) h (fun v2 w1 hle h => ?_) (fun _ _ _ h => kzx_no rfl h)
  have h := h hle
  refine kz_cv1 (M := kt_M383) (c := 12) (o := 0) (As := [.int x3, .int v2]) (rest := []) kX13_declaration_c10.2.1 wl_X13_683 wMv_339 rfl (.inl rfl) rfl (Nat.le_trans (Nat.le_of_ble_eq_true rfl) hL) (Nat.le_of_ble_eq_true rfl) (Nat.le_of_ble_eq_true rfl) h (fun v4 w3 hle h => ?_) (fun _ _ _ h => kzx_no rfl h)
  have h := h hle
  exact kz_iret (M := kt_M383) kX13_declaration_c10.2.2.1 rfl rfl h
def zb_X13_declaration_p0 (E : zE) (L : Nat) (Q : kx_Rs → wS → Prop) (x1 : Int32) (w : wS) : Prop := (kx_inb (w_i w 12 0 35) (w_n w 12 0 9) = true ∧ zw E (L - 22) kt_M494 [.ref (w_adr E.2.1 12 0), .int 30, .int (w_a w 12 0 9 (w_i w 12 0 35).toNatClampNeg)] w (wk1 (fun v2 w1 => wle w w1 → zw E (L - 20) kt_M462 [.ref (w_adr E.2.1 12 0)] w1 (wk1 (fun v4 w3 => wle w1 w3 → zw E (L - 20) kt_M448 [.int v4] w3 (wk1 (fun v6 w5 => wle w3 w5 → (if v6 = 0 then (if v4 = 6 then (kx_inb v2 (w_n w5 12 0 26) = true ∧ zw E (L - 21) kt_M553 [.ref (w_adr E.2.1 12 0), .int v2] (ws_a w5 12 0 26 (v2).toNatClampNeg 31) (wk0 (fun w7 => wle (ws_a w5 12 0 26 (v2).toNatClampNeg 31) w7 → zw E (L - 20) kt_M601 [.ref (w_adr E.2.1 12 0)] w7 (wk1 (fun v10 w9 => wle w7 w9 → zw E (L - 20) kt_M462 [.ref (w_adr E.2.1 12 0)] w9 (wk1 (fun v12 w11 => wle w9 w11 → (if ¬ v12 = 13 then zw E (L - 24) kt_M451 [.ref (w_adr E.2.1 12 0), .int v2, .int v10] w11 (wk0 (fun w13 => wle w11 w13 → Q (.inl (some (.int v2))) w13) (fun e w => Q (.inr e) w)) else zw E (L - 22) kt_M339 [.ref (w_adr E.2.1 12 0), .int v2, .int v10] w11 (wk1 (fun v16 w15 => wle w11 w15 → Q (.inl (some (.int v16))) w15) (fun e w => Q (.inr e) w)))) (fun e w => Q (.inr e) w))) (fun e w => Q (.inr e) w))) (fun e w => Q (.inr e) w))) else (if v4 = 24 then zw E (L - 24) kt_M517 [.ref (w_adr E.2.1 12 0), .int v2, .int x1] w5 (wk1 (fun v18 w17 => wle w5 w17 → Q (.inl (some (.int v18))) w17) (fun e w => Q (.inr e) w)) else (if v4 = 30 then (kx_inb v2 (w_n w5 12 0 26) = true ∧ zw E (L - 20) kt_M601 [.ref (w_adr E.2.1 12 0)] (ws_i (ws_a w5 12 0 26 (v2).toNatClampNeg 32) 12 0 35 ((w_i w5 12 0 35) + 1)) (wk1 (fun v20 w19 => wle (ws_i (ws_a w5 12 0 26 (v2).toNatClampNeg 32) 12 0 35 ((w_i w5 12 0 35) + 1)) w19 → zw E (L - 24) kt_M451 [.ref (w_adr E.2.1 12 0), .int v2, .int v20] w19 (wk0 (fun w21 => wle w19 w21 → Q (.inl (some (.int v2))) w21) (fun e w => Q (.inr e) w))) (fun e w => Q (.inr e) w))) else (if v4 = 33 then (kx_inb v2 (w_n w5 12 0 26) = true ∧ zw E (L - 21) kt_M595 [.ref (w_adr E.2.1 12 0), .int v2] (ws_i (ws_a w5 12 0 26 (v2).toNatClampNeg 33) 12 0 35 ((w_i w5 12 0 35) + 1)) (wk0 (fun w23 => wle (ws_i (ws_a w5 12 0 26 (v2).toNatClampNeg 33) 12 0 35 ((w_i w5 12 0 35) + 1)) w23 → zw E (L - 20) kt_M601 [.ref (w_adr E.2.1 12 0)] w23 (wk1 (fun v26 w25 => wle w23 w25 → (kx_inb v2 (w_n w25 12 0 30) = true ∧ zw E (L - 21) kt_M600 [.ref (w_adr E.2.1 12 0), .int 13] (ws_a w25 12 0 30 (v2).toNatClampNeg v26) (wk0 (fun w27 => wle (ws_a w25 12 0 30 (v2).toNatClampNeg v26) w27 → zw E (L - 22) kt_M393 [.ref (w_adr E.2.1 12 0)] w27 (wk1 (fun v30 w29 => wle w27 w29 → (kx_inb v2 (w_n w29 12 0 28) = true ∧ zw E (L - 21) kt_M600 [.ref (w_adr E.2.1 12 0), .int 46] (ws_a w29 12 0 28 (v2).toNatClampNeg v30) (wk0 (fun w31 => wle (ws_a w29 12 0 28 (v2).toNatClampNeg v30) w31 → zw E (L - 20) kt_M400 [.ref (w_adr E.2.1 12 0)] w31 (wk0 (fun w33 => wle w31 w33 → Q (.inl (some (.int v2))) w33) (fun e w => Q (.inr e) w))) (fun e w => Q (.inr e) w)))) (fun e w => Q (.inr e) w))) (fun e w => Q (.inr e) w)))) (fun e w => Q (.inr e) w))) (fun e w => Q (.inr e) w))) else (if v4 = 42 then zw E (L - 20) kt_M497 [.ref (w_adr E.2.1 12 0)] w5 (wk0 (fun w35 => wle w5 w35 → (kx_inb v2 (w_n w35 12 0 34) = true ∧ zw E (L - 21) kt_M466 [.ref (w_adr E.2.1 12 0), .int 43] (ws_a w35 12 0 34 (v2).toNatClampNeg 1) (wk1 (fun v38 w37 => wle (ws_a w35 12 0 34 (v2).toNatClampNeg 1) w37 → (if v38 = 0 then zw E (L - 22) kt_M393 [.ref (w_adr E.2.1 12 0)] w37 (wk1 (fun v40 w39 => wle w37 w39 → (kx_inb v2 (w_n w39 12 0 28) = true ∧ zw E (L - 21) kt_M600 [.ref (w_adr E.2.1 12 0), .int 43] (ws_a w39 12 0 28 (v2).toNatClampNeg v40) (wk0 (fun w41 => wle (ws_a w39 12 0 28 (v2).toNatClampNeg v40) w41 → zw E (L - 20) kt_M462 [.ref (w_adr E.2.1 12 0)] (ws_i w41 12 0 38 ((w_i w41 12 0 38) - 1)) (wk1 (fun v44 w43 => wle (ws_i w41 12 0 38 ((w_i w41 12 0 38) - 1)) w43 → (if ¬ v44 = 6 then zw E (L - 22) kt_M554 [.ref (w_adr E.2.1 12 0), .int v2] w43 (wk0 (fun w45 => wle w43 w45 → zb_X13_declaration_p254 E L Q v2 w45) (fun e w => Q (.inr e) w)) else (kx_inb v2 (w_n w43 12 0 26) = true ∧ zw E (L - 21) kt_M553 [.ref (w_adr E.2.1 12 0), .int v2] (ws_a w43 12 0 26 (v2).toNatClampNeg 31) (wk0 (fun w47 => wle (ws_a w43 12 0 26 (v2).toNatClampNeg 31) w47 → zb_X13_declaration_p254 E L Q v2 w47) (fun e w => Q (.inr e) w))))) (fun e w => Q (.inr e) w))) (fun e w => Q (.inr e) w)))) (fun e w => Q (.inr e) w)) else zw E (L - 20) kt_M462 [.ref (w_adr E.2.1 12 0)] (ws_i w37 12 0 38 ((w_i w37 12 0 38) - 1)) (wk1 (fun v50 w49 => wle (ws_i w37 12 0 38 ((w_i w37 12 0 38) - 1)) w49 → (if ¬ v50 = 6 then zw E (L - 22) kt_M554 [.ref (w_adr E.2.1 12 0), .int v2] w49 (wk0 (fun w51 => wle w49 w51 → zb_X13_declaration_p188 E L Q v2 w51) (fun e w => Q (.inr e) w)) else zw E (L - 21) kt_M553 [.ref (w_adr E.2.1 12 0), .int v2] w49 (wk0 (fun w53 => wle w49 w53 → zb_X13_declaration_p188 E L Q v2 w53) (fun e w => Q (.inr e) w)))) (fun e w => Q (.inr e) w)))) (fun e w => Q (.inr e) w)))) (fun e w => Q (.inr e) w)) else zw E (L - 22) kt_M512 [.ref (w_adr E.2.1 12 0), .int v2, .int x1] w5 (wk1 (fun v56 w55 => wle w5 w55 → Q (.inl (some (.int v56))) w55) (fun e w => Q (.inr e) w))))))) else zw E (L - 22) kt_M554 [.ref (w_adr E.2.1 12 0), .int v2] w5 (wk0 (fun w57 => wle w5 w57 → zw E (L - 20) kt_M462 [.ref (w_adr E.2.1 12 0)] w57 (wk1 (fun v60 w59 => wle w57 w59 → (if ¬ v60 = 10 then zw E (L - 20) kt_M601 [.ref (w_adr E.2.1 12 0)] w59 (wk1 (fun v62 w61 => wle w59 w61 → zw E (L - 20) kt_M462 [.ref (w_adr E.2.1 12 0)] w61 (wk1 (fun v64 w63 => wle w61 w63 → (if ¬ v64 = 13 then zw E (L - 24) kt_M451 [.ref (w_adr E.2.1 12 0), .int v2, .int v62] w63 (wk0 (fun w65 => wle w63 w65 → Q (.inl (some (.int v2))) w65) (fun e w => Q (.inr e) w)) else zw E (L - 22) kt_M339 [.ref (w_adr E.2.1 12 0), .int v2, .int v62] w63 (wk1 (fun v68 w67 => wle w63 w67 → Q (.inl (some (.int v68))) w67) (fun e w => Q (.inr e) w)))) (fun e w => Q (.inr e) w))) (fun e w => Q (.inr e) w)) else zw E (L - 24) kt_M417 [.ref (w_adr E.2.1 12 0), .int v2, .int x1] w59 (wk1 (fun v70 w69 => wle w59 w69 → Q (.inl (some (.int v70))) w69) (fun e w => Q (.inr e) w)))) (fun e w => Q (.inr e) w))) (fun e w => Q (.inr e) w)))) (fun e w => Q (.inr e) w))) (fun e w => Q (.inr e) w))) (fun e w => Q (.inr e) w)))
theorem zt_X13_declaration_p0 {E : zE} {L : Nat} {Q : kx_Rs → wS → Prop} {x1 : Int32} {w : wS} (hL : 24 ≤ L) (h : zb_X13_declaration_p0 E L Q x1 w) : kzE E L kt_M383 0 [(0, .ref (w_adr E.2.1 12 0)), (1, .int x1)] [] w Q := by
  unfold zb_X13_declaration_p0 at h
  refine kz_aload_n (M := kt_M383) kX13_declaration_c0.1 rfl ?_
  refine kz_gfc (M := kt_M383) (x := 4081) (c := 12) (o := 0) kX13_declaration_c0.2.1 wf_X13_163 (.inl rfl) ?_
  refine kz_aload_n (M := kt_M383) kX13_declaration_c0.2.2.1 rfl ?_
  refine kz_gfi (M := kt_M383) (c := 12) (o := 0) kX13_declaration_c0.2.2.2.1 wf_X13_547 (.inl rfl) ?_
  refine kz_iald (M := kt_M383) (c := 12) (o := 0) (k := 9) (a := (E.2.1 4081)) kX13_declaration_c0.2.2.2.2.1 ow_12_0_9 oa_12_0_9 ot_0 h (fun h => ?_)
  refine kz_sti_n (M := kt_M383) [(0, .ref (w_adr E.2.1 12 0)), (1, .int x1)] kX13_declaration_c0.2.2.2.2.2.1 (Nat.le_of_ble_eq_true rfl) ⟨⟨rfl, rfl, .inl rfl⟩, ⟨⟨rfl, rfl, .inr rfl⟩, trivial⟩⟩ rfl ?_
  refine kz_aload_n (M := kt_M383) kX13_declaration_c0.2.2.2.2.2.2.1 rfl ?_
  refine kz_bi (M := kt_M383) 30 kX13_declaration_c0.2.2.2.2.2.2.2.1 rfl ?_
  refine kz_iload_n (M := kt_M383) kX13_declaration_c1.1 rfl ?_
  refine kz_cv1 (M := kt_M383) (c := 12) (o := 0) (As := [.int 30, .int (w_a w 12 0 9 (w_i w 12 0 35).toNatClampNeg)]) (rest := []) kX13_declaration_c1.2.1 wl_X13_592 wMv_494 rfl (.inl rfl) rfl (Nat.le_trans (Nat.le_of_ble_eq_true rfl) hL) (Nat.le_of_ble_eq_true rfl) (Nat.le_of_ble_eq_true rfl) h (fun v2 w1 hle h => ?_) (fun _ _ _ h => kzx_no rfl h)
  have h := h hle
  refine kz_sti_n (M := kt_M383) [(0, .ref (w_adr E.2.1 12 0)), (1, .int x1)] kX13_declaration_c1.2.2.1 (Nat.le_of_ble_eq_true rfl) ⟨⟨rfl, rfl, .inl rfl⟩, ⟨⟨rfl, rfl, .inl rfl⟩, trivial⟩⟩ rfl ?_
  refine kz_aload_n (M := kt_M383) kX13_declaration_c1.2.2.2.1 rfl ?_
  refine kz_cv1 (M := kt_M383) (c := 12) (o := 0) (As := []) (rest := []) kX13_declaration_c1.2.2.2.2.1 wl_X13_560 wMv_462 rfl (.inl rfl) rfl (Nat.le_trans (Nat.le_of_ble_eq_true rfl) hL) (Nat.le_of_ble_eq_true rfl) (Nat.le_of_ble_eq_true rfl) h (fun v4 w3 hle h => ?_) (fun _ _ _ h => kzx_no rfl h)
  have h := h hle
  refine kz_sti (M := kt_M383) [(0, .ref (w_adr E.2.1 12 0)), (1, .int x1), (3, .int v2)] kX13_declaration_c1.2.2.2.2.2.1 (Nat.le_of_ble_eq_true rfl) ⟨⟨rfl, rfl, .inl rfl⟩, ⟨⟨rfl, rfl, .inl rfl⟩, ⟨⟨rfl, rfl, .inr rfl⟩, trivial⟩⟩⟩ rfl ?_
  refine kz_iload (M := kt_M383) kX13_declaration_c1.2.2.2.2.2.2.1 rfl ?_
  refine kz_cs1 (M := kt_M383) (As := [.int v4]) (rest := []) kX13_declaration_c1.2.2.2.2.2.2.2.1 wl_X13_563 wMs_448 rfl (Nat.le_trans (Nat.le_of_ble_eq_true rfl) hL) (Nat.le_of_ble_eq_true rfl) (Nat.le_of_ble_eq_true rfl) h (fun v6 w5 hle h => ?_) (fun _ _ _ h => kzx_no rfl h)
  have h := h hle
  refine kz_if_eq (M := kt_M383) kX13_declaration_c2.1 (t := 85) rfl h (fun h => ?_) (fun h => ?_)
  · skip
    refine kz_iload (M := kt_M383) kX13_declaration_c5.2.2.2.2.2.2.2.1 rfl ?_
    refine kz_lsw (M := kt_M383) [(6, 265), (24, 400), (30, 310), (33, 339), (42, 136)] [_, _, _, _, _] 407 dX13_declaration_p87 (by decide +kernel) (by decide +kernel) h ⟨fun h => ?_, fun h => ?_, fun h => ?_, fun h => ?_, fun h => ?_, trivial⟩ (fun h => ?_)
    · skip
      refine kz_aload_n (M := kt_M383) kX13_declaration_c15.2.1 rfl ?_
      refine kz_gfc (M := kt_M383) (x := 4098) (c := 12) (o := 0) kX13_declaration_c15.2.2.1 wf_X13_187 (.inl rfl) ?_
      refine kz_iload_n (M := kt_M383) kX13_declaration_c15.2.2.2.1 rfl ?_
      refine kz_bi (M := kt_M383) 31 kX13_declaration_c15.2.2.2.2.1 rfl ?_
      refine kz_iast (M := kt_M383) (c := 12) (o := 0) (k := 26) (a := (E.2.1 4098)) kX13_declaration_c15.2.2.2.2.2.1 ow_12_0_26 oa_12_0_26 ot_0 h (fun h => ?_)
      refine kz_aload_n (M := kt_M383) kX13_declaration_c15.2.2.2.2.2.2.1 rfl ?_
      refine kz_iload_n (M := kt_M383) kX13_declaration_c15.2.2.2.2.2.2.2.1 rfl ?_
      refine kz_cv0 (M := kt_M383) (c := 12) (o := 0) (As := [.int v2]) (rest := []) kX13_declaration_c16.1 wl_X13_689 wMv_553 rfl (.inl rfl) rfl (Nat.le_trans (Nat.le_of_ble_eq_true rfl) hL) (Nat.le_of_ble_eq_true rfl) (Nat.le_of_ble_eq_true rfl) h (fun w7 hle h => ?_) (fun _ _ _ h => kzx_no rfl h)
      have h := h hle
      refine kz_aload_n (M := kt_M383) kX13_declaration_c16.2.1 rfl ?_
      refine kz_cv1 (M := kt_M383) (c := 12) (o := 0) (As := []) (rest := []) kX13_declaration_c16.2.2.1 wl_X13_639 wMv_601 rfl (.inl rfl) rfl (Nat.le_trans (Nat.le_of_ble_eq_true rfl) hL) (Nat.le_of_ble_eq_true rfl) (Nat.le_of_ble_eq_true rfl) h (fun v10 w9 hle h => ?_) (fun _ _ _ h => kzx_no rfl h)
      have h := h hle
      refine kz_sti (M := kt_M383) [(0, .ref (w_adr E.2.1 12 0)), (3, .int v2)] kX13_declaration_c16.2.2.2.1 (Nat.le_of_ble_eq_true rfl) ⟨⟨rfl, rfl, .inl rfl⟩, ⟨⟨rfl, rfl, .inl rfl⟩, trivial⟩⟩ rfl ?_
      refine kz_aload_n (M := kt_M383) kX13_declaration_c16.2.2.2.2.1 rfl ?_
      refine kz_cv1 (M := kt_M383) (c := 12) (o := 0) (As := []) (rest := []) kX13_declaration_c16.2.2.2.2.2.1 wl_X13_560 wMv_462 rfl (.inl rfl) rfl (Nat.le_trans (Nat.le_of_ble_eq_true rfl) hL) (Nat.le_of_ble_eq_true rfl) (Nat.le_of_ble_eq_true rfl) h (fun v12 w11 hle h => ?_) (fun _ _ _ h => kzx_no rfl h)
      have h := h hle
      refine kz_bi (M := kt_M383) 13 kX13_declaration_c16.2.2.2.2.2.2.1 rfl ?_
      refine kz_icmp_ne (M := kt_M383) kX13_declaration_c16.2.2.2.2.2.2.2.1 (t := 301) rfl h (fun h => ?_) (fun h => ?_)
      · skip
        refine kz_aload_n (M := kt_M383) kX13_declaration_c17.2.2.2.2.2.1 rfl ?_
        refine kz_iload_n (M := kt_M383) kX13_declaration_c17.2.2.2.2.2.2.1 rfl ?_
        refine kz_iload (M := kt_M383) kX13_declaration_c17.2.2.2.2.2.2.2.1 rfl ?_
        refine kz_cv0 (M := kt_M383) (c := 12) (o := 0) (As := [.int v2, .int v10]) (rest := []) kX13_declaration_c18.1 wl_X13_686 wMv_451 rfl (.inl rfl) rfl (Nat.le_trans (Nat.le_of_ble_eq_true rfl) hL) (Nat.le_of_ble_eq_true rfl) (Nat.le_of_ble_eq_true rfl) h (fun w13 hle h => ?_) (fun _ _ _ h => kzx_no rfl h)
        have h := h hle
        refine kz_iload_n (M := kt_M383) kX13_declaration_c18.2.1 rfl ?_
        exact kz_iret (M := kt_M383) kX13_declaration_c18.2.2.1 rfl rfl h
      · skip
        refine kz_aload_n (M := kt_M383) kX13_declaration_c17.1 rfl ?_
        refine kz_iload_n (M := kt_M383) kX13_declaration_c17.2.1 rfl ?_
        refine kz_iload (M := kt_M383) kX13_declaration_c17.2.2.1 rfl ?_
        refine kz_cv1 (M := kt_M383) (c := 12) (o := 0) (As := [.int v2, .int v10]) (rest := []) kX13_declaration_c17.2.2.2.1 wl_X13_683 wMv_339 rfl (.inl rfl) rfl (Nat.le_trans (Nat.le_of_ble_eq_true rfl) hL) (Nat.le_of_ble_eq_true rfl) (Nat.le_of_ble_eq_true rfl) h (fun v16 w15 hle h => ?_) (fun _ _ _ h => kzx_no rfl h)
        have h := h hle
        exact kz_iret (M := kt_M383) kX13_declaration_c17.2.2.2.2.1 rfl rfl h
    · skip
      refine kz_aload_n (M := kt_M383) kX13_declaration_c25.2.1 rfl ?_
      refine kz_iload_n (M := kt_M383) kX13_declaration_c25.2.2.1 rfl ?_
      refine kz_iload_n (M := kt_M383) kX13_declaration_c25.2.2.2.1 rfl ?_
      refine kz_cv1 (M := kt_M383) (c := 12) (o := 0) (As := [.int v2, .int x1]) (rest := []) kX13_declaration_c25.2.2.2.2.1 wl_X13_695 wMv_517 rfl (.inl rfl) rfl (Nat.le_trans (Nat.le_of_ble_eq_true rfl) hL) (Nat.le_of_ble_eq_true rfl) (Nat.le_of_ble_eq_true rfl) h (fun v18 w17 hle h => ?_) (fun _ _ _ h => kzx_no rfl h)
      have h := h hle
      exact kz_iret (M := kt_M383) kX13_declaration_c25.2.2.2.2.2.1 rfl rfl h
    · skip
      refine kz_aload_n (M := kt_M383) kX13_declaration_c18.2.2.2.1 rfl ?_
      refine kz_gfc (M := kt_M383) (x := 4098) (c := 12) (o := 0) kX13_declaration_c18.2.2.2.2.1 wf_X13_187 (.inl rfl) ?_
      refine kz_iload_n (M := kt_M383) kX13_declaration_c18.2.2.2.2.2.1 rfl ?_
      refine kz_bi (M := kt_M383) 32 kX13_declaration_c18.2.2.2.2.2.2.1 rfl ?_
      refine kz_iast (M := kt_M383) (c := 12) (o := 0) (k := 26) (a := (E.2.1 4098)) kX13_declaration_c18.2.2.2.2.2.2.2.1 ow_12_0_26 oa_12_0_26 ot_0 h (fun h => ?_)
      refine kz_aload_n (M := kt_M383) kX13_declaration_c19.1 rfl ?_
      refine kz_dup (M := kt_M383) kX13_declaration_c19.2.1 rfl ?_
      refine kz_gfiR (M := kt_M383) (c := 12) (o := 0) (w_i w5 12 0 35) kX13_declaration_c19.2.2.1 wf_X13_547 (.inl rfl) rd_i_a ?_
      refine kz_ic (M := kt_M383) 1 kX13_declaration_c19.2.2.2.1 rfl ?_
      refine kz_iadd (M := kt_M383) kX13_declaration_c19.2.2.2.2.1 ?_
      refine kz_pfi (M := kt_M383) (c := 12) (o := 0) kX13_declaration_c19.2.2.2.2.2.1 wq_X13_547 (.inl rfl) ?_
      refine kz_aload_n (M := kt_M383) kX13_declaration_c19.2.2.2.2.2.2.1 rfl ?_
      refine kz_iload_n (M := kt_M383) kX13_declaration_c19.2.2.2.2.2.2.2.1 rfl ?_
      refine kz_aload_n (M := kt_M383) kX13_declaration_c20.1 rfl ?_
      refine kz_cv1 (M := kt_M383) (c := 12) (o := 0) (As := []) (rest := [.int v2, .ref (w_adr E.2.1 12 0)]) kX13_declaration_c20.2.1 wl_X13_639 wMv_601 rfl (.inl rfl) rfl (Nat.le_trans (Nat.le_of_ble_eq_true rfl) hL) (Nat.le_of_ble_eq_true rfl) (Nat.le_of_ble_eq_true rfl) h (fun v20 w19 hle h => ?_) (fun _ _ _ h => kzx_no rfl h)
      have h := h hle
      refine kz_cv0 (M := kt_M383) (c := 12) (o := 0) (As := [.int v2, .int v20]) (rest := []) kX13_declaration_c20.2.2.1 wl_X13_686 wMv_451 rfl (.inl rfl) rfl (Nat.le_trans (Nat.le_of_ble_eq_true rfl) hL) (Nat.le_of_ble_eq_true rfl) (Nat.le_of_ble_eq_true rfl) h (fun w21 hle h => ?_) (fun _ _ _ h => kzx_no rfl h)
      have h := h hle
      refine kz_iload_n (M := kt_M383) kX13_declaration_c20.2.2.2.1 rfl ?_
      exact kz_iret (M := kt_M383) kX13_declaration_c20.2.2.2.2.1 rfl rfl h
    · skip
      refine kz_aload_n (M := kt_M383) kX13_declaration_c20.2.2.2.2.2.1 rfl ?_
      refine kz_gfc (M := kt_M383) (x := 4098) (c := 12) (o := 0) kX13_declaration_c20.2.2.2.2.2.2.1 wf_X13_187 (.inl rfl) ?_
      refine kz_iload_n (M := kt_M383) kX13_declaration_c20.2.2.2.2.2.2.2.1 rfl ?_
      refine kz_bi (M := kt_M383) 33 kX13_declaration_c21.1 rfl ?_
      refine kz_iast (M := kt_M383) (c := 12) (o := 0) (k := 26) (a := (E.2.1 4098)) kX13_declaration_c21.2.1 ow_12_0_26 oa_12_0_26 ot_0 h (fun h => ?_)
      refine kz_aload_n (M := kt_M383) kX13_declaration_c21.2.2.1 rfl ?_
      refine kz_dup (M := kt_M383) kX13_declaration_c21.2.2.2.1 rfl ?_
      refine kz_gfiR (M := kt_M383) (c := 12) (o := 0) (w_i w5 12 0 35) kX13_declaration_c21.2.2.2.2.1 wf_X13_547 (.inl rfl) rd_i_a ?_
      refine kz_ic (M := kt_M383) 1 kX13_declaration_c21.2.2.2.2.2.1 rfl ?_
      refine kz_iadd (M := kt_M383) kX13_declaration_c21.2.2.2.2.2.2.1 ?_
      refine kz_pfi (M := kt_M383) (c := 12) (o := 0) kX13_declaration_c21.2.2.2.2.2.2.2.1 wq_X13_547 (.inl rfl) ?_
      refine kz_aload_n (M := kt_M383) kX13_declaration_c22.1 rfl ?_
      refine kz_iload_n (M := kt_M383) kX13_declaration_c22.2.1 rfl ?_
      refine kz_cv0 (M := kt_M383) (c := 12) (o := 0) (As := [.int v2]) (rest := []) kX13_declaration_c22.2.2.1 wl_X13_692 wMv_595 rfl (.inl rfl) rfl (Nat.le_trans (Nat.le_of_ble_eq_true rfl) hL) (Nat.le_of_ble_eq_true rfl) (Nat.le_of_ble_eq_true rfl) h (fun w23 hle h => ?_) (fun _ _ _ h => kzx_no rfl h)
      have h := h hle
      refine kz_aload_n (M := kt_M383) kX13_declaration_c22.2.2.2.1 rfl ?_
      refine kz_gfc (M := kt_M383) (x := 4102) (c := 12) (o := 0) kX13_declaration_c22.2.2.2.2.1 wf_X13_199 (.inl rfl) ?_
      refine kz_iload_n (M := kt_M383) kX13_declaration_c22.2.2.2.2.2.1 rfl ?_
      refine kz_aload_n (M := kt_M383) kX13_declaration_c22.2.2.2.2.2.2.1 rfl ?_
      refine kz_cv1 (M := kt_M383) (c := 12) (o := 0) (As := []) (rest := [.int v2, .ref (E.2.1 4102)]) kX13_declaration_c22.2.2.2.2.2.2.2.1 wl_X13_639 wMv_601 rfl (.inl rfl) rfl (Nat.le_trans (Nat.le_of_ble_eq_true rfl) hL) (Nat.le_of_ble_eq_true rfl) (Nat.le_of_ble_eq_true rfl) h (fun v26 w25 hle h => ?_) (fun _ _ _ h => kzx_no rfl h)
      have h := h hle
      refine kz_iast (M := kt_M383) (c := 12) (o := 0) (k := 30) (a := (E.2.1 4102)) kX13_declaration_c23.1 ow_12_0_30 oa_12_0_30 ot_0 h (fun h => ?_)
      refine kz_aload_n (M := kt_M383) kX13_declaration_c23.2.1 rfl ?_
      refine kz_bi (M := kt_M383) 13 kX13_declaration_c23.2.2.1 rfl ?_
      refine kz_cv0 (M := kt_M383) (c := 12) (o := 0) (As := [.int 13]) (rest := []) kX13_declaration_c23.2.2.2.1 wl_X13_585 wMv_600 rfl (.inl rfl) rfl (Nat.le_trans (Nat.le_of_ble_eq_true rfl) hL) (Nat.le_of_ble_eq_true rfl) (Nat.le_of_ble_eq_true rfl) h (fun w27 hle h => ?_) (fun _ _ _ h => kzx_no rfl h)
      have h := h hle
      refine kz_aload_n (M := kt_M383) kX13_declaration_c23.2.2.2.2.1 rfl ?_
      refine kz_gfc (M := kt_M383) (x := 4100) (c := 12) (o := 0) kX13_declaration_c23.2.2.2.2.2.1 wf_X13_193 (.inl rfl) ?_
      refine kz_iload_n (M := kt_M383) kX13_declaration_c23.2.2.2.2.2.2.1 rfl ?_
      refine kz_aload_n (M := kt_M383) kX13_declaration_c23.2.2.2.2.2.2.2.1 rfl ?_
      refine kz_cv1 (M := kt_M383) (c := 12) (o := 0) (As := []) (rest := [.int v2, .ref (E.2.1 4100)]) kX13_declaration_c24.1 wl_X13_632 wMv_393 rfl (.inl rfl) rfl (Nat.le_trans (Nat.le_of_ble_eq_true rfl) hL) (Nat.le_of_ble_eq_true rfl) (Nat.le_of_ble_eq_true rfl) h (fun v30 w29 hle h => ?_) (fun _ _ _ h => kzx_no rfl h)
      have h := h hle
      refine kz_iast (M := kt_M383) (c := 12) (o := 0) (k := 28) (a := (E.2.1 4100)) kX13_declaration_c24.2.1 ow_12_0_28 oa_12_0_28 ot_0 h (fun h => ?_)
      refine kz_aload_n (M := kt_M383) kX13_declaration_c24.2.2.1 rfl ?_
      refine kz_bi (M := kt_M383) 46 kX13_declaration_c24.2.2.2.1 rfl ?_
      refine kz_cv0 (M := kt_M383) (c := 12) (o := 0) (As := [.int 46]) (rest := []) kX13_declaration_c24.2.2.2.2.1 wl_X13_585 wMv_600 rfl (.inl rfl) rfl (Nat.le_trans (Nat.le_of_ble_eq_true rfl) hL) (Nat.le_of_ble_eq_true rfl) (Nat.le_of_ble_eq_true rfl) h (fun w31 hle h => ?_) (fun _ _ _ h => kzx_no rfl h)
      have h := h hle
      refine kz_aload_n (M := kt_M383) kX13_declaration_c24.2.2.2.2.2.1 rfl ?_
      refine kz_cv0 (M := kt_M383) (c := 12) (o := 0) (As := []) (rest := []) kX13_declaration_c24.2.2.2.2.2.2.1 wl_X13_616 wMv_400 rfl (.inl rfl) rfl (Nat.le_trans (Nat.le_of_ble_eq_true rfl) hL) (Nat.le_of_ble_eq_true rfl) (Nat.le_of_ble_eq_true rfl) h (fun w33 hle h => ?_) (fun _ _ _ h => kzx_no rfl h)
      have h := h hle
      refine kz_iload_n (M := kt_M383) kX13_declaration_c24.2.2.2.2.2.2.2.1 rfl ?_
      exact kz_iret (M := kt_M383) kX13_declaration_c25.1 rfl rfl h
    · skip
      refine kz_aload_n (M := kt_M383) kX13_declaration_c6.2.1 rfl ?_
      refine kz_cv0 (M := kt_M383) (c := 12) (o := 0) (As := []) (rest := []) kX13_declaration_c6.2.2.1 wl_X13_666 wMv_497 rfl (.inl rfl) rfl (Nat.le_trans (Nat.le_of_ble_eq_true rfl) hL) (Nat.le_of_ble_eq_true rfl) (Nat.le_of_ble_eq_true rfl) h (fun w35 hle h => ?_) (fun _ _ _ h => kzx_no rfl h)
      have h := h hle
      refine kz_aload_n (M := kt_M383) kX13_declaration_c6.2.2.2.1 rfl ?_
      refine kz_gfc (M := kt_M383) (x := 4106) (c := 12) (o := 0) kX13_declaration_c6.2.2.2.2.1 wf_X13_211 (.inl rfl) ?_
      refine kz_iload_n (M := kt_M383) kX13_declaration_c6.2.2.2.2.2.1 rfl ?_
      refine kz_ic (M := kt_M383) 1 kX13_declaration_c6.2.2.2.2.2.2.1 rfl ?_
      refine kz_iast (M := kt_M383) (c := 12) (o := 0) (k := 34) (a := (E.2.1 4106)) kX13_declaration_c6.2.2.2.2.2.2.2.1 ow_12_0_34 oa_12_0_34 ot_0 h (fun h => ?_)
      refine kz_aload_n (M := kt_M383) kX13_declaration_c7.1 rfl ?_
      refine kz_bi (M := kt_M383) 43 kX13_declaration_c7.2.1 rfl ?_
      refine kz_cv1 (M := kt_M383) (c := 12) (o := 0) (As := [.int 43]) (rest := []) kX13_declaration_c7.2.2.1 wl_X13_642 wMv_466 rfl (.inl rfl) rfl (Nat.le_trans (Nat.le_of_ble_eq_true rfl) hL) (Nat.le_of_ble_eq_true rfl) (Nat.le_of_ble_eq_true rfl) h (fun v38 w37 hle h => ?_) (fun _ _ _ h => kzx_no rfl h)
      have h := h hle
      refine kz_if_eq (M := kt_M383) kX13_declaration_c7.2.2.2.1 (t := 198) rfl h (fun h => ?_) (fun h => ?_)
      · skip
        refine kz_aload_n (M := kt_M383) kX13_declaration_c10.2.2.2.1 rfl ?_
        refine kz_gfc (M := kt_M383) (x := 4100) (c := 12) (o := 0) kX13_declaration_c10.2.2.2.2.1 wf_X13_193 (.inl rfl) ?_
        refine kz_iload_n (M := kt_M383) kX13_declaration_c10.2.2.2.2.2.1 rfl ?_
        refine kz_aload_n (M := kt_M383) kX13_declaration_c10.2.2.2.2.2.2.1 rfl ?_
        refine kz_cv1 (M := kt_M383) (c := 12) (o := 0) (As := []) (rest := [.int v2, .ref (E.2.1 4100)]) kX13_declaration_c10.2.2.2.2.2.2.2.1 wl_X13_632 wMv_393 rfl (.inl rfl) rfl (Nat.le_trans (Nat.le_of_ble_eq_true rfl) hL) (Nat.le_of_ble_eq_true rfl) (Nat.le_of_ble_eq_true rfl) h (fun v40 w39 hle h => ?_) (fun _ _ _ h => kzx_no rfl h)
        have h := h hle
        refine kz_iast (M := kt_M383) (c := 12) (o := 0) (k := 28) (a := (E.2.1 4100)) kX13_declaration_c11.1 ow_12_0_28 oa_12_0_28 ot_0 h (fun h => ?_)
        refine kz_aload_n (M := kt_M383) kX13_declaration_c11.2.1 rfl ?_
        refine kz_bi (M := kt_M383) 43 kX13_declaration_c11.2.2.1 rfl ?_
        refine kz_cv0 (M := kt_M383) (c := 12) (o := 0) (As := [.int 43]) (rest := []) kX13_declaration_c11.2.2.2.1 wl_X13_585 wMv_600 rfl (.inl rfl) rfl (Nat.le_trans (Nat.le_of_ble_eq_true rfl) hL) (Nat.le_of_ble_eq_true rfl) (Nat.le_of_ble_eq_true rfl) h (fun w41 hle h => ?_) (fun _ _ _ h => kzx_no rfl h)
        have h := h hle
        refine kz_aload_n (M := kt_M383) kX13_declaration_c11.2.2.2.2.1 rfl ?_
        refine kz_dup (M := kt_M383) kX13_declaration_c11.2.2.2.2.2.1 rfl ?_
        refine kz_gfi (M := kt_M383) (c := 12) (o := 0) kX13_declaration_c11.2.2.2.2.2.2.1 wf_X13_669 (.inl rfl) ?_
        refine kz_ic (M := kt_M383) 1 kX13_declaration_c11.2.2.2.2.2.2.2.1 rfl ?_
        refine kz_isub (M := kt_M383) kX13_declaration_c12.1 ?_
        refine kz_pfi (M := kt_M383) (c := 12) (o := 0) kX13_declaration_c12.2.1 wq_X13_669 (.inl rfl) ?_
        refine kz_aload_n (M := kt_M383) kX13_declaration_c12.2.2.1 rfl ?_
        refine kz_cv1 (M := kt_M383) (c := 12) (o := 0) (As := []) (rest := []) kX13_declaration_c12.2.2.2.1 wl_X13_560 wMv_462 rfl (.inl rfl) rfl (Nat.le_trans (Nat.le_of_ble_eq_true rfl) hL) (Nat.le_of_ble_eq_true rfl) (Nat.le_of_ble_eq_true rfl) h (fun v44 w43 hle h => ?_) (fun _ _ _ h => kzx_no rfl h)
        have h := h hle
        refine kz_bi (M := kt_M383) 6 kX13_declaration_c12.2.2.2.2.1 rfl ?_
        refine kz_icmp_ne (M := kt_M383) kX13_declaration_c12.2.2.2.2.2.1 (t := 249) rfl h (fun h => ?_) (fun h => ?_)
        · skip
          refine kz_aload_n (M := kt_M383) kX13_declaration_c13.2.2.2.2.2.2.2.1 rfl ?_
          refine kz_iload_n (M := kt_M383) kX13_declaration_c14.1 rfl ?_
          refine kz_cv0 (M := kt_M383) (c := 12) (o := 0) (As := [.int v2]) (rest := []) kX13_declaration_c14.2.1 wl_X13_677 wMv_554 rfl (.inl rfl) rfl (Nat.le_trans (Nat.le_of_ble_eq_true rfl) hL) (Nat.le_of_ble_eq_true rfl) (Nat.le_of_ble_eq_true rfl) h (fun w45 hle h => ?_) (fun _ _ _ h => kzx_no rfl h)
          have h := h hle
          exact kz_weak [(0, .ref (w_adr E.2.1 12 0)), (3, .int v2)] ⟨rfl, ⟨rfl, trivial⟩⟩ rfl (zt_X13_declaration_p254 hL  h)
        · skip
          refine kz_aload_n (M := kt_M383) kX13_declaration_c12.2.2.2.2.2.2.1 rfl ?_
          refine kz_gfc (M := kt_M383) (x := 4098) (c := 12) (o := 0) kX13_declaration_c12.2.2.2.2.2.2.2.1 wf_X13_187 (.inl rfl) ?_
          refine kz_iload_n (M := kt_M383) kX13_declaration_c13.1 rfl ?_
          refine kz_bi (M := kt_M383) 31 kX13_declaration_c13.2.1 rfl ?_
          refine kz_iast (M := kt_M383) (c := 12) (o := 0) (k := 26) (a := (E.2.1 4098)) kX13_declaration_c13.2.2.1 ow_12_0_26 oa_12_0_26 ot_0 h (fun h => ?_)
          refine kz_aload_n (M := kt_M383) kX13_declaration_c13.2.2.2.1 rfl ?_
          refine kz_iload_n (M := kt_M383) kX13_declaration_c13.2.2.2.2.1 rfl ?_
          refine kz_cv0 (M := kt_M383) (c := 12) (o := 0) (As := [.int v2]) (rest := []) kX13_declaration_c13.2.2.2.2.2.1 wl_X13_689 wMv_553 rfl (.inl rfl) rfl (Nat.le_trans (Nat.le_of_ble_eq_true rfl) hL) (Nat.le_of_ble_eq_true rfl) (Nat.le_of_ble_eq_true rfl) h (fun w47 hle h => ?_) (fun _ _ _ h => kzx_no rfl h)
          have h := h hle
          refine kz_goto (M := kt_M383) kX13_declaration_c13.2.2.2.2.2.2.1 (t := 254) rfl ?_
          exact kz_weak [(0, .ref (w_adr E.2.1 12 0)), (3, .int v2)] ⟨rfl, ⟨rfl, trivial⟩⟩ rfl (zt_X13_declaration_p254 hL  h)
      · skip
        refine kz_aload_n (M := kt_M383) kX13_declaration_c7.2.2.2.2.1 rfl ?_
        refine kz_dup (M := kt_M383) kX13_declaration_c7.2.2.2.2.2.1 rfl ?_
        refine kz_gfi (M := kt_M383) (c := 12) (o := 0) kX13_declaration_c7.2.2.2.2.2.2.1 wf_X13_669 (.inl rfl) ?_
        refine kz_ic (M := kt_M383) 1 kX13_declaration_c7.2.2.2.2.2.2.2.1 rfl ?_
        refine kz_isub (M := kt_M383) kX13_declaration_c8.1 ?_
        refine kz_pfi (M := kt_M383) (c := 12) (o := 0) kX13_declaration_c8.2.1 wq_X13_669 (.inl rfl) ?_
        refine kz_aload_n (M := kt_M383) kX13_declaration_c8.2.2.1 rfl ?_
        refine kz_cv1 (M := kt_M383) (c := 12) (o := 0) (As := []) (rest := []) kX13_declaration_c8.2.2.2.1 wl_X13_560 wMv_462 rfl (.inl rfl) rfl (Nat.le_trans (Nat.le_of_ble_eq_true rfl) hL) (Nat.le_of_ble_eq_true rfl) (Nat.le_of_ble_eq_true rfl) h (fun v50 w49 hle h => ?_) (fun _ _ _ h => kzx_no rfl h)
        have h := h hle
        refine kz_bi (M := kt_M383) 6 kX13_declaration_c8.2.2.2.2.1 rfl ?_
        refine kz_icmp_ne (M := kt_M383) kX13_declaration_c8.2.2.2.2.2.1 (t := 183) rfl h (fun h => ?_) (fun h => ?_)
        · skip
          refine kz_aload_n (M := kt_M383) kX13_declaration_c9.2.2.1 rfl ?_
          refine kz_iload_n (M := kt_M383) kX13_declaration_c9.2.2.2.1 rfl ?_
          refine kz_cv0 (M := kt_M383) (c := 12) (o := 0) (As := [.int v2]) (rest := []) kX13_declaration_c9.2.2.2.2.1 wl_X13_677 wMv_554 rfl (.inl rfl) rfl (Nat.le_trans (Nat.le_of_ble_eq_true rfl) hL) (Nat.le_of_ble_eq_true rfl) (Nat.le_of_ble_eq_true rfl) h (fun w51 hle h => ?_) (fun _ _ _ h => kzx_no rfl h)
          have h := h hle
          exact kz_weak [(0, .ref (w_adr E.2.1 12 0)), (3, .int v2)] ⟨rfl, ⟨rfl, trivial⟩⟩ rfl (zt_X13_declaration_p188 hL  h)
        · skip
          refine kz_aload_n (M := kt_M383) kX13_declaration_c8.2.2.2.2.2.2.1 rfl ?_
          refine kz_iload_n (M := kt_M383) kX13_declaration_c8.2.2.2.2.2.2.2.1 rfl ?_
          refine kz_cv0 (M := kt_M383) (c := 12) (o := 0) (As := [.int v2]) (rest := []) kX13_declaration_c9.1 wl_X13_689 wMv_553 rfl (.inl rfl) rfl (Nat.le_trans (Nat.le_of_ble_eq_true rfl) hL) (Nat.le_of_ble_eq_true rfl) (Nat.le_of_ble_eq_true rfl) h (fun w53 hle h => ?_) (fun _ _ _ h => kzx_no rfl h)
          have h := h hle
          refine kz_goto (M := kt_M383) kX13_declaration_c9.2.1 (t := 188) rfl ?_
          exact kz_weak [(0, .ref (w_adr E.2.1 12 0)), (3, .int v2)] ⟨rfl, ⟨rfl, trivial⟩⟩ rfl (zt_X13_declaration_p188 hL  h)
    · skip
      refine kz_aload_n (M := kt_M383) kX13_declaration_c25.2.2.2.2.2.2.1 rfl ?_
      refine kz_iload_n (M := kt_M383) kX13_declaration_c25.2.2.2.2.2.2.2.1 rfl ?_
      refine kz_iload_n (M := kt_M383) kX13_declaration_c26.1 rfl ?_
      refine kz_cv1 (M := kt_M383) (c := 12) (o := 0) (As := [.int v2, .int x1]) (rest := []) kX13_declaration_c26.2.1 wl_X13_698 wMv_512 rfl (.inl rfl) rfl (Nat.le_trans (Nat.le_of_ble_eq_true rfl) hL) (Nat.le_of_ble_eq_true rfl) (Nat.le_of_ble_eq_true rfl) h (fun v56 w55 hle h => ?_) (fun _ _ _ h => kzx_no rfl h)
      have h := h hle
      exact kz_iret (M := kt_M383) kX13_declaration_c26.2.2.1 rfl rfl h
  · skip
    refine kz_aload_n (M := kt_M383) kX13_declaration_c2.2.1 rfl ?_
    refine kz_iload_n (M := kt_M383) kX13_declaration_c2.2.2.1 rfl ?_
    refine kz_cv0 (M := kt_M383) (c := 12) (o := 0) (As := [.int v2]) (rest := []) kX13_declaration_c2.2.2.2.1 wl_X13_677 wMv_554 rfl (.inl rfl) rfl (Nat.le_trans (Nat.le_of_ble_eq_true rfl) hL) (Nat.le_of_ble_eq_true rfl) (Nat.le_of_ble_eq_true rfl) h (fun w57 hle h => ?_) (fun _ _ _ h => kzx_no rfl h)
    have h := h hle
    refine kz_aload_n (M := kt_M383) kX13_declaration_c2.2.2.2.2.1 rfl ?_
    refine kz_cv1 (M := kt_M383) (c := 12) (o := 0) (As := []) (rest := []) kX13_declaration_c2.2.2.2.2.2.1 wl_X13_560 wMv_462 rfl (.inl rfl) rfl (Nat.le_trans (Nat.le_of_ble_eq_true rfl) hL) (Nat.le_of_ble_eq_true rfl) (Nat.le_of_ble_eq_true rfl) h (fun v60 w59 hle h => ?_) (fun _ _ _ h => kzx_no rfl h)
    have h := h hle
    refine kz_bi (M := kt_M383) 10 kX13_declaration_c2.2.2.2.2.2.2.1 rfl ?_
    refine kz_icmp_ne (M := kt_M383) kX13_declaration_c2.2.2.2.2.2.2.2.1 (t := 53) rfl h (fun h => ?_) (fun h => ?_)
    · skip
      refine kz_aload_n (M := kt_M383) kX13_declaration_c3.2.2.2.2.2.1 rfl ?_
      refine kz_cv1 (M := kt_M383) (c := 12) (o := 0) (As := []) (rest := []) kX13_declaration_c3.2.2.2.2.2.2.1 wl_X13_639 wMv_601 rfl (.inl rfl) rfl (Nat.le_trans (Nat.le_of_ble_eq_true rfl) hL) (Nat.le_of_ble_eq_true rfl) (Nat.le_of_ble_eq_true rfl) h (fun v62 w61 hle h => ?_) (fun _ _ _ h => kzx_no rfl h)
      have h := h hle
      refine kz_sti (M := kt_M383) [(0, .ref (w_adr E.2.1 12 0)), (3, .int v2)] kX13_declaration_c3.2.2.2.2.2.2.2.1 (Nat.le_of_ble_eq_true rfl) ⟨⟨rfl, rfl, .inl rfl⟩, ⟨⟨rfl, rfl, .inl rfl⟩, trivial⟩⟩ rfl ?_
      refine kz_aload_n (M := kt_M383) kX13_declaration_c4.1 rfl ?_
      refine kz_cv1 (M := kt_M383) (c := 12) (o := 0) (As := []) (rest := []) kX13_declaration_c4.2.1 wl_X13_560 wMv_462 rfl (.inl rfl) rfl (Nat.le_trans (Nat.le_of_ble_eq_true rfl) hL) (Nat.le_of_ble_eq_true rfl) (Nat.le_of_ble_eq_true rfl) h (fun v64 w63 hle h => ?_) (fun _ _ _ h => kzx_no rfl h)
      have h := h hle
      refine kz_bi (M := kt_M383) 13 kX13_declaration_c4.2.2.1 rfl ?_
      refine kz_icmp_ne (M := kt_M383) kX13_declaration_c4.2.2.2.1 (t := 76) rfl h (fun h => ?_) (fun h => ?_)
      · skip
        refine kz_aload_n (M := kt_M383) kX13_declaration_c5.2.1 rfl ?_
        refine kz_iload_n (M := kt_M383) kX13_declaration_c5.2.2.1 rfl ?_
        refine kz_iload (M := kt_M383) kX13_declaration_c5.2.2.2.1 rfl ?_
        refine kz_cv0 (M := kt_M383) (c := 12) (o := 0) (As := [.int v2, .int v62]) (rest := []) kX13_declaration_c5.2.2.2.2.1 wl_X13_686 wMv_451 rfl (.inl rfl) rfl (Nat.le_trans (Nat.le_of_ble_eq_true rfl) hL) (Nat.le_of_ble_eq_true rfl) (Nat.le_of_ble_eq_true rfl) h (fun w65 hle h => ?_) (fun _ _ _ h => kzx_no rfl h)
        have h := h hle
        refine kz_iload_n (M := kt_M383) kX13_declaration_c5.2.2.2.2.2.1 rfl ?_
        exact kz_iret (M := kt_M383) kX13_declaration_c5.2.2.2.2.2.2.1 rfl rfl h
      · skip
        refine kz_aload_n (M := kt_M383) kX13_declaration_c4.2.2.2.2.1 rfl ?_
        refine kz_iload_n (M := kt_M383) kX13_declaration_c4.2.2.2.2.2.1 rfl ?_
        refine kz_iload (M := kt_M383) kX13_declaration_c4.2.2.2.2.2.2.1 rfl ?_
        refine kz_cv1 (M := kt_M383) (c := 12) (o := 0) (As := [.int v2, .int v62]) (rest := []) kX13_declaration_c4.2.2.2.2.2.2.2.1 wl_X13_683 wMv_339 rfl (.inl rfl) rfl (Nat.le_trans (Nat.le_of_ble_eq_true rfl) hL) (Nat.le_of_ble_eq_true rfl) (Nat.le_of_ble_eq_true rfl) h (fun v68 w67 hle h => ?_) (fun _ _ _ h => kzx_no rfl h)
        have h := h hle
        exact kz_iret (M := kt_M383) kX13_declaration_c5.1 rfl rfl h
    · skip
      refine kz_aload_n (M := kt_M383) kX13_declaration_c3.1 rfl ?_
      refine kz_iload_n (M := kt_M383) kX13_declaration_c3.2.1 rfl ?_
      refine kz_iload_n (M := kt_M383) kX13_declaration_c3.2.2.1 rfl ?_
      refine kz_cv1 (M := kt_M383) (c := 12) (o := 0) (As := [.int v2, .int x1]) (rest := []) kX13_declaration_c3.2.2.2.1 wl_X13_680 wMv_417 rfl (.inl rfl) rfl (Nat.le_trans (Nat.le_of_ble_eq_true rfl) hL) (Nat.le_of_ble_eq_true rfl) (Nat.le_of_ble_eq_true rfl) h (fun v70 w69 hle h => ?_) (fun _ _ _ h => kzx_no rfl h)
      have h := h hle
      exact kz_iret (M := kt_M383) kX13_declaration_c3.2.2.2.2.1 rfl rfl h
def zb_X13_takeType_p43 (E : zE) (L : Nat) (Q : kx_Rs → wS → Prop) (y0 : Int32) (y1 : Int32) (w : wS) : Prop := (kx_inb y1 (w_n w 12 0 33) = true ∧ Q (.inl none) (ws_i (ws_a w 12 0 33 (y1).toNatClampNeg y0) 12 0 35 ((w_i w 12 0 35) + 1)))
theorem zt_X13_takeType_p43 {E : zE} {L : Nat} {Q : kx_Rs → wS → Prop} {y0 : Int32} {y1 : Int32} {w : wS} (hL : 22 ≤ L) (h : zb_X13_takeType_p43 E L Q y0 y1 w) : kzE E L kt_M554 43 [(0, .ref (w_adr E.2.1 12 0))] [.int y0, .int y1, .ref (E.2.1 4105)] w Q := by
  unfold zb_X13_takeType_p43 at h
  refine kz_iast (M := kt_M554) (c := 12) (o := 0) (k := 33) (a := (E.2.1 4105)) kX13_takeType_c3.1 ow_12_0_33 oa_12_0_33 ot_0 h (fun h => ?_)
  refine kz_aload_n (M := kt_M554) kX13_takeType_c3.2.1 rfl ?_
  refine kz_dup (M := kt_M554) kX13_takeType_c3.2.2.1 rfl ?_
  refine kz_gfiR (M := kt_M554) (c := 12) (o := 0) (w_i w 12 0 35) kX13_takeType_c3.2.2.2.1 wf_X13_547 (.inl rfl) rd_i_a ?_
  refine kz_ic (M := kt_M554) 1 kX13_takeType_c3.2.2.2.2.1 rfl ?_
  refine kz_iadd (M := kt_M554) kX13_takeType_c3.2.2.2.2.2.1 ?_
  refine kz_pfi (M := kt_M554) (c := 12) (o := 0) kX13_takeType_c3.2.2.2.2.2.2.1 wq_X13_547 (.inl rfl) ?_
  exact kz_ret (M := kt_M554) kX13_takeType_c3.2.2.2.2.2.2.2.1 rfl h
def zb_X13_takeType_p0 (E : zE) (L : Nat) (Q : kx_Rs → wS → Prop) (x1 : Int32) (w : wS) : Prop := zw E (L - 20) kt_M462 [.ref (w_adr E.2.1 12 0)] w (wk1 (fun v2 w1 => wle w w1 → zw E (L - 20) kt_M448 [.int v2] w1 (wk1 (fun v4 w3 => wle w1 w3 → (if ¬ v4 = 0 then (if ¬ v2 = 12 then (if ¬ v2 = 4 then zb_X13_takeType_p43 E L Q 2 x1 w3 else zb_X13_takeType_p43 E L Q 1 x1 w3) else zb_X13_takeType_p43 E L Q 0 x1 w3) else zw E (L - 22) kt_M545 [.ref (w_adr E.2.1 12 0), .int 2] w3 (wkr (fun v6 w5 => wle w3 w5 → (v6 = some (w_adr E.2.1 13 0) ∧ Q (.inr "MeetingHouseModel$Halt") w5)) (fun e w => Q (.inr e) w)))) (fun e w => Q (.inr e) w))) (fun e w => Q (.inr e) w))
theorem zt_X13_takeType_p0 {E : zE} {L : Nat} {Q : kx_Rs → wS → Prop} {x1 : Int32} {w : wS} (hL : 22 ≤ L) (h : zb_X13_takeType_p0 E L Q x1 w) : kzE E L kt_M554 0 [(0, .ref (w_adr E.2.1 12 0)), (1, .int x1)] [] w Q := by
  unfold zb_X13_takeType_p0 at h
  refine kz_aload_n (M := kt_M554) kX13_takeType_c0.1 rfl ?_
  refine kz_cv1 (M := kt_M554) (c := 12) (o := 0) (As := []) (rest := []) kX13_takeType_c0.2.1 wl_X13_560 wMv_462 rfl (.inl rfl) rfl (Nat.le_trans (Nat.le_of_ble_eq_true rfl) hL) (Nat.le_of_ble_eq_true rfl) (Nat.le_of_ble_eq_true rfl) h (fun v2 w1 hle h => ?_) (fun _ _ _ h => kzx_no rfl h)
  have h := h hle
  refine kz_sti_n (M := kt_M554) [(0, .ref (w_adr E.2.1 12 0)), (1, .int x1)] kX13_takeType_c0.2.2.1 (Nat.le_of_ble_eq_true rfl) ⟨⟨rfl, rfl, .inl rfl⟩, ⟨⟨rfl, rfl, .inr rfl⟩, trivial⟩⟩ rfl ?_
  refine kz_iload_n (M := kt_M554) kX13_takeType_c0.2.2.2.1 rfl ?_
  refine kz_cs1 (M := kt_M554) (As := [.int v2]) (rest := []) kX13_takeType_c0.2.2.2.2.1 wl_X13_563 wMs_448 rfl (Nat.le_trans (Nat.le_of_ble_eq_true rfl) hL) (Nat.le_of_ble_eq_true rfl) (Nat.le_of_ble_eq_true rfl) h (fun v4 w3 hle h => ?_) (fun _ _ _ h => kzx_no rfl h)
  have h := h hle
  refine kz_if_ne (M := kt_M554) kX13_takeType_c0.2.2.2.2.2.1 (t := 18) rfl h (fun h => ?_) (fun h => ?_)
  · skip
    refine kz_aload_n (M := kt_M554) kX13_takeType_c1.2.2.1 rfl ?_
    refine kz_gfc (M := kt_M554) (x := 4105) (c := 12) (o := 0) kX13_takeType_c1.2.2.2.1 wf_X13_208 (.inl rfl) ?_
    refine kz_iload_n (M := kt_M554) kX13_takeType_c1.2.2.2.2.1 rfl ?_
    refine kz_iload_n (M := kt_M554) kX13_takeType_c1.2.2.2.2.2.1 rfl ?_
    refine kz_bi (M := kt_M554) 12 kX13_takeType_c1.2.2.2.2.2.2.1 rfl ?_
    refine kz_icmp_ne (M := kt_M554) kX13_takeType_c1.2.2.2.2.2.2.2.1 (t := 33) rfl h (fun h => ?_) (fun h => ?_)
    · skip
      refine kz_iload_n (M := kt_M554) kX13_takeType_c2.2.2.1 rfl ?_
      refine kz_ic (M := kt_M554) 4 kX13_takeType_c2.2.2.2.1 rfl ?_
      refine kz_icmp_ne (M := kt_M554) kX13_takeType_c2.2.2.2.2.1 (t := 42) rfl h (fun h => ?_) (fun h => ?_)
      · skip
        refine kz_ic (M := kt_M554) 2 kX13_takeType_c2.2.2.2.2.2.2.2.1 rfl ?_
        exact kz_weak [(0, .ref (w_adr E.2.1 12 0))] ⟨rfl, trivial⟩ rfl (zt_X13_takeType_p43 hL  h)
      · skip
        refine kz_ic (M := kt_M554) 1 kX13_takeType_c2.2.2.2.2.2.1 rfl ?_
        refine kz_goto (M := kt_M554) kX13_takeType_c2.2.2.2.2.2.2.1 (t := 43) rfl ?_
        exact kz_weak [(0, .ref (w_adr E.2.1 12 0))] ⟨rfl, trivial⟩ rfl (zt_X13_takeType_p43 hL  h)
    · skip
      refine kz_ic (M := kt_M554) 0 kX13_takeType_c2.1 rfl ?_
      refine kz_goto (M := kt_M554) kX13_takeType_c2.2.1 (t := 43) rfl ?_
      exact kz_weak [(0, .ref (w_adr E.2.1 12 0))] ⟨rfl, trivial⟩ rfl (zt_X13_takeType_p43 hL  h)
  · skip
    refine kz_aload_n (M := kt_M554) kX13_takeType_c0.2.2.2.2.2.2.1 rfl ?_
    refine kz_ic (M := kt_M554) 2 kX13_takeType_c0.2.2.2.2.2.2.2.1 rfl ?_
    refine kz_cvr (M := kt_M554) (c := 12) (o := 0) (As := [.int 2]) (rest := []) kX13_takeType_c1.1 wl_X13_556 wMv_545 rfl (.inl rfl) rfl (Nat.le_trans (Nat.le_of_ble_eq_true rfl) hL) (Nat.le_of_ble_eq_true rfl) (Nat.le_of_ble_eq_true rfl) h (fun v6 w5 hle h => ?_) (fun _ _ _ h => kzx_no rfl h)
    have h := h hle
    exact kz_throw (M := kt_M554) (c := 13) (o := 0) kX13_takeType_c1.2.1 rfl (.inl rfl) h (fun h => kzx_no rfl h)
def zL_X13_function_p105 (E : zE) (L : Nat) (Q : kx_Rs → wS → Prop) (x1 : Int32) (x2 : Int32) (x3 : Int32) (w : wS) : Prop := kzE E L kt_M417 105 [(0, .ref (w_adr E.2.1 12 0)), (1, .int x1), (2, .int x2), (3, .int x3)] [] w Q
def zb_X13_function_p163 (E : zE) (L : Nat) (Q : kx_Rs → wS → Prop) (x1 : Int32) (x2 : Int32) (w : wS) : Prop := zw E (L - 22) kt_M458 [.ref (w_adr E.2.1 12 0), .int (x2 + 1), .int 8] w (wk0 (fun w1 => wle w w1 → zw E (L - 20) kt_M400 [.ref (w_adr E.2.1 12 0)] (ws_i w1 12 0 35 ((w_i w1 12 0 35) + 1)) (wk0 (fun w3 => wle (ws_i w1 12 0 35 ((w_i w1 12 0 35) + 1)) w3 → zw E (L - 24) kt_M514 [.ref (w_adr E.2.1 12 0), .int (x2 + 2)] w3 (wk1 (fun v6 w5 => wle w3 w5 → (kx_inb x1 (w_n w5 12 0 29) = true ∧ zw E (L - 22) kt_M458 [.ref (w_adr E.2.1 12 0), .int (x2 + 2), .int 9] (ws_a w5 12 0 29 (x1).toNatClampNeg v6) (wk0 (fun w7 => wle (ws_a w5 12 0 29 (x1).toNatClampNeg v6) w7 → zw E (L - 22) kt_M393 [.ref (w_adr E.2.1 12 0)] (ws_i w7 12 0 35 ((w_i w7 12 0 35) + 1)) (wk1 (fun v10 w9 => wle (ws_i w7 12 0 35 ((w_i w7 12 0 35) + 1)) w9 → (kx_inb x1 (w_n w9 12 0 41) = true ∧ zw E (L - 20) kt_M400 [.ref (w_adr E.2.1 12 0)] (ws_a w9 12 0 41 (x1).toNatClampNeg v10) (wk0 (fun w11 => wle (ws_a w9 12 0 41 (x1).toNatClampNeg v10) w11 → zw E (L - 21) kt_M375 [.ref (w_adr E.2.1 12 0), .int x2] w11 (wk0 (fun w13 => wle w11 w13 → Q (.inl (some (.int x1))) w13) (fun e w => Q (.inr e) w))) (fun e w => Q (.inr e) w)))) (fun e w => Q (.inr e) w))) (fun e w => Q (.inr e) w)))) (fun e w => Q (.inr e) w))) (fun e w => Q (.inr e) w))) (fun e w => Q (.inr e) w))
theorem zt_X13_function_p163 {E : zE} {L : Nat} {Q : kx_Rs → wS → Prop} {x1 : Int32} {x2 : Int32} {w : wS} (hL : 25 ≤ L) (h : zb_X13_function_p163 E L Q x1 x2 w) : kzE E L kt_M417 163 [(0, .ref (w_adr E.2.1 12 0)), (1, .int x1), (2, .int x2)] [] w Q := by
  unfold zb_X13_function_p163 at h
  refine kz_aload_n (M := kt_M417) kX13_function_c12.1 rfl ?_
  refine kz_iload_n (M := kt_M417) kX13_function_c12.2.1 rfl ?_
  refine kz_ic (M := kt_M417) 1 kX13_function_c12.2.2.1 rfl ?_
  refine kz_iadd (M := kt_M417) kX13_function_c12.2.2.2.1 ?_
  refine kz_bi (M := kt_M417) 8 kX13_function_c12.2.2.2.2.1 rfl ?_
  refine kz_cv0 (M := kt_M417) (c := 12) (o := 0) (As := [.int (x2 + 1), .int 8]) (rest := []) kX13_function_c12.2.2.2.2.2.1 wl_X13_588 wMv_458 rfl (.inl rfl) rfl (Nat.le_trans (Nat.le_of_ble_eq_true rfl) hL) (Nat.le_of_ble_eq_true rfl) (Nat.le_of_ble_eq_true rfl) h (fun w1 hle h => ?_) (fun _ _ _ h => kzx_no rfl h)
  have h := h hle
  refine kz_aload_n (M := kt_M417) kX13_function_c12.2.2.2.2.2.2.1 rfl ?_
  refine kz_dup (M := kt_M417) kX13_function_c12.2.2.2.2.2.2.2.1 rfl ?_
  refine kz_gfi (M := kt_M417) (c := 12) (o := 0) kX13_function_c13.1 wf_X13_547 (.inl rfl) ?_
  refine kz_ic (M := kt_M417) 1 kX13_function_c13.2.1 rfl ?_
  refine kz_iadd (M := kt_M417) kX13_function_c13.2.2.1 ?_
  refine kz_pfi (M := kt_M417) (c := 12) (o := 0) kX13_function_c13.2.2.2.1 wq_X13_547 (.inl rfl) ?_
  refine kz_aload_n (M := kt_M417) kX13_function_c13.2.2.2.2.1 rfl ?_
  refine kz_cv0 (M := kt_M417) (c := 12) (o := 0) (As := []) (rest := []) kX13_function_c13.2.2.2.2.2.1 wl_X13_616 wMv_400 rfl (.inl rfl) rfl (Nat.le_trans (Nat.le_of_ble_eq_true rfl) hL) (Nat.le_of_ble_eq_true rfl) (Nat.le_of_ble_eq_true rfl) h (fun w3 hle h => ?_) (fun _ _ _ h => kzx_no rfl h)
  have h := h hle
  refine kz_aload_n (M := kt_M417) kX13_function_c13.2.2.2.2.2.2.1 rfl ?_
  refine kz_gfc (M := kt_M417) (x := 4101) (c := 12) (o := 0) kX13_function_c13.2.2.2.2.2.2.2.1 wf_X13_196 (.inl rfl) ?_
  refine kz_iload_n (M := kt_M417) kX13_function_c14.1 rfl ?_
  refine kz_aload_n (M := kt_M417) kX13_function_c14.2.1 rfl ?_
  refine kz_iload_n (M := kt_M417) kX13_function_c14.2.2.1 rfl ?_
  refine kz_ic (M := kt_M417) 2 kX13_function_c14.2.2.2.1 rfl ?_
  refine kz_iadd (M := kt_M417) kX13_function_c14.2.2.2.2.1 ?_
  refine kz_cv1 (M := kt_M417) (c := 12) (o := 0) (As := [.int (x2 + 2)]) (rest := [.int x1, .ref (E.2.1 4101)]) kX13_function_c14.2.2.2.2.2.1 wl_X13_604 wMv_514 rfl (.inl rfl) rfl (Nat.le_trans (Nat.le_of_ble_eq_true rfl) hL) (Nat.le_of_ble_eq_true rfl) (Nat.le_of_ble_eq_true rfl) h (fun v6 w5 hle h => ?_) (fun _ _ _ h => kzx_no rfl h)
  have h := h hle
  refine kz_iast (M := kt_M417) (c := 12) (o := 0) (k := 29) (a := (E.2.1 4101)) kX13_function_c14.2.2.2.2.2.2.1 ow_12_0_29 oa_12_0_29 ot_0 h (fun h => ?_)
  refine kz_aload_n (M := kt_M417) kX13_function_c14.2.2.2.2.2.2.2.1 rfl ?_
  refine kz_iload_n (M := kt_M417) kX13_function_c15.1 rfl ?_
  refine kz_ic (M := kt_M417) 2 kX13_function_c15.2.1 rfl ?_
  refine kz_iadd (M := kt_M417) kX13_function_c15.2.2.1 ?_
  refine kz_bi (M := kt_M417) 9 kX13_function_c15.2.2.2.1 rfl ?_
  refine kz_cv0 (M := kt_M417) (c := 12) (o := 0) (As := [.int (x2 + 2), .int 9]) (rest := []) kX13_function_c15.2.2.2.2.1 wl_X13_588 wMv_458 rfl (.inl rfl) rfl (Nat.le_trans (Nat.le_of_ble_eq_true rfl) hL) (Nat.le_of_ble_eq_true rfl) (Nat.le_of_ble_eq_true rfl) h (fun w7 hle h => ?_) (fun _ _ _ h => kzx_no rfl h)
  have h := h hle
  refine kz_aload_n (M := kt_M417) kX13_function_c15.2.2.2.2.2.1 rfl ?_
  refine kz_dup (M := kt_M417) kX13_function_c15.2.2.2.2.2.2.1 rfl ?_
  refine kz_gfi (M := kt_M417) (c := 12) (o := 0) kX13_function_c15.2.2.2.2.2.2.2.1 wf_X13_547 (.inl rfl) ?_
  refine kz_ic (M := kt_M417) 1 kX13_function_c16.1 rfl ?_
  refine kz_iadd (M := kt_M417) kX13_function_c16.2.1 ?_
  refine kz_pfi (M := kt_M417) (c := 12) (o := 0) kX13_function_c16.2.2.1 wq_X13_547 (.inl rfl) ?_
  refine kz_aload_n (M := kt_M417) kX13_function_c16.2.2.2.1 rfl ?_
  refine kz_gfc (M := kt_M417) (x := 4113) (c := 12) (o := 0) kX13_function_c16.2.2.2.2.1 wf_X13_214 (.inl rfl) ?_
  refine kz_iload_n (M := kt_M417) kX13_function_c16.2.2.2.2.2.1 rfl ?_
  refine kz_aload_n (M := kt_M417) kX13_function_c16.2.2.2.2.2.2.1 rfl ?_
  refine kz_cv1 (M := kt_M417) (c := 12) (o := 0) (As := []) (rest := [.int x1, .ref (E.2.1 4113)]) kX13_function_c16.2.2.2.2.2.2.2.1 wl_X13_632 wMv_393 rfl (.inl rfl) rfl (Nat.le_trans (Nat.le_of_ble_eq_true rfl) hL) (Nat.le_of_ble_eq_true rfl) (Nat.le_of_ble_eq_true rfl) h (fun v10 w9 hle h => ?_) (fun _ _ _ h => kzx_no rfl h)
  have h := h hle
  refine kz_iast (M := kt_M417) (c := 12) (o := 0) (k := 41) (a := (E.2.1 4113)) kX13_function_c17.1 ow_12_0_41 oa_12_0_41 ot_0 h (fun h => ?_)
  refine kz_aload_n (M := kt_M417) kX13_function_c17.2.1 rfl ?_
  refine kz_cv0 (M := kt_M417) (c := 12) (o := 0) (As := []) (rest := []) kX13_function_c17.2.2.1 wl_X13_616 wMv_400 rfl (.inl rfl) rfl (Nat.le_trans (Nat.le_of_ble_eq_true rfl) hL) (Nat.le_of_ble_eq_true rfl) (Nat.le_of_ble_eq_true rfl) h (fun w11 hle h => ?_) (fun _ _ _ h => kzx_no rfl h)
  have h := h hle
  refine kz_aload_n (M := kt_M417) kX13_function_c17.2.2.2.1 rfl ?_
  refine kz_iload_n (M := kt_M417) kX13_function_c17.2.2.2.2.1 rfl ?_
  refine kz_cv0 (M := kt_M417) (c := 12) (o := 0) (As := [.int x2]) (rest := []) kX13_function_c17.2.2.2.2.2.1 wl_X13_707 wMv_375 rfl (.inl rfl) rfl (Nat.le_trans (Nat.le_of_ble_eq_true rfl) hL) (Nat.le_of_ble_eq_true rfl) (Nat.le_of_ble_eq_true rfl) h (fun w13 hle h => ?_) (fun _ _ _ h => kzx_no rfl h)
  have h := h hle
  refine kz_iload_n (M := kt_M417) kX13_function_c17.2.2.2.2.2.2.1 rfl ?_
  exact kz_iret (M := kt_M417) kX13_function_c17.2.2.2.2.2.2.2.1 rfl rfl h
def zb_X13_function_p160 (E : zE) (L : Nat) (Q : kx_Rs → wS → Prop) (x1 : Int32) (x2 : Int32) (x3 : Int32) (w : wS) : Prop := zL_X13_function_p105 E L Q x1 x2 x3 w
theorem zt_X13_function_p160 {E : zE} {L : Nat} {Q : kx_Rs → wS → Prop} {x1 : Int32} {x2 : Int32} {x3 : Int32} {w : wS} (hL : 25 ≤ L) (h : zb_X13_function_p160 E L Q x1 x2 x3 w) : kzE E L kt_M417 160 [(0, .ref (w_adr E.2.1 12 0)), (1, .int x1), (2, .int x2), (3, .int x3)] [] w Q := by
  unfold zb_X13_function_p160 at h
  refine kz_goto (M := kt_M417) kX13_function_c11.2.2.2.2.2.2.2.1 (t := 105) rfl ?_
  exact kz_weak [(0, .ref (w_adr E.2.1 12 0)), (1, .int x1), (2, .int x2), (3, .int x3)] ⟨rfl, ⟨rfl, ⟨rfl, ⟨rfl, trivial⟩⟩⟩⟩ rfl h
def zb_X13_function_p105 (E : zE) (L : Nat) (Q : kx_Rs → wS → Prop) (x1 : Int32) (x2 : Int32) (x3 : Int32) (w : wS) : Prop := zw E (L - 21) kt_M438 [.ref (w_adr E.2.1 12 0), .int (x2 + 1)] w (wk1 (fun v2 w1 => wle w w1 → (if v2 = 0 then zb_X13_function_p163 E L Q x1 x2 w1 else zw E (L - 20) kt_M462 [.ref (w_adr E.2.1 12 0)] w1 (wk1 (fun v4 w3 => wle w1 w3 → zw E (L - 20) kt_M386 [.int v4] w3 (wk1 (fun v6 w5 => wle w3 w5 → (if v6 = 0 then zb_X13_function_p163 E L Q x1 x2 w5 else zw E (L - 25) kt_M383 [.ref (w_adr E.2.1 12 0), .int (x2 + 1)] w5 (wk1 (fun v8 w7 => wle w5 w7 → zw E (L - 22) kt_M368 [.ref (w_adr E.2.1 12 0), .int x3, .int v8] w7 (wk1 (fun v10 w9 => wle w7 w9 → (kx_inb x1 (w_n w9 12 0 42) = true ∧ (if ¬ w_a w9 12 0 42 (x1).toNatClampNeg = (-1) then zb_X13_function_p160 E L Q x1 x2 v10 w9 else (kx_inb x1 (w_n w9 12 0 42) = true ∧ zb_X13_function_p160 E L Q x1 x2 v10 (ws_a w9 12 0 42 (x1).toNatClampNeg v8))))) (fun e w => Q (.inr e) w))) (fun e w => Q (.inr e) w)))) (fun e w => Q (.inr e) w))) (fun e w => Q (.inr e) w)))) (fun e w => Q (.inr e) w))
theorem zt_X13_function_p105 {E : zE} {L : Nat} {Q : kx_Rs → wS → Prop} {x1 : Int32} {x2 : Int32} {x3 : Int32} {w : wS} (hL : 25 ≤ L) (h : zb_X13_function_p105 E L Q x1 x2 x3 w) : kzE E L kt_M417 105 [(0, .ref (w_adr E.2.1 12 0)), (1, .int x1), (2, .int x2), (3, .int x3)] [] w Q := by
  unfold zb_X13_function_p105 at h
  refine kz_aload_n (M := kt_M417) kX13_function_c7.2.2.2.2.2.2.2.1 rfl ?_
  refine kz_iload_n (M := kt_M417) kX13_function_c8.1 rfl ?_
  refine kz_ic (M := kt_M417) 1 kX13_function_c8.2.1 rfl ?_
  refine kz_iadd (M := kt_M417) kX13_function_c8.2.2.1 ?_
  refine kz_cv1 (M := kt_M417) (c := 12) (o := 0) (As := [.int (x2 + 1)]) (rest := []) kX13_function_c8.2.2.2.1 wl_X13_578 wMv_438 rfl (.inl rfl) rfl (Nat.le_trans (Nat.le_of_ble_eq_true rfl) hL) (Nat.le_of_ble_eq_true rfl) (Nat.le_of_ble_eq_true rfl) h (fun v2 w1 hle h => ?_) (fun _ _ _ h => kzx_no rfl h)
  have h := h hle
  refine kz_if_eq (M := kt_M417) kX13_function_c8.2.2.2.2.1 (t := 163) rfl h (fun h => ?_) (fun h => ?_)
  · skip
    exact kz_weak [(0, .ref (w_adr E.2.1 12 0)), (1, .int x1), (2, .int x2)] ⟨rfl, ⟨rfl, ⟨rfl, trivial⟩⟩⟩ rfl (zt_X13_function_p163 hL  h)
  · skip
    refine kz_aload_n (M := kt_M417) kX13_function_c8.2.2.2.2.2.1 rfl ?_
    refine kz_cv1 (M := kt_M417) (c := 12) (o := 0) (As := []) (rest := []) kX13_function_c8.2.2.2.2.2.2.1 wl_X13_560 wMv_462 rfl (.inl rfl) rfl (Nat.le_trans (Nat.le_of_ble_eq_true rfl) hL) (Nat.le_of_ble_eq_true rfl) (Nat.le_of_ble_eq_true rfl) h (fun v4 w3 hle h => ?_) (fun _ _ _ h => kzx_no rfl h)
    have h := h hle
    refine kz_cs1 (M := kt_M417) (As := [.int v4]) (rest := []) kX13_function_c8.2.2.2.2.2.2.2.1 wl_X13_569 wMs_386 rfl (Nat.le_trans (Nat.le_of_ble_eq_true rfl) hL) (Nat.le_of_ble_eq_true rfl) (Nat.le_of_ble_eq_true rfl) h (fun v6 w5 hle h => ?_) (fun _ _ _ h => kzx_no rfl h)
    have h := h hle
    refine kz_if_eq (M := kt_M417) kX13_function_c9.1 (t := 163) rfl h (fun h => ?_) (fun h => ?_)
    · skip
      exact kz_weak [(0, .ref (w_adr E.2.1 12 0)), (1, .int x1), (2, .int x2)] ⟨rfl, ⟨rfl, ⟨rfl, trivial⟩⟩⟩ rfl (zt_X13_function_p163 hL  h)
    · skip
      refine kz_aload_n (M := kt_M417) kX13_function_c9.2.1 rfl ?_
      refine kz_iload_n (M := kt_M417) kX13_function_c9.2.2.1 rfl ?_
      refine kz_ic (M := kt_M417) 1 kX13_function_c9.2.2.2.1 rfl ?_
      refine kz_iadd (M := kt_M417) kX13_function_c9.2.2.2.2.1 ?_
      refine kz_cv1 (M := kt_M417) (c := 12) (o := 0) (As := [.int (x2 + 1)]) (rest := []) kX13_function_c9.2.2.2.2.2.1 wl_X13_595 wMv_383 rfl (.inl rfl) rfl (Nat.le_trans (Nat.le_of_ble_eq_true rfl) hL) (Nat.le_of_ble_eq_true rfl) (Nat.le_of_ble_eq_true rfl) h (fun v8 w7 hle h => ?_) (fun _ _ _ h => kzx_no rfl h)
      have h := h hle
      refine kz_sti (M := kt_M417) [(0, .ref (w_adr E.2.1 12 0)), (1, .int x1), (2, .int x2), (3, .int x3)] kX13_function_c9.2.2.2.2.2.2.1 (Nat.le_of_ble_eq_true rfl) ⟨⟨rfl, rfl, .inl rfl⟩, ⟨⟨rfl, rfl, .inl rfl⟩, ⟨⟨rfl, rfl, .inl rfl⟩, ⟨⟨rfl, rfl, .inr rfl⟩, trivial⟩⟩⟩⟩ rfl ?_
      refine kz_aload_n (M := kt_M417) kX13_function_c9.2.2.2.2.2.2.2.1 rfl ?_
      refine kz_iload_n (M := kt_M417) kX13_function_c10.1 rfl ?_
      refine kz_iload (M := kt_M417) kX13_function_c10.2.1 rfl ?_
      refine kz_cv1 (M := kt_M417) (c := 12) (o := 0) (As := [.int x3, .int v8]) (rest := []) kX13_function_c10.2.2.1 wl_X13_598 wMv_368 rfl (.inl rfl) rfl (Nat.le_trans (Nat.le_of_ble_eq_true rfl) hL) (Nat.le_of_ble_eq_true rfl) (Nat.le_of_ble_eq_true rfl) h (fun v10 w9 hle h => ?_) (fun _ _ _ h => kzx_no rfl h)
      have h := h hle
      refine kz_sti_n (M := kt_M417) [(0, .ref (w_adr E.2.1 12 0)), (1, .int x1), (2, .int x2), (4, .int v8)] kX13_function_c10.2.2.2.1 (Nat.le_of_ble_eq_true rfl) ⟨⟨rfl, rfl, .inl rfl⟩, ⟨⟨rfl, rfl, .inl rfl⟩, ⟨⟨rfl, rfl, .inr rfl⟩, ⟨⟨rfl, rfl, .inl rfl⟩, trivial⟩⟩⟩⟩ rfl ?_
      refine kz_aload_n (M := kt_M417) kX13_function_c10.2.2.2.2.1 rfl ?_
      refine kz_gfc (M := kt_M417) (x := 4114) (c := 12) (o := 0) kX13_function_c10.2.2.2.2.2.1 wf_X13_217 (.inl rfl) ?_
      refine kz_iload_n (M := kt_M417) kX13_function_c10.2.2.2.2.2.2.1 rfl ?_
      refine kz_iald (M := kt_M417) (c := 12) (o := 0) (k := 42) (a := (E.2.1 4114)) kX13_function_c10.2.2.2.2.2.2.2.1 ow_12_0_42 oa_12_0_42 ot_0 h (fun h => ?_)
      refine kz_ic (M := kt_M417) (-1) kX13_function_c11.1 rfl ?_
      refine kz_icmp_ne (M := kt_M417) kX13_function_c11.2.1 (t := 160) rfl h (fun h => ?_) (fun h => ?_)
      · skip
        exact kz_weak [(0, .ref (w_adr E.2.1 12 0)), (1, .int x1), (2, .int x2), (3, .int v10)] ⟨rfl, ⟨rfl, ⟨rfl, ⟨rfl, trivial⟩⟩⟩⟩ rfl (zt_X13_function_p160 hL  h)
      · skip
        refine kz_aload_n (M := kt_M417) kX13_function_c11.2.2.1 rfl ?_
        refine kz_gfc (M := kt_M417) (x := 4114) (c := 12) (o := 0) kX13_function_c11.2.2.2.1 wf_X13_217 (.inl rfl) ?_
        refine kz_iload_n (M := kt_M417) kX13_function_c11.2.2.2.2.1 rfl ?_
        refine kz_iload (M := kt_M417) kX13_function_c11.2.2.2.2.2.1 rfl ?_
        refine kz_iast (M := kt_M417) (c := 12) (o := 0) (k := 42) (a := (E.2.1 4114)) kX13_function_c11.2.2.2.2.2.2.1 ow_12_0_42 oa_12_0_42 ot_0 h (fun h => ?_)
        exact kz_weak [(0, .ref (w_adr E.2.1 12 0)), (1, .int x1), (2, .int x2), (3, .int v10)] ⟨rfl, ⟨rfl, ⟨rfl, ⟨rfl, trivial⟩⟩⟩⟩ rfl (zt_X13_function_p160 hL  h)
def zb_X13_function_p0 (E : zE) (L : Nat) (Q : kx_Rs → wS → Prop) (x1 : Int32) (x2 : Int32) (w : wS) : Prop := (kx_inb x1 (w_n w 12 0 26) = true ∧ zw E (L - 20) kt_M601 [.ref (w_adr E.2.1 12 0)] (ws_a (ws_i w 12 0 35 ((w_i w 12 0 35) + 1)) 12 0 26 (x1).toNatClampNeg 38) (wk1 (fun v2 w1 => wle (ws_a (ws_i w 12 0 35 ((w_i w 12 0 35) + 1)) 12 0 26 (x1).toNatClampNeg 38) w1 → (kx_inb x1 (w_n w1 12 0 30) = true ∧ zw E (L - 20) kt_M462 [.ref (w_adr E.2.1 12 0)] (ws_a w1 12 0 30 (x1).toNatClampNeg v2) (wk1 (fun v4 w3 => wle (ws_a w1 12 0 30 (x1).toNatClampNeg v2) w3 → (if v4 = 40 then zw E (L - 24) kt_M414 [.ref (w_adr E.2.1 12 0)] w3 (wk1 (fun v6 w5 => wle w3 w5 → (kx_inb x1 (w_n w5 12 0 28) = true ∧ (kx_inb x1 (w_n w5 12 0 42) = true ∧ zw E (L - 21) kt_M466 [.ref (w_adr E.2.1 12 0), .int 13] (ws_a (ws_a w5 12 0 28 (x1).toNatClampNeg v6) 12 0 42 (x1).toNatClampNeg (-1)) (wk1 (fun v8 w7 => wle (ws_a (ws_a w5 12 0 28 (x1).toNatClampNeg v6) 12 0 42 (x1).toNatClampNeg (-1)) w7 → (if v8 = 0 then zw E (L - 20) kt_M400 [.ref (w_adr E.2.1 12 0)] w7 (wk0 (fun w9 => wle w7 w9 → zw E (L - 22) kt_M458 [.ref (w_adr E.2.1 12 0), .int (x2 + 1), .int 1] w9 (wk0 (fun w11 => wle w9 w11 → zL_X13_function_p105 E L Q x1 x2 (-1) w11) (fun e w => Q (.inr e) w))) (fun e w => Q (.inr e) w)) else zw E (L - 22) kt_M393 [.ref (w_adr E.2.1 12 0)] w7 (wk1 (fun v14 w13 => wle w7 w13 → (kx_inb x1 (w_n w13 12 0 41) = true ∧ zw E (L - 21) kt_M600 [.ref (w_adr E.2.1 12 0), .int 46] (ws_a w13 12 0 41 (x1).toNatClampNeg v14) (wk0 (fun w15 => wle (ws_a w13 12 0 41 (x1).toNatClampNeg v14) w15 → zw E (L - 20) kt_M400 [.ref (w_adr E.2.1 12 0)] w15 (wk0 (fun w17 => wle w15 w17 → Q (.inl (some (.int x1))) w17) (fun e w => Q (.inr e) w))) (fun e w => Q (.inr e) w)))) (fun e w => Q (.inr e) w)))) (fun e w => Q (.inr e) w))))) (fun e w => Q (.inr e) w)) else zw E (L - 22) kt_M545 [.ref (w_adr E.2.1 12 0), .int 2] w3 (wkr (fun v20 w19 => wle w3 w19 → (v20 = some (w_adr E.2.1 13 0) ∧ Q (.inr "MeetingHouseModel$Halt") w19)) (fun e w => Q (.inr e) w)))) (fun e w => Q (.inr e) w)))) (fun e w => Q (.inr e) w)))
theorem zt_X13_function_p0 {E : zE} {L : Nat} {Q : kx_Rs → wS → Prop} {x1 : Int32} {x2 : Int32} {w : wS} (hL : 25 ≤ L) (h : zb_X13_function_p0 E L Q x1 x2 w) : kzE E L kt_M417 0 [(0, .ref (w_adr E.2.1 12 0)), (1, .int x1), (2, .int x2)] [] w Q := by
  unfold zb_X13_function_p0 at h
  refine kz_aload_n (M := kt_M417) kX13_function_c0.1 rfl ?_
  refine kz_dup (M := kt_M417) kX13_function_c0.2.1 rfl ?_
  refine kz_gfi (M := kt_M417) (c := 12) (o := 0) kX13_function_c0.2.2.1 wf_X13_547 (.inl rfl) ?_
  refine kz_ic (M := kt_M417) 1 kX13_function_c0.2.2.2.1 rfl ?_
  refine kz_iadd (M := kt_M417) kX13_function_c0.2.2.2.2.1 ?_
  refine kz_pfi (M := kt_M417) (c := 12) (o := 0) kX13_function_c0.2.2.2.2.2.1 wq_X13_547 (.inl rfl) ?_
  refine kz_aload_n (M := kt_M417) kX13_function_c0.2.2.2.2.2.2.1 rfl ?_
  refine kz_gfc (M := kt_M417) (x := 4098) (c := 12) (o := 0) kX13_function_c0.2.2.2.2.2.2.2.1 wf_X13_187 (.inl rfl) ?_
  refine kz_iload_n (M := kt_M417) kX13_function_c1.1 rfl ?_
  refine kz_bi (M := kt_M417) 38 kX13_function_c1.2.1 rfl ?_
  refine kz_iastR (M := kt_M417) (n := w_n w 12 0 26) (c := 12) (o := 0) (k := 26) (a := (E.2.1 4098)) kX13_function_c1.2.2.1 ow_12_0_26 oa_12_0_26 ot_0 rd_n_i h (fun h => ?_)
  refine kz_aload_n (M := kt_M417) kX13_function_c1.2.2.2.1 rfl ?_
  refine kz_gfc (M := kt_M417) (x := 4102) (c := 12) (o := 0) kX13_function_c1.2.2.2.2.1 wf_X13_199 (.inl rfl) ?_
  refine kz_iload_n (M := kt_M417) kX13_function_c1.2.2.2.2.2.1 rfl ?_
  refine kz_aload_n (M := kt_M417) kX13_function_c1.2.2.2.2.2.2.1 rfl ?_
  refine kz_cv1 (M := kt_M417) (c := 12) (o := 0) (As := []) (rest := [.int x1, .ref (E.2.1 4102)]) kX13_function_c1.2.2.2.2.2.2.2.1 wl_X13_639 wMv_601 rfl (.inl rfl) rfl (Nat.le_trans (Nat.le_of_ble_eq_true rfl) hL) (Nat.le_of_ble_eq_true rfl) (Nat.le_of_ble_eq_true rfl) h (fun v2 w1 hle h => ?_) (fun _ _ _ h => kzx_no rfl h)
  have h := h hle
  refine kz_iast (M := kt_M417) (c := 12) (o := 0) (k := 30) (a := (E.2.1 4102)) kX13_function_c2.1 ow_12_0_30 oa_12_0_30 ot_0 h (fun h => ?_)
  refine kz_aload_n (M := kt_M417) kX13_function_c2.2.1 rfl ?_
  refine kz_cv1 (M := kt_M417) (c := 12) (o := 0) (As := []) (rest := []) kX13_function_c2.2.2.1 wl_X13_560 wMv_462 rfl (.inl rfl) rfl (Nat.le_trans (Nat.le_of_ble_eq_true rfl) hL) (Nat.le_of_ble_eq_true rfl) (Nat.le_of_ble_eq_true rfl) h (fun v4 w3 hle h => ?_) (fun _ _ _ h => kzx_no rfl h)
  have h := h hle
  refine kz_bi (M := kt_M417) 40 kX13_function_c2.2.2.2.1 rfl ?_
  refine kz_icmp_eq (M := kt_M417) kX13_function_c2.2.2.2.2.1 (t := 43) rfl h (fun h => ?_) (fun h => ?_)
  · skip
    refine kz_aload_n (M := kt_M417) kX13_function_c3.2.1 rfl ?_
    refine kz_gfc (M := kt_M417) (x := 4100) (c := 12) (o := 0) kX13_function_c3.2.2.1 wf_X13_193 (.inl rfl) ?_
    refine kz_iload_n (M := kt_M417) kX13_function_c3.2.2.2.1 rfl ?_
    refine kz_aload_n (M := kt_M417) kX13_function_c3.2.2.2.2.1 rfl ?_
    refine kz_cv1 (M := kt_M417) (c := 12) (o := 0) (As := []) (rest := [.int x1, .ref (E.2.1 4100)]) kX13_function_c3.2.2.2.2.2.1 wl_X13_710 wMv_414 rfl (.inl rfl) rfl (Nat.le_trans (Nat.le_of_ble_eq_true rfl) hL) (Nat.le_of_ble_eq_true rfl) (Nat.le_of_ble_eq_true rfl) h (fun v6 w5 hle h => ?_) (fun _ _ _ h => kzx_no rfl h)
    have h := h hle
    refine kz_iast (M := kt_M417) (c := 12) (o := 0) (k := 28) (a := (E.2.1 4100)) kX13_function_c3.2.2.2.2.2.2.1 ow_12_0_28 oa_12_0_28 ot_0 h (fun h => ?_)
    refine kz_aload_n (M := kt_M417) kX13_function_c3.2.2.2.2.2.2.2.1 rfl ?_
    refine kz_gfc (M := kt_M417) (x := 4114) (c := 12) (o := 0) kX13_function_c4.1 wf_X13_217 (.inl rfl) ?_
    refine kz_iload_n (M := kt_M417) kX13_function_c4.2.1 rfl ?_
    refine kz_ic (M := kt_M417) (-1) kX13_function_c4.2.2.1 rfl ?_
    refine kz_iastR (M := kt_M417) (n := w_n w5 12 0 42) (c := 12) (o := 0) (k := 42) (a := (E.2.1 4114)) kX13_function_c4.2.2.2.1 ow_12_0_42 oa_12_0_42 ot_0 rd_n_a h (fun h => ?_)
    refine kz_aload_n (M := kt_M417) kX13_function_c4.2.2.2.2.1 rfl ?_
    refine kz_bi (M := kt_M417) 13 kX13_function_c4.2.2.2.2.2.1 rfl ?_
    refine kz_cv1 (M := kt_M417) (c := 12) (o := 0) (As := [.int 13]) (rest := []) kX13_function_c4.2.2.2.2.2.2.1 wl_X13_642 wMv_466 rfl (.inl rfl) rfl (Nat.le_trans (Nat.le_of_ble_eq_true rfl) hL) (Nat.le_of_ble_eq_true rfl) (Nat.le_of_ble_eq_true rfl) h (fun v8 w7 hle h => ?_) (fun _ _ _ h => kzx_no rfl h)
    have h := h hle
    refine kz_if_eq (M := kt_M417) kX13_function_c4.2.2.2.2.2.2.2.1 (t := 91) rfl h (fun h => ?_) (fun h => ?_)
    · skip
      refine kz_aload_n (M := kt_M417) kX13_function_c6.2.2.2.2.2.1 rfl ?_
      refine kz_cv0 (M := kt_M417) (c := 12) (o := 0) (As := []) (rest := []) kX13_function_c6.2.2.2.2.2.2.1 wl_X13_616 wMv_400 rfl (.inl rfl) rfl (Nat.le_trans (Nat.le_of_ble_eq_true rfl) hL) (Nat.le_of_ble_eq_true rfl) (Nat.le_of_ble_eq_true rfl) h (fun w9 hle h => ?_) (fun _ _ _ h => kzx_no rfl h)
      have h := h hle
      refine kz_aload_n (M := kt_M417) kX13_function_c6.2.2.2.2.2.2.2.1 rfl ?_
      refine kz_iload_n (M := kt_M417) kX13_function_c7.1 rfl ?_
      refine kz_ic (M := kt_M417) 1 kX13_function_c7.2.1 rfl ?_
      refine kz_iadd (M := kt_M417) kX13_function_c7.2.2.1 ?_
      refine kz_ic (M := kt_M417) 1 kX13_function_c7.2.2.2.1 rfl ?_
      refine kz_cv0 (M := kt_M417) (c := 12) (o := 0) (As := [.int (x2 + 1), .int 1]) (rest := []) kX13_function_c7.2.2.2.2.1 wl_X13_588 wMv_458 rfl (.inl rfl) rfl (Nat.le_trans (Nat.le_of_ble_eq_true rfl) hL) (Nat.le_of_ble_eq_true rfl) (Nat.le_of_ble_eq_true rfl) h (fun w11 hle h => ?_) (fun _ _ _ h => kzx_no rfl h)
      have h := h hle
      refine kz_ic (M := kt_M417) (-1) kX13_function_c7.2.2.2.2.2.1 rfl ?_
      refine kz_sti_n (M := kt_M417) [(0, .ref (w_adr E.2.1 12 0)), (1, .int x1), (2, .int x2)] kX13_function_c7.2.2.2.2.2.2.1 (Nat.le_of_ble_eq_true rfl) ⟨⟨rfl, rfl, .inl rfl⟩, ⟨⟨rfl, rfl, .inl rfl⟩, ⟨⟨rfl, rfl, .inr rfl⟩, trivial⟩⟩⟩ rfl ?_
      exact kz_weak [(0, .ref (w_adr E.2.1 12 0)), (1, .int x1), (2, .int x2), (3, .int (-1))] ⟨rfl, ⟨rfl, ⟨rfl, ⟨rfl, trivial⟩⟩⟩⟩ rfl h
    · skip
      refine kz_aload_n (M := kt_M417) kX13_function_c5.1 rfl ?_
      refine kz_gfc (M := kt_M417) (x := 4113) (c := 12) (o := 0) kX13_function_c5.2.1 wf_X13_214 (.inl rfl) ?_
      refine kz_iload_n (M := kt_M417) kX13_function_c5.2.2.1 rfl ?_
      refine kz_aload_n (M := kt_M417) kX13_function_c5.2.2.2.1 rfl ?_
      refine kz_cv1 (M := kt_M417) (c := 12) (o := 0) (As := []) (rest := [.int x1, .ref (E.2.1 4113)]) kX13_function_c5.2.2.2.2.1 wl_X13_632 wMv_393 rfl (.inl rfl) rfl (Nat.le_trans (Nat.le_of_ble_eq_true rfl) hL) (Nat.le_of_ble_eq_true rfl) (Nat.le_of_ble_eq_true rfl) h (fun v14 w13 hle h => ?_) (fun _ _ _ h => kzx_no rfl h)
      have h := h hle
      refine kz_iast (M := kt_M417) (c := 12) (o := 0) (k := 41) (a := (E.2.1 4113)) kX13_function_c5.2.2.2.2.2.1 ow_12_0_41 oa_12_0_41 ot_0 h (fun h => ?_)
      refine kz_aload_n (M := kt_M417) kX13_function_c5.2.2.2.2.2.2.1 rfl ?_
      refine kz_bi (M := kt_M417) 46 kX13_function_c5.2.2.2.2.2.2.2.1 rfl ?_
      refine kz_cv0 (M := kt_M417) (c := 12) (o := 0) (As := [.int 46]) (rest := []) kX13_function_c6.1 wl_X13_585 wMv_600 rfl (.inl rfl) rfl (Nat.le_trans (Nat.le_of_ble_eq_true rfl) hL) (Nat.le_of_ble_eq_true rfl) (Nat.le_of_ble_eq_true rfl) h (fun w15 hle h => ?_) (fun _ _ _ h => kzx_no rfl h)
      have h := h hle
      refine kz_aload_n (M := kt_M417) kX13_function_c6.2.1 rfl ?_
      refine kz_cv0 (M := kt_M417) (c := 12) (o := 0) (As := []) (rest := []) kX13_function_c6.2.2.1 wl_X13_616 wMv_400 rfl (.inl rfl) rfl (Nat.le_trans (Nat.le_of_ble_eq_true rfl) hL) (Nat.le_of_ble_eq_true rfl) (Nat.le_of_ble_eq_true rfl) h (fun w17 hle h => ?_) (fun _ _ _ h => kzx_no rfl h)
      have h := h hle
      refine kz_iload_n (M := kt_M417) kX13_function_c6.2.2.2.1 rfl ?_
      exact kz_iret (M := kt_M417) kX13_function_c6.2.2.2.2.1 rfl rfl h
  · skip
    refine kz_aload_n (M := kt_M417) kX13_function_c2.2.2.2.2.2.1 rfl ?_
    refine kz_ic (M := kt_M417) 2 kX13_function_c2.2.2.2.2.2.2.1 rfl ?_
    refine kz_cvr (M := kt_M417) (c := 12) (o := 0) (As := [.int 2]) (rest := []) kX13_function_c2.2.2.2.2.2.2.2.1 wl_X13_556 wMv_545 rfl (.inl rfl) rfl (Nat.le_trans (Nat.le_of_ble_eq_true rfl) hL) (Nat.le_of_ble_eq_true rfl) (Nat.le_of_ble_eq_true rfl) h (fun v20 w19 hle h => ?_) (fun _ _ _ h => kzx_no rfl h)
    have h := h hle
    exact kz_throw (M := kt_M417) (c := 13) (o := 0) kX13_function_c3.1 rfl (.inl rfl) h (fun h => kzx_no rfl h)
def zb_X13_wantName_p0 (E : zE) (L : Nat) (Q : kx_Rs → wS → Prop) (w : wS) : Prop := (kx_inb (w_i w 12 0 35) (w_n w 12 0 7) = true ∧ (if w_a w 12 0 7 (w_i w 12 0 35).toNatClampNeg = 70 then (kx_inb (((w_i w 12 0 35) + 1) - 1) (w_n w 12 0 8) = true ∧ Q (.inl (some (.int (w_a w 12 0 8 ((((w_i w 12 0 35) + 1) - 1)).toNatClampNeg)))) (ws_i w 12 0 35 ((w_i w 12 0 35) + 1))) else zw E (L - 22) kt_M545 [.ref (w_adr E.2.1 12 0), .int 2] w (wkr (fun v2 w1 => wle w w1 → (v2 = some (w_adr E.2.1 13 0) ∧ Q (.inr "MeetingHouseModel$Halt") w1)) (fun e w => Q (.inr e) w))))
theorem zt_X13_wantName_p0 {E : zE} {L : Nat} {Q : kx_Rs → wS → Prop} {w : wS} (hL : 22 ≤ L) (h : zb_X13_wantName_p0 E L Q  w) : kzE E L kt_M601 0 [(0, .ref (w_adr E.2.1 12 0))] [] w Q := by
  unfold zb_X13_wantName_p0 at h
  refine kz_aload_n (M := kt_M601) kX13_wantName_c0.1 rfl ?_
  refine kz_gfc (M := kt_M601) (x := 4079) (c := 12) (o := 0) kX13_wantName_c0.2.1 wf_X13_157 (.inl rfl) ?_
  refine kz_aload_n (M := kt_M601) kX13_wantName_c0.2.2.1 rfl ?_
  refine kz_gfi (M := kt_M601) (c := 12) (o := 0) kX13_wantName_c0.2.2.2.1 wf_X13_547 (.inl rfl) ?_
  refine kz_iald (M := kt_M601) (c := 12) (o := 0) (k := 7) (a := (E.2.1 4079)) kX13_wantName_c0.2.2.2.2.1 ow_12_0_7 oa_12_0_7 ot_0 h (fun h => ?_)
  refine kz_bi (M := kt_M601) 70 kX13_wantName_c0.2.2.2.2.2.1 rfl ?_
  refine kz_icmp_eq (M := kt_M601) kX13_wantName_c0.2.2.2.2.2.2.1 (t := 20) rfl h (fun h => ?_) (fun h => ?_)
  · skip
    refine kz_aload_n (M := kt_M601) kX13_wantName_c1.2.2.2.1 rfl ?_
    refine kz_dup (M := kt_M601) kX13_wantName_c1.2.2.2.2.1 rfl ?_
    refine kz_gfi (M := kt_M601) (c := 12) (o := 0) kX13_wantName_c1.2.2.2.2.2.1 wf_X13_547 (.inl rfl) ?_
    refine kz_ic (M := kt_M601) 1 kX13_wantName_c1.2.2.2.2.2.2.1 rfl ?_
    refine kz_iadd (M := kt_M601) kX13_wantName_c1.2.2.2.2.2.2.2.1 ?_
    refine kz_pfi (M := kt_M601) (c := 12) (o := 0) kX13_wantName_c2.1 wq_X13_547 (.inl rfl) ?_
    refine kz_aload_n (M := kt_M601) kX13_wantName_c2.2.1 rfl ?_
    refine kz_gfc (M := kt_M601) (x := 4080) (c := 12) (o := 0) kX13_wantName_c2.2.2.1 wf_X13_160 (.inl rfl) ?_
    refine kz_aload_n (M := kt_M601) kX13_wantName_c2.2.2.2.1 rfl ?_
    refine kz_gfiR (M := kt_M601) (c := 12) (o := 0) ((w_i w 12 0 35) + 1) kX13_wantName_c2.2.2.2.2.1 wf_X13_547 (.inl rfl) rd_i_e ?_
    refine kz_ic (M := kt_M601) 1 kX13_wantName_c2.2.2.2.2.2.1 rfl ?_
    refine kz_isub (M := kt_M601) kX13_wantName_c2.2.2.2.2.2.2.1 ?_
    refine kz_ialdR (M := kt_M601) (n := w_n w 12 0 8) (c := 12) (o := 0) (k := 8) (a := (E.2.1 4080)) (w_a w 12 0 8 ((((w_i w 12 0 35) + 1) - 1)).toNatClampNeg) kX13_wantName_c2.2.2.2.2.2.2.2.1 ow_12_0_8 oa_12_0_8 ot_0 rd_n_i rd_a_i h (fun h => ?_)
    exact kz_iret (M := kt_M601) kX13_wantName_c3.1 rfl rfl h
  · skip
    refine kz_aload_n (M := kt_M601) kX13_wantName_c0.2.2.2.2.2.2.2.1 rfl ?_
    refine kz_ic (M := kt_M601) 2 kX13_wantName_c1.1 rfl ?_
    refine kz_cvr (M := kt_M601) (c := 12) (o := 0) (As := [.int 2]) (rest := []) kX13_wantName_c1.2.1 wl_X13_556 wMv_545 rfl (.inl rfl) rfl (Nat.le_trans (Nat.le_of_ble_eq_true rfl) hL) (Nat.le_of_ble_eq_true rfl) (Nat.le_of_ble_eq_true rfl) h (fun v2 w1 hle h => ?_) (fun _ _ _ h => kzx_no rfl h)
    have h := h hle
    exact kz_throw (M := kt_M601) (c := 13) (o := 0) kX13_wantName_c1.2.2.1 rfl (.inl rfl) h (fun h => kzx_no rfl h)
def zL_X13_formals_p10 (E : zE) (L : Nat) (Q : kx_Rs → wS → Prop) (x1 : Int32) (x2 : Int32) (x3 : Int32) (w : wS) : Prop := kzE E L kt_M414 10 [(0, .ref (w_adr E.2.1 12 0)), (1, .int x1), (2, .int x2), (3, .int x3)] [] w Q
def zb_X13_formals_p219 (E : zE) (L : Nat) (Q : kx_Rs → wS → Prop) (x1 : Int32) (w : wS) : Prop := zw E (L - 21) kt_M600 [.ref (w_adr E.2.1 12 0), .int 41] w (wk0 (fun w1 => wle w w1 → Q (.inl (some (.int x1))) (ws_i w1 12 0 38 ((w_i w1 12 0 38) - 1))) (fun e w => Q (.inr e) w))
theorem zt_X13_formals_p219 {E : zE} {L : Nat} {Q : kx_Rs → wS → Prop} {x1 : Int32} {w : wS} (hL : 22 ≤ L) (h : zb_X13_formals_p219 E L Q x1 w) : kzE E L kt_M414 219 [(0, .ref (w_adr E.2.1 12 0)), (1, .int x1)] [] w Q := by
  unfold zb_X13_formals_p219 at h
  refine kz_aload_n (M := kt_M414) kX13_formals_c14.2.2.2.2.1 rfl ?_
  refine kz_bi (M := kt_M414) 41 kX13_formals_c14.2.2.2.2.2.1 rfl ?_
  refine kz_cv0 (M := kt_M414) (c := 12) (o := 0) (As := [.int 41]) (rest := []) kX13_formals_c14.2.2.2.2.2.2.1 wl_X13_585 wMv_600 rfl (.inl rfl) rfl (Nat.le_trans (Nat.le_of_ble_eq_true rfl) hL) (Nat.le_of_ble_eq_true rfl) (Nat.le_of_ble_eq_true rfl) h (fun w1 hle h => ?_) (fun _ _ _ h => kzx_no rfl h)
  have h := h hle
  refine kz_aload_n (M := kt_M414) kX13_formals_c14.2.2.2.2.2.2.2.1 rfl ?_
  refine kz_dup (M := kt_M414) kX13_formals_c15.1 rfl ?_
  refine kz_gfi (M := kt_M414) (c := 12) (o := 0) kX13_formals_c15.2.1 wf_X13_669 (.inl rfl) ?_
  refine kz_ic (M := kt_M414) 1 kX13_formals_c15.2.2.1 rfl ?_
  refine kz_isub (M := kt_M414) kX13_formals_c15.2.2.2.1 ?_
  refine kz_pfi (M := kt_M414) (c := 12) (o := 0) kX13_formals_c15.2.2.2.2.1 wq_X13_669 (.inl rfl) ?_
  refine kz_iload_n (M := kt_M414) kX13_formals_c15.2.2.2.2.2.1 rfl ?_
  exact kz_iret (M := kt_M414) kX13_formals_c15.2.2.2.2.2.2.1 rfl rfl h
def zb_X13_formals_p213 (E : zE) (L : Nat) (Q : kx_Rs → wS → Prop) (x1 : Int32) (x2 : Int32) (x3 : Int32) (w : wS) : Prop := zL_X13_formals_p10 E L Q x1 x2 (x3 + 1) w
theorem zt_X13_formals_p213 {E : zE} {L : Nat} {Q : kx_Rs → wS → Prop} {x1 : Int32} {x2 : Int32} {x3 : Int32} {w : wS} (hL : 22 ≤ L) (h : zb_X13_formals_p213 E L Q x1 x2 x3 w) : kzE E L kt_M414 213 [(0, .ref (w_adr E.2.1 12 0)), (1, .int x1), (2, .int x2), (3, .int x3)] [] w Q := by
  unfold zb_X13_formals_p213 at h
  refine kz_inc (M := kt_M414) [(0, .ref (w_adr E.2.1 12 0)), (1, .int x1), (2, .int x2)] kX13_formals_c14.2.2.1 rfl (Nat.le_of_ble_eq_true rfl) ⟨⟨rfl, rfl, .inl rfl⟩, ⟨⟨rfl, rfl, .inl rfl⟩, ⟨⟨rfl, rfl, .inr rfl⟩, trivial⟩⟩⟩ rfl ?_
  refine kz_goto (M := kt_M414) kX13_formals_c14.2.2.2.1 (t := 10) rfl ?_
  exact kz_weak [(0, .ref (w_adr E.2.1 12 0)), (1, .int x1), (2, .int x2), (3, .int (x3 + 1))] ⟨rfl, ⟨rfl, ⟨rfl, ⟨rfl, trivial⟩⟩⟩⟩ rfl h
def zb_X13_formals_p186 (E : zE) (L : Nat) (Q : kx_Rs → wS → Prop) (x1 : Int32) (x2 : Int32) (x3 : Int32) (x4 : Int32) (w : wS) : Prop := zw E (L - 20) kt_M601 [.ref (w_adr E.2.1 12 0)] w (wk1 (fun v2 w1 => wle w w1 → (kx_inb x4 (w_n w1 12 0 30) = true ∧ zw E (L - 22) kt_M368 [.ref (w_adr E.2.1 12 0), .int x2, .int x4] (ws_a w1 12 0 30 (x4).toNatClampNeg v2) (wk1 (fun v4 w3 => wle (ws_a w1 12 0 30 (x4).toNatClampNeg v2) w3 → (if ¬ x1 = (-1) then zb_X13_formals_p213 E L Q x1 v4 x3 w3 else zb_X13_formals_p213 E L Q x4 v4 x3 w3)) (fun e w => Q (.inr e) w)))) (fun e w => Q (.inr e) w))
theorem zt_X13_formals_p186 {E : zE} {L : Nat} {Q : kx_Rs → wS → Prop} {x1 : Int32} {x2 : Int32} {x3 : Int32} {x4 : Int32} {w : wS} (hL : 22 ≤ L) (h : zb_X13_formals_p186 E L Q x1 x2 x3 x4 w) : kzE E L kt_M414 186 [(0, .ref (w_adr E.2.1 12 0)), (1, .int x1), (2, .int x2), (3, .int x3), (4, .int x4)] [] w Q := by
  unfold zb_X13_formals_p186 at h
  refine kz_aload_n (M := kt_M414) kX13_formals_c12.2.2.1 rfl ?_
  refine kz_gfc (M := kt_M414) (x := 4102) (c := 12) (o := 0) kX13_formals_c12.2.2.2.1 wf_X13_199 (.inl rfl) ?_
  refine kz_iload (M := kt_M414) kX13_formals_c12.2.2.2.2.1 rfl ?_
  refine kz_aload_n (M := kt_M414) kX13_formals_c12.2.2.2.2.2.1 rfl ?_
  refine kz_cv1 (M := kt_M414) (c := 12) (o := 0) (As := []) (rest := [.int x4, .ref (E.2.1 4102)]) kX13_formals_c12.2.2.2.2.2.2.1 wl_X13_639 wMv_601 rfl (.inl rfl) rfl (Nat.le_trans (Nat.le_of_ble_eq_true rfl) hL) (Nat.le_of_ble_eq_true rfl) (Nat.le_of_ble_eq_true rfl) h (fun v2 w1 hle h => ?_) (fun _ _ _ h => kzx_no rfl h)
  have h := h hle
  refine kz_iast (M := kt_M414) (c := 12) (o := 0) (k := 30) (a := (E.2.1 4102)) kX13_formals_c12.2.2.2.2.2.2.2.1 ow_12_0_30 oa_12_0_30 ot_0 h (fun h => ?_)
  refine kz_aload_n (M := kt_M414) kX13_formals_c13.1 rfl ?_
  refine kz_iload_n (M := kt_M414) kX13_formals_c13.2.1 rfl ?_
  refine kz_iload (M := kt_M414) kX13_formals_c13.2.2.1 rfl ?_
  refine kz_cv1 (M := kt_M414) (c := 12) (o := 0) (As := [.int x2, .int x4]) (rest := []) kX13_formals_c13.2.2.2.1 wl_X13_598 wMv_368 rfl (.inl rfl) rfl (Nat.le_trans (Nat.le_of_ble_eq_true rfl) hL) (Nat.le_of_ble_eq_true rfl) (Nat.le_of_ble_eq_true rfl) h (fun v4 w3 hle h => ?_) (fun _ _ _ h => kzx_no rfl h)
  have h := h hle
  refine kz_sti_n (M := kt_M414) [(0, .ref (w_adr E.2.1 12 0)), (1, .int x1), (3, .int x3), (4, .int x4)] kX13_formals_c13.2.2.2.2.1 (Nat.le_of_ble_eq_true rfl) ⟨⟨rfl, rfl, .inl rfl⟩, ⟨⟨rfl, rfl, .inr rfl⟩, ⟨⟨rfl, rfl, .inl rfl⟩, ⟨⟨rfl, rfl, .inl rfl⟩, trivial⟩⟩⟩⟩ rfl ?_
  refine kz_iload_n (M := kt_M414) kX13_formals_c13.2.2.2.2.2.1 rfl ?_
  refine kz_ic (M := kt_M414) (-1) kX13_formals_c13.2.2.2.2.2.2.1 rfl ?_
  refine kz_icmp_ne (M := kt_M414) kX13_formals_c13.2.2.2.2.2.2.2.1 (t := 213) rfl h (fun h => ?_) (fun h => ?_)
  · skip
    exact kz_weak [(0, .ref (w_adr E.2.1 12 0)), (1, .int x1), (2, .int v4), (3, .int x3)] ⟨rfl, ⟨rfl, ⟨rfl, ⟨rfl, trivial⟩⟩⟩⟩ rfl (zt_X13_formals_p213 hL  h)
  · skip
    refine kz_iload (M := kt_M414) kX13_formals_c14.1 rfl ?_
    refine kz_sti_n (M := kt_M414) [(0, .ref (w_adr E.2.1 12 0)), (2, .int v4), (3, .int x3)] kX13_formals_c14.2.1 (Nat.le_of_ble_eq_true rfl) ⟨⟨rfl, rfl, .inr rfl⟩, ⟨⟨rfl, rfl, .inl rfl⟩, ⟨⟨rfl, rfl, .inl rfl⟩, trivial⟩⟩⟩ rfl ?_
    exact kz_weak [(0, .ref (w_adr E.2.1 12 0)), (1, .int x4), (2, .int v4), (3, .int x3)] ⟨rfl, ⟨rfl, ⟨rfl, ⟨rfl, trivial⟩⟩⟩⟩ rfl (zt_X13_formals_p213 hL  h)
def zb_X13_formals_p162 (E : zE) (L : Nat) (Q : kx_Rs → wS → Prop) (x1 : Int32) (x2 : Int32) (x3 : Int32) (x4 : Int32) (w : wS) : Prop := zw E (L - 20) kt_M462 [.ref (w_adr E.2.1 12 0)] w (wk1 (fun v2 w1 => wle w w1 → (if ¬ v2 = 6 then zw E (L - 22) kt_M554 [.ref (w_adr E.2.1 12 0), .int x4] w1 (wk0 (fun w3 => wle w1 w3 → zb_X13_formals_p186 E L Q x1 x2 x3 x4 w3) (fun e w => Q (.inr e) w)) else zw E (L - 21) kt_M553 [.ref (w_adr E.2.1 12 0), .int x4] w1 (wk0 (fun w5 => wle w1 w5 → zb_X13_formals_p186 E L Q x1 x2 x3 x4 w5) (fun e w => Q (.inr e) w)))) (fun e w => Q (.inr e) w))
theorem zt_X13_formals_p162 {E : zE} {L : Nat} {Q : kx_Rs → wS → Prop} {x1 : Int32} {x2 : Int32} {x3 : Int32} {x4 : Int32} {w : wS} (hL : 22 ≤ L) (h : zb_X13_formals_p162 E L Q x1 x2 x3 x4 w) : kzE E L kt_M414 162 [(0, .ref (w_adr E.2.1 12 0)), (1, .int x1), (2, .int x2), (3, .int x3), (4, .int x4)] [] w Q := by
  unfold zb_X13_formals_p162 at h
  refine kz_aload_n (M := kt_M414) kX13_formals_c10.2.2.2.2.2.2.2.1 rfl ?_
  refine kz_cv1 (M := kt_M414) (c := 12) (o := 0) (As := []) (rest := []) kX13_formals_c11.1 wl_X13_560 wMv_462 rfl (.inl rfl) rfl (Nat.le_trans (Nat.le_of_ble_eq_true rfl) hL) (Nat.le_of_ble_eq_true rfl) (Nat.le_of_ble_eq_true rfl) h (fun v2 w1 hle h => ?_) (fun _ _ _ h => kzx_no rfl h)
  have h := h hle
  refine kz_bi (M := kt_M414) 6 kX13_formals_c11.2.1 rfl ?_
  refine kz_icmp_ne (M := kt_M414) kX13_formals_c11.2.2.1 (t := 180) rfl h (fun h => ?_) (fun h => ?_)
  · skip
    refine kz_aload_n (M := kt_M414) kX13_formals_c11.2.2.2.2.2.2.2.1 rfl ?_
    refine kz_iload (M := kt_M414) kX13_formals_c12.1 rfl ?_
    refine kz_cv0 (M := kt_M414) (c := 12) (o := 0) (As := [.int x4]) (rest := []) kX13_formals_c12.2.1 wl_X13_677 wMv_554 rfl (.inl rfl) rfl (Nat.le_trans (Nat.le_of_ble_eq_true rfl) hL) (Nat.le_of_ble_eq_true rfl) (Nat.le_of_ble_eq_true rfl) h (fun w3 hle h => ?_) (fun _ _ _ h => kzx_no rfl h)
    have h := h hle
    exact kz_weak [(0, .ref (w_adr E.2.1 12 0)), (1, .int x1), (2, .int x2), (3, .int x3), (4, .int x4)] ⟨rfl, ⟨rfl, ⟨rfl, ⟨rfl, ⟨rfl, trivial⟩⟩⟩⟩⟩ rfl (zt_X13_formals_p186 hL  h)
  · skip
    refine kz_aload_n (M := kt_M414) kX13_formals_c11.2.2.2.1 rfl ?_
    refine kz_iload (M := kt_M414) kX13_formals_c11.2.2.2.2.1 rfl ?_
    refine kz_cv0 (M := kt_M414) (c := 12) (o := 0) (As := [.int x4]) (rest := []) kX13_formals_c11.2.2.2.2.2.1 wl_X13_689 wMv_553 rfl (.inl rfl) rfl (Nat.le_trans (Nat.le_of_ble_eq_true rfl) hL) (Nat.le_of_ble_eq_true rfl) (Nat.le_of_ble_eq_true rfl) h (fun w5 hle h => ?_) (fun _ _ _ h => kzx_no rfl h)
    have h := h hle
    refine kz_goto (M := kt_M414) kX13_formals_c11.2.2.2.2.2.2.1 (t := 186) rfl ?_
    exact kz_weak [(0, .ref (w_adr E.2.1 12 0)), (1, .int x1), (2, .int x2), (3, .int x3), (4, .int x4)] ⟨rfl, ⟨rfl, ⟨rfl, ⟨rfl, ⟨rfl, trivial⟩⟩⟩⟩⟩ rfl (zt_X13_formals_p186 hL  h)
def zb_X13_formals_p107 (E : zE) (L : Nat) (Q : kx_Rs → wS → Prop) (x1 : Int32) (x2 : Int32) (x3 : Int32) (x4 : Int32) (w : wS) : Prop := zw E (L - 21) kt_M466 [.ref (w_adr E.2.1 12 0), .int 33] w (wk1 (fun v2 w1 => wle w w1 → (if v2 = 0 then zw E (L - 20) kt_M462 [.ref (w_adr E.2.1 12 0)] w1 (wk1 (fun v4 w3 => wle w1 w3 → (if ¬ v4 = 42 then zb_X13_formals_p162 E L Q x1 x2 x3 x4 w3 else zw E (L - 20) kt_M497 [.ref (w_adr E.2.1 12 0)] w3 (wk0 (fun w5 => wle w3 w5 → zw E (L - 21) kt_M600 [.ref (w_adr E.2.1 12 0), .int 43] w5 (wk0 (fun w7 => wle w5 w7 → (kx_inb x4 (w_n w7 12 0 34) = true ∧ zb_X13_formals_p162 E L Q x1 x2 x3 x4 (ws_a (ws_i w7 12 0 38 ((w_i w7 12 0 38) - 1)) 12 0 34 (x4).toNatClampNeg 1))) (fun e w => Q (.inr e) w))) (fun e w => Q (.inr e) w)))) (fun e w => Q (.inr e) w)) else zw E (L - 21) kt_M595 [.ref (w_adr E.2.1 12 0), .int x4] w1 (wk0 (fun w9 => wle w1 w9 → zb_X13_formals_p186 E L Q x1 x2 x3 x4 w9) (fun e w => Q (.inr e) w)))) (fun e w => Q (.inr e) w))
theorem zt_X13_formals_p107 {E : zE} {L : Nat} {Q : kx_Rs → wS → Prop} {x1 : Int32} {x2 : Int32} {x3 : Int32} {x4 : Int32} {w : wS} (hL : 22 ≤ L) (h : zb_X13_formals_p107 E L Q x1 x2 x3 x4 w) : kzE E L kt_M414 107 [(0, .ref (w_adr E.2.1 12 0)), (1, .int x1), (2, .int x2), (3, .int x3), (4, .int x4)] [] w Q := by
  unfold zb_X13_formals_p107 at h
  refine kz_aload_n (M := kt_M414) kX13_formals_c7.2.2.2.1 rfl ?_
  refine kz_bi (M := kt_M414) 33 kX13_formals_c7.2.2.2.2.1 rfl ?_
  refine kz_cv1 (M := kt_M414) (c := 12) (o := 0) (As := [.int 33]) (rest := []) kX13_formals_c7.2.2.2.2.2.1 wl_X13_642 wMv_466 rfl (.inl rfl) rfl (Nat.le_trans (Nat.le_of_ble_eq_true rfl) hL) (Nat.le_of_ble_eq_true rfl) (Nat.le_of_ble_eq_true rfl) h (fun v2 w1 hle h => ?_) (fun _ _ _ h => kzx_no rfl h)
  have h := h hle
  refine kz_if_eq (M := kt_M414) kX13_formals_c7.2.2.2.2.2.2.1 (t := 125) rfl h (fun h => ?_) (fun h => ?_)
  · skip
    refine kz_aload_n (M := kt_M414) kX13_formals_c8.2.2.2.1 rfl ?_
    refine kz_cv1 (M := kt_M414) (c := 12) (o := 0) (As := []) (rest := []) kX13_formals_c8.2.2.2.2.1 wl_X13_560 wMv_462 rfl (.inl rfl) rfl (Nat.le_trans (Nat.le_of_ble_eq_true rfl) hL) (Nat.le_of_ble_eq_true rfl) (Nat.le_of_ble_eq_true rfl) h (fun v4 w3 hle h => ?_) (fun _ _ _ h => kzx_no rfl h)
    have h := h hle
    refine kz_bi (M := kt_M414) 42 kX13_formals_c8.2.2.2.2.2.1 rfl ?_
    refine kz_icmp_ne (M := kt_M414) kX13_formals_c8.2.2.2.2.2.2.1 (t := 162) rfl h (fun h => ?_) (fun h => ?_)
    · skip
      exact kz_weak [(0, .ref (w_adr E.2.1 12 0)), (1, .int x1), (2, .int x2), (3, .int x3), (4, .int x4)] ⟨rfl, ⟨rfl, ⟨rfl, ⟨rfl, ⟨rfl, trivial⟩⟩⟩⟩⟩ rfl (zt_X13_formals_p162 hL  h)
    · skip
      refine kz_aload_n (M := kt_M414) kX13_formals_c8.2.2.2.2.2.2.2.1 rfl ?_
      refine kz_cv0 (M := kt_M414) (c := 12) (o := 0) (As := []) (rest := []) kX13_formals_c9.1 wl_X13_666 wMv_497 rfl (.inl rfl) rfl (Nat.le_trans (Nat.le_of_ble_eq_true rfl) hL) (Nat.le_of_ble_eq_true rfl) (Nat.le_of_ble_eq_true rfl) h (fun w5 hle h => ?_) (fun _ _ _ h => kzx_no rfl h)
      have h := h hle
      refine kz_aload_n (M := kt_M414) kX13_formals_c9.2.1 rfl ?_
      refine kz_bi (M := kt_M414) 43 kX13_formals_c9.2.2.1 rfl ?_
      refine kz_cv0 (M := kt_M414) (c := 12) (o := 0) (As := [.int 43]) (rest := []) kX13_formals_c9.2.2.2.1 wl_X13_585 wMv_600 rfl (.inl rfl) rfl (Nat.le_trans (Nat.le_of_ble_eq_true rfl) hL) (Nat.le_of_ble_eq_true rfl) (Nat.le_of_ble_eq_true rfl) h (fun w7 hle h => ?_) (fun _ _ _ h => kzx_no rfl h)
      have h := h hle
      refine kz_aload_n (M := kt_M414) kX13_formals_c9.2.2.2.2.1 rfl ?_
      refine kz_dup (M := kt_M414) kX13_formals_c9.2.2.2.2.2.1 rfl ?_
      refine kz_gfi (M := kt_M414) (c := 12) (o := 0) kX13_formals_c9.2.2.2.2.2.2.1 wf_X13_669 (.inl rfl) ?_
      refine kz_ic (M := kt_M414) 1 kX13_formals_c9.2.2.2.2.2.2.2.1 rfl ?_
      refine kz_isub (M := kt_M414) kX13_formals_c10.1 ?_
      refine kz_pfi (M := kt_M414) (c := 12) (o := 0) kX13_formals_c10.2.1 wq_X13_669 (.inl rfl) ?_
      refine kz_aload_n (M := kt_M414) kX13_formals_c10.2.2.1 rfl ?_
      refine kz_gfc (M := kt_M414) (x := 4106) (c := 12) (o := 0) kX13_formals_c10.2.2.2.1 wf_X13_211 (.inl rfl) ?_
      refine kz_iload (M := kt_M414) kX13_formals_c10.2.2.2.2.1 rfl ?_
      refine kz_ic (M := kt_M414) 1 kX13_formals_c10.2.2.2.2.2.1 rfl ?_
      refine kz_iastR (M := kt_M414) (n := w_n w7 12 0 34) (c := 12) (o := 0) (k := 34) (a := (E.2.1 4106)) kX13_formals_c10.2.2.2.2.2.2.1 ow_12_0_34 oa_12_0_34 ot_0 rd_n_i h (fun h => ?_)
      exact kz_weak [(0, .ref (w_adr E.2.1 12 0)), (1, .int x1), (2, .int x2), (3, .int x3), (4, .int x4)] ⟨rfl, ⟨rfl, ⟨rfl, ⟨rfl, ⟨rfl, trivial⟩⟩⟩⟩⟩ rfl (zt_X13_formals_p162 hL  h)
  · skip
    refine kz_aload_n (M := kt_M414) kX13_formals_c7.2.2.2.2.2.2.2.1 rfl ?_
    refine kz_iload (M := kt_M414) kX13_formals_c8.1 rfl ?_
    refine kz_cv0 (M := kt_M414) (c := 12) (o := 0) (As := [.int x4]) (rest := []) kX13_formals_c8.2.1 wl_X13_692 wMv_595 rfl (.inl rfl) rfl (Nat.le_trans (Nat.le_of_ble_eq_true rfl) hL) (Nat.le_of_ble_eq_true rfl) (Nat.le_of_ble_eq_true rfl) h (fun w9 hle h => ?_) (fun _ _ _ h => kzx_no rfl h)
    have h := h hle
    refine kz_goto (M := kt_M414) kX13_formals_c8.2.2.1 (t := 186) rfl ?_
    exact kz_weak [(0, .ref (w_adr E.2.1 12 0)), (1, .int x1), (2, .int x2), (3, .int x3), (4, .int x4)] ⟨rfl, ⟨rfl, ⟨rfl, ⟨rfl, ⟨rfl, trivial⟩⟩⟩⟩⟩ rfl (zt_X13_formals_p186 hL  h)
def zb_X13_formals_p36 (E : zE) (L : Nat) (Q : kx_Rs → wS → Prop) (x1 : Int32) (x2 : Int32) (x3 : Int32) (w : wS) : Prop := (if ¬ x3 = 8 then (kx_inb (w_i w 12 0 35) (w_n w 12 0 9) = true ∧ zw E (L - 22) kt_M494 [.ref (w_adr E.2.1 12 0), .int 42, .int (w_a w 12 0 9 (w_i w 12 0 35).toNatClampNeg)] w (wk1 (fun v2 w1 => wle w w1 → zw E (L - 20) kt_M462 [.ref (w_adr E.2.1 12 0)] w1 (wk1 (fun v4 w3 => wle w1 w3 → (if ¬ v4 = 70 then zb_X13_formals_p107 E L Q x1 x2 x3 v2 w3 else (if x2 < 0 then zb_X13_formals_p107 E L Q x1 x2 x3 v2 w3 else (kx_inb x2 (w_n w3 12 0 33) = true ∧ (kx_inb v2 (w_n w3 12 0 33) = true ∧ (kx_inb x2 (w_n w3 12 0 34) = true ∧ (kx_inb v2 (w_n w3 12 0 34) = true ∧ zb_X13_formals_p186 E L Q x1 x2 x3 v2 (ws_a (ws_a w3 12 0 33 (v2).toNatClampNeg (w_a w3 12 0 33 (x2).toNatClampNeg)) 12 0 34 (v2).toNatClampNeg (w_a w3 12 0 34 (x2).toNatClampNeg))))))))) (fun e w => Q (.inr e) w))) (fun e w => Q (.inr e) w))) else zw E (L - 22) kt_M545 [.ref (w_adr E.2.1 12 0), .int 2] w (wkr (fun v6 w5 => wle w w5 → (v6 = some (w_adr E.2.1 13 0) ∧ Q (.inr "MeetingHouseModel$Halt") w5)) (fun e w => Q (.inr e) w)))
theorem zt_X13_formals_p36 {E : zE} {L : Nat} {Q : kx_Rs → wS → Prop} {x1 : Int32} {x2 : Int32} {x3 : Int32} {w : wS} (hL : 22 ≤ L) (h : zb_X13_formals_p36 E L Q x1 x2 x3 w) : kzE E L kt_M414 36 [(0, .ref (w_adr E.2.1 12 0)), (1, .int x1), (2, .int x2), (3, .int x3)] [] w Q := by
  unfold zb_X13_formals_p36 at h
  refine kz_iload_n (M := kt_M414) kX13_formals_c2.2.2.2.2.1 rfl ?_
  refine kz_bi (M := kt_M414) 8 kX13_formals_c2.2.2.2.2.2.1 rfl ?_
  refine kz_icmp_ne (M := kt_M414) kX13_formals_c2.2.2.2.2.2.2.1 (t := 48) rfl h (fun h => ?_) (fun h => ?_)
  · skip
    refine kz_aload_n (M := kt_M414) kX13_formals_c3.2.2.2.1 rfl ?_
    refine kz_bi (M := kt_M414) 42 kX13_formals_c3.2.2.2.2.1 rfl ?_
    refine kz_aload_n (M := kt_M414) kX13_formals_c3.2.2.2.2.2.1 rfl ?_
    refine kz_gfc (M := kt_M414) (x := 4081) (c := 12) (o := 0) kX13_formals_c3.2.2.2.2.2.2.1 wf_X13_163 (.inl rfl) ?_
    refine kz_aload_n (M := kt_M414) kX13_formals_c3.2.2.2.2.2.2.2.1 rfl ?_
    refine kz_gfi (M := kt_M414) (c := 12) (o := 0) kX13_formals_c4.1 wf_X13_547 (.inl rfl) ?_
    refine kz_iald (M := kt_M414) (c := 12) (o := 0) (k := 9) (a := (E.2.1 4081)) kX13_formals_c4.2.1 ow_12_0_9 oa_12_0_9 ot_0 h (fun h => ?_)
    refine kz_cv1 (M := kt_M414) (c := 12) (o := 0) (As := [.int 42, .int (w_a w 12 0 9 (w_i w 12 0 35).toNatClampNeg)]) (rest := []) kX13_formals_c4.2.2.1 wl_X13_592 wMv_494 rfl (.inl rfl) rfl (Nat.le_trans (Nat.le_of_ble_eq_true rfl) hL) (Nat.le_of_ble_eq_true rfl) (Nat.le_of_ble_eq_true rfl) h (fun v2 w1 hle h => ?_) (fun _ _ _ h => kzx_no rfl h)
    have h := h hle
    refine kz_sti (M := kt_M414) [(0, .ref (w_adr E.2.1 12 0)), (1, .int x1), (2, .int x2), (3, .int x3)] kX13_formals_c4.2.2.2.1 (Nat.le_of_ble_eq_true rfl) ⟨⟨rfl, rfl, .inl rfl⟩, ⟨⟨rfl, rfl, .inl rfl⟩, ⟨⟨rfl, rfl, .inl rfl⟩, ⟨⟨rfl, rfl, .inr rfl⟩, trivial⟩⟩⟩⟩ rfl ?_
    refine kz_aload_n (M := kt_M414) kX13_formals_c4.2.2.2.2.1 rfl ?_
    refine kz_cv1 (M := kt_M414) (c := 12) (o := 0) (As := []) (rest := []) kX13_formals_c4.2.2.2.2.2.1 wl_X13_560 wMv_462 rfl (.inl rfl) rfl (Nat.le_trans (Nat.le_of_ble_eq_true rfl) hL) (Nat.le_of_ble_eq_true rfl) (Nat.le_of_ble_eq_true rfl) h (fun v4 w3 hle h => ?_) (fun _ _ _ h => kzx_no rfl h)
    have h := h hle
    refine kz_bi (M := kt_M414) 70 kX13_formals_c4.2.2.2.2.2.2.1 rfl ?_
    refine kz_icmp_ne (M := kt_M414) kX13_formals_c4.2.2.2.2.2.2.2.1 (t := 107) rfl h (fun h => ?_) (fun h => ?_)
    · skip
      exact kz_weak [(0, .ref (w_adr E.2.1 12 0)), (1, .int x1), (2, .int x2), (3, .int x3), (4, .int v2)] ⟨rfl, ⟨rfl, ⟨rfl, ⟨rfl, ⟨rfl, trivial⟩⟩⟩⟩⟩ rfl (zt_X13_formals_p107 hL  h)
    · skip
      refine kz_iload_n (M := kt_M414) kX13_formals_c5.1 rfl ?_
      refine kz_if_lt (M := kt_M414) kX13_formals_c5.2.1 (t := 107) rfl h (fun h => ?_) (fun h => ?_)
      · skip
        exact kz_weak [(0, .ref (w_adr E.2.1 12 0)), (1, .int x1), (2, .int x2), (3, .int x3), (4, .int v2)] ⟨rfl, ⟨rfl, ⟨rfl, ⟨rfl, ⟨rfl, trivial⟩⟩⟩⟩⟩ rfl (zt_X13_formals_p107 hL  h)
      · skip
        refine kz_aload_n (M := kt_M414) kX13_formals_c5.2.2.1 rfl ?_
        refine kz_gfc (M := kt_M414) (x := 4105) (c := 12) (o := 0) kX13_formals_c5.2.2.2.1 wf_X13_208 (.inl rfl) ?_
        refine kz_iload (M := kt_M414) kX13_formals_c5.2.2.2.2.1 rfl ?_
        refine kz_aload_n (M := kt_M414) kX13_formals_c5.2.2.2.2.2.1 rfl ?_
        refine kz_gfc (M := kt_M414) (x := 4105) (c := 12) (o := 0) kX13_formals_c5.2.2.2.2.2.2.1 wf_X13_208 (.inl rfl) ?_
        refine kz_iload_n (M := kt_M414) kX13_formals_c5.2.2.2.2.2.2.2.1 rfl ?_
        refine kz_iald (M := kt_M414) (c := 12) (o := 0) (k := 33) (a := (E.2.1 4105)) kX13_formals_c6.1 ow_12_0_33 oa_12_0_33 ot_0 h (fun h => ?_)
        refine kz_iast (M := kt_M414) (c := 12) (o := 0) (k := 33) (a := (E.2.1 4105)) kX13_formals_c6.2.1 ow_12_0_33 oa_12_0_33 ot_0 h (fun h => ?_)
        refine kz_aload_n (M := kt_M414) kX13_formals_c6.2.2.1 rfl ?_
        refine kz_gfc (M := kt_M414) (x := 4106) (c := 12) (o := 0) kX13_formals_c6.2.2.2.1 wf_X13_211 (.inl rfl) ?_
        refine kz_iload (M := kt_M414) kX13_formals_c6.2.2.2.2.1 rfl ?_
        refine kz_aload_n (M := kt_M414) kX13_formals_c6.2.2.2.2.2.1 rfl ?_
        refine kz_gfc (M := kt_M414) (x := 4106) (c := 12) (o := 0) kX13_formals_c6.2.2.2.2.2.2.1 wf_X13_211 (.inl rfl) ?_
        refine kz_iload_n (M := kt_M414) kX13_formals_c6.2.2.2.2.2.2.2.1 rfl ?_
        refine kz_ialdR (M := kt_M414) (n := w_n w3 12 0 34) (c := 12) (o := 0) (k := 34) (a := (E.2.1 4106)) (w_a w3 12 0 34 (x2).toNatClampNeg) kX13_formals_c7.1 ow_12_0_34 oa_12_0_34 ot_0 rd_n_a (rd_a_a rfl) h (fun h => ?_)
        refine kz_iastR (M := kt_M414) (n := w_n w3 12 0 34) (c := 12) (o := 0) (k := 34) (a := (E.2.1 4106)) kX13_formals_c7.2.1 ow_12_0_34 oa_12_0_34 ot_0 rd_n_a h (fun h => ?_)
        refine kz_goto (M := kt_M414) kX13_formals_c7.2.2.1 (t := 186) rfl ?_
        exact kz_weak [(0, .ref (w_adr E.2.1 12 0)), (1, .int x1), (2, .int x2), (3, .int x3), (4, .int v2)] ⟨rfl, ⟨rfl, ⟨rfl, ⟨rfl, ⟨rfl, trivial⟩⟩⟩⟩⟩ rfl (zt_X13_formals_p186 hL  h)
  · skip
    refine kz_aload_n (M := kt_M414) kX13_formals_c2.2.2.2.2.2.2.2.1 rfl ?_
    refine kz_ic (M := kt_M414) 2 kX13_formals_c3.1 rfl ?_
    refine kz_cvr (M := kt_M414) (c := 12) (o := 0) (As := [.int 2]) (rest := []) kX13_formals_c3.2.1 wl_X13_556 wMv_545 rfl (.inl rfl) rfl (Nat.le_trans (Nat.le_of_ble_eq_true rfl) hL) (Nat.le_of_ble_eq_true rfl) (Nat.le_of_ble_eq_true rfl) h (fun v6 w5 hle h => ?_) (fun _ _ _ h => kzx_no rfl h)
    have h := h hle
    exact kz_throw (M := kt_M414) (c := 13) (o := 0) kX13_formals_c3.2.2.1 rfl (.inl rfl) h (fun h => kzx_no rfl h)
def zb_X13_formals_p10 (E : zE) (L : Nat) (Q : kx_Rs → wS → Prop) (x1 : Int32) (x2 : Int32) (x3 : Int32) (w : wS) : Prop := (if ¬ x1 = (-1) then zw E (L - 21) kt_M466 [.ref (w_adr E.2.1 12 0), .int 44] w (wk1 (fun v2 w1 => wle w w1 → (if v2 = 0 then zb_X13_formals_p219 E L Q x1 w1 else zb_X13_formals_p36 E L Q x1 x2 x3 w1)) (fun e w => Q (.inr e) w)) else zw E (L - 20) kt_M462 [.ref (w_adr E.2.1 12 0)] w (wk1 (fun v4 w3 => wle w w3 → (if v4 = 41 then zb_X13_formals_p219 E L Q x1 w3 else zb_X13_formals_p36 E L Q x1 x2 x3 w3)) (fun e w => Q (.inr e) w)))
theorem zt_X13_formals_p10 {E : zE} {L : Nat} {Q : kx_Rs → wS → Prop} {x1 : Int32} {x2 : Int32} {x3 : Int32} {w : wS} (hL : 22 ≤ L) (h : zb_X13_formals_p10 E L Q x1 x2 x3 w) : kzE E L kt_M414 10 [(0, .ref (w_adr E.2.1 12 0)), (1, .int x1), (2, .int x2), (3, .int x3)] [] w Q := by
  unfold zb_X13_formals_p10 at h
  refine kz_iload_n (M := kt_M414) kX13_formals_c1.1 rfl ?_
  refine kz_ic (M := kt_M414) (-1) kX13_formals_c1.2.1 rfl ?_
  refine kz_icmp_ne (M := kt_M414) kX13_formals_c1.2.2.1 (t := 27) rfl h (fun h => ?_) (fun h => ?_)
  · skip
    refine kz_aload_n (M := kt_M414) kX13_formals_c2.1 rfl ?_
    refine kz_bi (M := kt_M414) 44 kX13_formals_c2.2.1 rfl ?_
    refine kz_cv1 (M := kt_M414) (c := 12) (o := 0) (As := [.int 44]) (rest := []) kX13_formals_c2.2.2.1 wl_X13_642 wMv_466 rfl (.inl rfl) rfl (Nat.le_trans (Nat.le_of_ble_eq_true rfl) hL) (Nat.le_of_ble_eq_true rfl) (Nat.le_of_ble_eq_true rfl) h (fun v2 w1 hle h => ?_) (fun _ _ _ h => kzx_no rfl h)
    have h := h hle
    refine kz_if_eq (M := kt_M414) kX13_formals_c2.2.2.2.1 (t := 219) rfl h (fun h => ?_) (fun h => ?_)
    · skip
      exact kz_weak [(0, .ref (w_adr E.2.1 12 0)), (1, .int x1)] ⟨rfl, ⟨rfl, trivial⟩⟩ rfl (zt_X13_formals_p219 hL  h)
    · skip
      exact kz_weak [(0, .ref (w_adr E.2.1 12 0)), (1, .int x1), (2, .int x2), (3, .int x3)] ⟨rfl, ⟨rfl, ⟨rfl, ⟨rfl, trivial⟩⟩⟩⟩ rfl (zt_X13_formals_p36 hL  h)
  · skip
    refine kz_aload_n (M := kt_M414) kX13_formals_c1.2.2.2.1 rfl ?_
    refine kz_cv1 (M := kt_M414) (c := 12) (o := 0) (As := []) (rest := []) kX13_formals_c1.2.2.2.2.1 wl_X13_560 wMv_462 rfl (.inl rfl) rfl (Nat.le_trans (Nat.le_of_ble_eq_true rfl) hL) (Nat.le_of_ble_eq_true rfl) (Nat.le_of_ble_eq_true rfl) h (fun v4 w3 hle h => ?_) (fun _ _ _ h => kzx_no rfl h)
    have h := h hle
    refine kz_bi (M := kt_M414) 41 kX13_formals_c1.2.2.2.2.2.1 rfl ?_
    refine kz_icmp_eq (M := kt_M414) kX13_formals_c1.2.2.2.2.2.2.1 (t := 219) rfl h (fun h => ?_) (fun h => ?_)
    · skip
      exact kz_weak [(0, .ref (w_adr E.2.1 12 0)), (1, .int x1)] ⟨rfl, ⟨rfl, trivial⟩⟩ rfl (zt_X13_formals_p219 hL  h)
    · skip
      refine kz_goto (M := kt_M414) kX13_formals_c1.2.2.2.2.2.2.2.1 (t := 36) rfl ?_
      exact kz_weak [(0, .ref (w_adr E.2.1 12 0)), (1, .int x1), (2, .int x2), (3, .int x3)] ⟨rfl, ⟨rfl, ⟨rfl, ⟨rfl, trivial⟩⟩⟩⟩ rfl (zt_X13_formals_p36 hL  h)
def zb_X13_formals_p0 (E : zE) (L : Nat) (Q : kx_Rs → wS → Prop) (w : wS) : Prop := zw E (L - 20) kt_M497 [.ref (w_adr E.2.1 12 0)] w (wk0 (fun w1 => wle w w1 → zL_X13_formals_p10 E L Q (-1) (-1) 0 w1) (fun e w => Q (.inr e) w))
theorem zt_X13_formals_p0 {E : zE} {L : Nat} {Q : kx_Rs → wS → Prop} {w : wS} (hL : 22 ≤ L) (h : zb_X13_formals_p0 E L Q  w) : kzE E L kt_M414 0 [(0, .ref (w_adr E.2.1 12 0))] [] w Q := by
  unfold zb_X13_formals_p0 at h
  refine kz_aload_n (M := kt_M414) kX13_formals_c0.1 rfl ?_
  refine kz_cv0 (M := kt_M414) (c := 12) (o := 0) (As := []) (rest := []) kX13_formals_c0.2.1 wl_X13_666 wMv_497 rfl (.inl rfl) rfl (Nat.le_trans (Nat.le_of_ble_eq_true rfl) hL) (Nat.le_of_ble_eq_true rfl) (Nat.le_of_ble_eq_true rfl) h (fun w1 hle h => ?_) (fun _ _ _ h => kzx_no rfl h)
  have h := h hle
  refine kz_ic (M := kt_M414) (-1) kX13_formals_c0.2.2.1 rfl ?_
  refine kz_sti_n (M := kt_M414) [(0, .ref (w_adr E.2.1 12 0))] kX13_formals_c0.2.2.2.1 (Nat.le_of_ble_eq_true rfl) ⟨⟨rfl, rfl, .inr rfl⟩, trivial⟩ rfl ?_
  refine kz_ic (M := kt_M414) (-1) kX13_formals_c0.2.2.2.2.1 rfl ?_
  refine kz_sti_n (M := kt_M414) [(0, .ref (w_adr E.2.1 12 0)), (1, .int (-1))] kX13_formals_c0.2.2.2.2.2.1 (Nat.le_of_ble_eq_true rfl) ⟨⟨rfl, rfl, .inl rfl⟩, ⟨⟨rfl, rfl, .inr rfl⟩, trivial⟩⟩ rfl ?_
  refine kz_ic (M := kt_M414) 0 kX13_formals_c0.2.2.2.2.2.2.1 rfl ?_
  refine kz_sti_n (M := kt_M414) [(0, .ref (w_adr E.2.1 12 0)), (1, .int (-1)), (2, .int (-1))] kX13_formals_c0.2.2.2.2.2.2.2.1 (Nat.le_of_ble_eq_true rfl) ⟨⟨rfl, rfl, .inl rfl⟩, ⟨⟨rfl, rfl, .inl rfl⟩, ⟨⟨rfl, rfl, .inr rfl⟩, trivial⟩⟩⟩ rfl ?_
  exact kz_weak [(0, .ref (w_adr E.2.1 12 0)), (1, .int (-1)), (2, .int (-1)), (3, .int 0)] ⟨rfl, ⟨rfl, ⟨rfl, ⟨rfl, trivial⟩⟩⟩⟩ rfl h
def zb_X13_opens_p0 (E : zE) (L : Nat) (Q : kx_Rs → wS → Prop) (w : wS) : Prop := (if ¬ w_i w 12 0 38 = 20 then Q (.inl none) (ws_i (ws_i w 12 0 38 ((w_i w 12 0 38) + 1)) 12 0 35 ((w_i w 12 0 35) + 1)) else zw E (L - 22) kt_M545 [.ref (w_adr E.2.1 12 0), .int 3] w (wkr (fun v2 w1 => wle w w1 → (v2 = some (w_adr E.2.1 13 0) ∧ Q (.inr "MeetingHouseModel$Halt") w1)) (fun e w => Q (.inr e) w)))
theorem zt_X13_opens_p0 {E : zE} {L : Nat} {Q : kx_Rs → wS → Prop} {w : wS} (hL : 22 ≤ L) (h : zb_X13_opens_p0 E L Q  w) : kzE E L kt_M497 0 [(0, .ref (w_adr E.2.1 12 0))] [] w Q := by
  unfold zb_X13_opens_p0 at h
  refine kz_aload_n (M := kt_M497) kX13_opens_c0.1 rfl ?_
  refine kz_gfi (M := kt_M497) (c := 12) (o := 0) kX13_opens_c0.2.1 wf_X13_669 (.inl rfl) ?_
  refine kz_bi (M := kt_M497) 20 kX13_opens_c0.2.2.1 rfl ?_
  refine kz_icmp_ne (M := kt_M497) kX13_opens_c0.2.2.2.1 (t := 15) rfl h (fun h => ?_) (fun h => ?_)
  · skip
    refine kz_aload_n (M := kt_M497) kX13_opens_c1.1 rfl ?_
    refine kz_dup (M := kt_M497) kX13_opens_c1.2.1 rfl ?_
    refine kz_gfi (M := kt_M497) (c := 12) (o := 0) kX13_opens_c1.2.2.1 wf_X13_669 (.inl rfl) ?_
    refine kz_ic (M := kt_M497) 1 kX13_opens_c1.2.2.2.1 rfl ?_
    refine kz_iadd (M := kt_M497) kX13_opens_c1.2.2.2.2.1 ?_
    refine kz_pfi (M := kt_M497) (c := 12) (o := 0) kX13_opens_c1.2.2.2.2.2.1 wq_X13_669 (.inl rfl) ?_
    refine kz_aload_n (M := kt_M497) kX13_opens_c1.2.2.2.2.2.2.1 rfl ?_
    refine kz_dup (M := kt_M497) kX13_opens_c1.2.2.2.2.2.2.2.1 rfl ?_
    refine kz_gfiR (M := kt_M497) (c := 12) (o := 0) (w_i w 12 0 35) kX13_opens_c2.1 wf_X13_547 (.inl rfl) (rd_i_i rfl) ?_
    refine kz_ic (M := kt_M497) 1 kX13_opens_c2.2.1 rfl ?_
    refine kz_iadd (M := kt_M497) kX13_opens_c2.2.2.1 ?_
    refine kz_pfi (M := kt_M497) (c := 12) (o := 0) kX13_opens_c2.2.2.2.1 wq_X13_547 (.inl rfl) ?_
    exact kz_ret (M := kt_M497) kX13_opens_c2.2.2.2.2.1 rfl h
  · skip
    refine kz_aload_n (M := kt_M497) kX13_opens_c0.2.2.2.2.1 rfl ?_
    refine kz_ic (M := kt_M497) 3 kX13_opens_c0.2.2.2.2.2.1 rfl ?_
    refine kz_cvr (M := kt_M497) (c := 12) (o := 0) (As := [.int 3]) (rest := []) kX13_opens_c0.2.2.2.2.2.2.1 wl_X13_556 wMv_545 rfl (.inl rfl) rfl (Nat.le_trans (Nat.le_of_ble_eq_true rfl) hL) (Nat.le_of_ble_eq_true rfl) (Nat.le_of_ble_eq_true rfl) h (fun v2 w1 hle h => ?_) (fun _ _ _ h => kzx_no rfl h)
    have h := h hle
    exact kz_throw (M := kt_M497) (c := 13) (o := 0) kX13_opens_c0.2.2.2.2.2.2.2.1 rfl (.inl rfl) h (fun h => kzx_no rfl h)
def zb_X13_may_p0 (E : zE) (L : Nat) (Q : kx_Rs → wS → Prop) (x1 : Int32) (w : wS) : Prop := (kx_inb (w_i w 12 0 35) (w_n w 12 0 7) = true ∧ (if w_a w 12 0 7 (w_i w 12 0 35).toNatClampNeg = x1 then Q (.inl (some (.int 1))) (ws_i w 12 0 35 ((w_i w 12 0 35) + 1)) else Q (.inl (some (.int 0))) w))
theorem zt_X13_may_p0 {E : zE} {L : Nat} {Q : kx_Rs → wS → Prop} {x1 : Int32} {w : wS} (hL : 19 ≤ L) (h : zb_X13_may_p0 E L Q x1 w) : kzE E L kt_M466 0 [(0, .ref (w_adr E.2.1 12 0)), (1, .int x1)] [] w Q := by
  unfold zb_X13_may_p0 at h
  refine kz_aload_n (M := kt_M466) kX13_may_c0.1 rfl ?_
  refine kz_gfc (M := kt_M466) (x := 4079) (c := 12) (o := 0) kX13_may_c0.2.1 wf_X13_157 (.inl rfl) ?_
  refine kz_aload_n (M := kt_M466) kX13_may_c0.2.2.1 rfl ?_
  refine kz_gfi (M := kt_M466) (c := 12) (o := 0) kX13_may_c0.2.2.2.1 wf_X13_547 (.inl rfl) ?_
  refine kz_iald (M := kt_M466) (c := 12) (o := 0) (k := 7) (a := (E.2.1 4079)) kX13_may_c0.2.2.2.2.1 ow_12_0_7 oa_12_0_7 ot_0 h (fun h => ?_)
  refine kz_iload_n (M := kt_M466) kX13_may_c0.2.2.2.2.2.1 rfl ?_
  refine kz_icmp_eq (M := kt_M466) kX13_may_c0.2.2.2.2.2.2.1 (t := 15) rfl h (fun h => ?_) (fun h => ?_)
  · skip
    refine kz_aload_n (M := kt_M466) kX13_may_c1.2.1 rfl ?_
    refine kz_dup (M := kt_M466) kX13_may_c1.2.2.1 rfl ?_
    refine kz_gfi (M := kt_M466) (c := 12) (o := 0) kX13_may_c1.2.2.2.1 wf_X13_547 (.inl rfl) ?_
    refine kz_ic (M := kt_M466) 1 kX13_may_c1.2.2.2.2.1 rfl ?_
    refine kz_iadd (M := kt_M466) kX13_may_c1.2.2.2.2.2.1 ?_
    refine kz_pfi (M := kt_M466) (c := 12) (o := 0) kX13_may_c1.2.2.2.2.2.2.1 wq_X13_547 (.inl rfl) ?_
    refine kz_ic (M := kt_M466) 1 kX13_may_c1.2.2.2.2.2.2.2.1 rfl ?_
    exact kz_iretz (M := kt_M466) kX13_may_c2.1 rfl (by decide) h
  · skip
    refine kz_ic (M := kt_M466) 0 kX13_may_c0.2.2.2.2.2.2.2.1 rfl ?_
    exact kz_iretz (M := kt_M466) kX13_may_c1.1 rfl (by decide) h
def zb_X13_valSpec_p49 (E : zE) (L : Nat) (Q : kx_Rs → wS → Prop) (x1 : Int32) (w : wS) : Prop := zw E (L - 22) kt_M554 [.ref (w_adr E.2.1 12 0), .int x1] w (wk0 (fun w1 => wle w w1 → Q (.inl none) w1) (fun e w => Q (.inr e) w))
theorem zt_X13_valSpec_p49 {E : zE} {L : Nat} {Q : kx_Rs → wS → Prop} {x1 : Int32} {w : wS} (hL : 22 ≤ L) (h : zb_X13_valSpec_p49 E L Q x1 w) : kzE E L kt_M595 49 [(0, .ref (w_adr E.2.1 12 0)), (1, .int x1)] [] w Q := by
  unfold zb_X13_valSpec_p49 at h
  refine kz_aload_n (M := kt_M595) kX13_valSpec_c3.2.2.2.2.2.2.2.1 rfl ?_
  refine kz_iload_n (M := kt_M595) kX13_valSpec_c4.1 rfl ?_
  refine kz_cv0 (M := kt_M595) (c := 12) (o := 0) (As := [.int x1]) (rest := []) kX13_valSpec_c4.2.1 wl_X13_677 wMv_554 rfl (.inl rfl) rfl (Nat.le_trans (Nat.le_of_ble_eq_true rfl) hL) (Nat.le_of_ble_eq_true rfl) (Nat.le_of_ble_eq_true rfl) h (fun w1 hle h => ?_) (fun _ _ _ h => kzx_no rfl h)
  have h := h hle
  exact kz_ret (M := kt_M595) kX13_valSpec_c4.2.2.1 rfl h
def zb_X13_valSpec_p0 (E : zE) (L : Nat) (Q : kx_Rs → wS → Prop) (x1 : Int32) (w : wS) : Prop := (kx_inb x1 (w_n w 12 0 34) = true ∧ (kx_inb x1 (w_n w 12 0 34) = true ∧ zw E (L - 20) kt_M462 [.ref (w_adr E.2.1 12 0)] (ws_a w 12 0 34 (x1).toNatClampNeg ((w_a w 12 0 34 (x1).toNatClampNeg) ||| 4)) (wk1 (fun v2 w1 => wle (ws_a w 12 0 34 (x1).toNatClampNeg ((w_a w 12 0 34 (x1).toNatClampNeg) ||| 4)) w1 → (if ¬ v2 = 42 then zb_X13_valSpec_p49 E L Q x1 w1 else zw E (L - 20) kt_M497 [.ref (w_adr E.2.1 12 0)] w1 (wk0 (fun w3 => wle w1 w3 → zw E (L - 21) kt_M600 [.ref (w_adr E.2.1 12 0), .int 43] w3 (wk0 (fun w5 => wle w3 w5 → (kx_inb x1 (w_n w5 12 0 34) = true ∧ (kx_inb x1 (w_n w5 12 0 34) = true ∧ zb_X13_valSpec_p49 E L Q x1 (ws_a (ws_i w5 12 0 38 ((w_i w5 12 0 38) - 1)) 12 0 34 (x1).toNatClampNeg ((w_a w5 12 0 34 (x1).toNatClampNeg) ||| 1))))) (fun e w => Q (.inr e) w))) (fun e w => Q (.inr e) w)))) (fun e w => Q (.inr e) w))))
theorem zt_X13_valSpec_p0 {E : zE} {L : Nat} {Q : kx_Rs → wS → Prop} {x1 : Int32} {w : wS} (hL : 22 ≤ L) (h : zb_X13_valSpec_p0 E L Q x1 w) : kzE E L kt_M595 0 [(0, .ref (w_adr E.2.1 12 0)), (1, .int x1)] [] w Q := by
  unfold zb_X13_valSpec_p0 at h
  refine kz_aload_n (M := kt_M595) kX13_valSpec_c0.1 rfl ?_
  refine kz_gfc (M := kt_M595) (x := 4106) (c := 12) (o := 0) kX13_valSpec_c0.2.1 wf_X13_211 (.inl rfl) ?_
  refine kz_iload_n (M := kt_M595) kX13_valSpec_c0.2.2.1 rfl ?_
  refine kz_dup2 (M := kt_M595) kX13_valSpec_c0.2.2.2.1 ⟨rfl, rfl⟩ ?_
  refine kz_iald (M := kt_M595) (c := 12) (o := 0) (k := 34) (a := (E.2.1 4106)) kX13_valSpec_c0.2.2.2.2.1 ow_12_0_34 oa_12_0_34 ot_0 h (fun h => ?_)
  refine kz_ic (M := kt_M595) 4 kX13_valSpec_c0.2.2.2.2.2.1 rfl ?_
  refine kz_ior (M := kt_M595) kX13_valSpec_c0.2.2.2.2.2.2.1 ?_
  refine kz_iast (M := kt_M595) (c := 12) (o := 0) (k := 34) (a := (E.2.1 4106)) kX13_valSpec_c0.2.2.2.2.2.2.2.1 ow_12_0_34 oa_12_0_34 ot_0 h (fun h => ?_)
  refine kz_aload_n (M := kt_M595) kX13_valSpec_c1.1 rfl ?_
  refine kz_cv1 (M := kt_M595) (c := 12) (o := 0) (As := []) (rest := []) kX13_valSpec_c1.2.1 wl_X13_560 wMv_462 rfl (.inl rfl) rfl (Nat.le_trans (Nat.le_of_ble_eq_true rfl) hL) (Nat.le_of_ble_eq_true rfl) (Nat.le_of_ble_eq_true rfl) h (fun v2 w1 hle h => ?_) (fun _ _ _ h => kzx_no rfl h)
  have h := h hle
  refine kz_bi (M := kt_M595) 42 kX13_valSpec_c1.2.2.1 rfl ?_
  refine kz_icmp_ne (M := kt_M595) kX13_valSpec_c1.2.2.2.1 (t := 49) rfl h (fun h => ?_) (fun h => ?_)
  · skip
    exact kz_weak [(0, .ref (w_adr E.2.1 12 0)), (1, .int x1)] ⟨rfl, ⟨rfl, trivial⟩⟩ rfl (zt_X13_valSpec_p49 hL  h)
  · skip
    refine kz_aload_n (M := kt_M595) kX13_valSpec_c1.2.2.2.2.1 rfl ?_
    refine kz_cv0 (M := kt_M595) (c := 12) (o := 0) (As := []) (rest := []) kX13_valSpec_c1.2.2.2.2.2.1 wl_X13_666 wMv_497 rfl (.inl rfl) rfl (Nat.le_trans (Nat.le_of_ble_eq_true rfl) hL) (Nat.le_of_ble_eq_true rfl) (Nat.le_of_ble_eq_true rfl) h (fun w3 hle h => ?_) (fun _ _ _ h => kzx_no rfl h)
    have h := h hle
    refine kz_aload_n (M := kt_M595) kX13_valSpec_c1.2.2.2.2.2.2.1 rfl ?_
    refine kz_bi (M := kt_M595) 43 kX13_valSpec_c1.2.2.2.2.2.2.2.1 rfl ?_
    refine kz_cv0 (M := kt_M595) (c := 12) (o := 0) (As := [.int 43]) (rest := []) kX13_valSpec_c2.1 wl_X13_585 wMv_600 rfl (.inl rfl) rfl (Nat.le_trans (Nat.le_of_ble_eq_true rfl) hL) (Nat.le_of_ble_eq_true rfl) (Nat.le_of_ble_eq_true rfl) h (fun w5 hle h => ?_) (fun _ _ _ h => kzx_no rfl h)
    have h := h hle
    refine kz_aload_n (M := kt_M595) kX13_valSpec_c2.2.1 rfl ?_
    refine kz_dup (M := kt_M595) kX13_valSpec_c2.2.2.1 rfl ?_
    refine kz_gfi (M := kt_M595) (c := 12) (o := 0) kX13_valSpec_c2.2.2.2.1 wf_X13_669 (.inl rfl) ?_
    refine kz_ic (M := kt_M595) 1 kX13_valSpec_c2.2.2.2.2.1 rfl ?_
    refine kz_isub (M := kt_M595) kX13_valSpec_c2.2.2.2.2.2.1 ?_
    refine kz_pfi (M := kt_M595) (c := 12) (o := 0) kX13_valSpec_c2.2.2.2.2.2.2.1 wq_X13_669 (.inl rfl) ?_
    refine kz_aload_n (M := kt_M595) kX13_valSpec_c2.2.2.2.2.2.2.2.1 rfl ?_
    refine kz_gfc (M := kt_M595) (x := 4106) (c := 12) (o := 0) kX13_valSpec_c3.1 wf_X13_211 (.inl rfl) ?_
    refine kz_iload_n (M := kt_M595) kX13_valSpec_c3.2.1 rfl ?_
    refine kz_dup2 (M := kt_M595) kX13_valSpec_c3.2.2.1 ⟨rfl, rfl⟩ ?_
    refine kz_ialdR (M := kt_M595) (n := w_n w5 12 0 34) (c := 12) (o := 0) (k := 34) (a := (E.2.1 4106)) (w_a w5 12 0 34 (x1).toNatClampNeg) kX13_valSpec_c3.2.2.2.1 ow_12_0_34 oa_12_0_34 ot_0 rd_n_i rd_a_i h (fun h => ?_)
    refine kz_ic (M := kt_M595) 1 kX13_valSpec_c3.2.2.2.2.1 rfl ?_
    refine kz_ior (M := kt_M595) kX13_valSpec_c3.2.2.2.2.2.1 ?_
    refine kz_iastR (M := kt_M595) (n := w_n w5 12 0 34) (c := 12) (o := 0) (k := 34) (a := (E.2.1 4106)) kX13_valSpec_c3.2.2.2.2.2.2.1 ow_12_0_34 oa_12_0_34 ot_0 rd_n_i h (fun h => ?_)
    exact kz_weak [(0, .ref (w_adr E.2.1 12 0)), (1, .int x1)] ⟨rfl, ⟨rfl, trivial⟩⟩ rfl (zt_X13_valSpec_p49 hL  h)
def zb_X13_want_p0 (E : zE) (L : Nat) (Q : kx_Rs → wS → Prop) (x1 : Int32) (w : wS) : Prop := (kx_inb (w_i w 12 0 35) (w_n w 12 0 7) = true ∧ (if w_a w 12 0 7 (w_i w 12 0 35).toNatClampNeg = x1 then Q (.inl none) (ws_i w 12 0 35 ((w_i w 12 0 35) + 1)) else zw E (L - 22) kt_M545 [.ref (w_adr E.2.1 12 0), .int 2] w (wkr (fun v2 w1 => wle w w1 → (v2 = some (w_adr E.2.1 13 0) ∧ Q (.inr "MeetingHouseModel$Halt") w1)) (fun e w => Q (.inr e) w))))
theorem zt_X13_want_p0 {E : zE} {L : Nat} {Q : kx_Rs → wS → Prop} {x1 : Int32} {w : wS} (hL : 22 ≤ L) (h : zb_X13_want_p0 E L Q x1 w) : kzE E L kt_M600 0 [(0, .ref (w_adr E.2.1 12 0)), (1, .int x1)] [] w Q := by
  unfold zb_X13_want_p0 at h
  refine kz_aload_n (M := kt_M600) kX13_want_c0.1 rfl ?_
  refine kz_gfc (M := kt_M600) (x := 4079) (c := 12) (o := 0) kX13_want_c0.2.1 wf_X13_157 (.inl rfl) ?_
  refine kz_aload_n (M := kt_M600) kX13_want_c0.2.2.1 rfl ?_
  refine kz_gfi (M := kt_M600) (c := 12) (o := 0) kX13_want_c0.2.2.2.1 wf_X13_547 (.inl rfl) ?_
  refine kz_iald (M := kt_M600) (c := 12) (o := 0) (k := 7) (a := (E.2.1 4079)) kX13_want_c0.2.2.2.2.1 ow_12_0_7 oa_12_0_7 ot_0 h (fun h => ?_)
  refine kz_iload_n (M := kt_M600) kX13_want_c0.2.2.2.2.2.1 rfl ?_
  refine kz_icmp_eq (M := kt_M600) kX13_want_c0.2.2.2.2.2.2.1 (t := 19) rfl h (fun h => ?_) (fun h => ?_)
  · skip
    refine kz_aload_n (M := kt_M600) kX13_want_c1.2.2.2.1 rfl ?_
    refine kz_dup (M := kt_M600) kX13_want_c1.2.2.2.2.1 rfl ?_
    refine kz_gfi (M := kt_M600) (c := 12) (o := 0) kX13_want_c1.2.2.2.2.2.1 wf_X13_547 (.inl rfl) ?_
    refine kz_ic (M := kt_M600) 1 kX13_want_c1.2.2.2.2.2.2.1 rfl ?_
    refine kz_iadd (M := kt_M600) kX13_want_c1.2.2.2.2.2.2.2.1 ?_
    refine kz_pfi (M := kt_M600) (c := 12) (o := 0) kX13_want_c2.1 wq_X13_547 (.inl rfl) ?_
    exact kz_ret (M := kt_M600) kX13_want_c2.2.1 rfl h
  · skip
    refine kz_aload_n (M := kt_M600) kX13_want_c0.2.2.2.2.2.2.2.1 rfl ?_
    refine kz_ic (M := kt_M600) 2 kX13_want_c1.1 rfl ?_
    refine kz_cvr (M := kt_M600) (c := 12) (o := 0) (As := [.int 2]) (rest := []) kX13_want_c1.2.1 wl_X13_556 wMv_545 rfl (.inl rfl) rfl (Nat.le_trans (Nat.le_of_ble_eq_true rfl) hL) (Nat.le_of_ble_eq_true rfl) (Nat.le_of_ble_eq_true rfl) h (fun v2 w1 hle h => ?_) (fun _ _ _ h => kzx_no rfl h)
    have h := h hle
    exact kz_throw (M := kt_M600) (c := 13) (o := 0) kX13_want_c1.2.2.1 rfl (.inl rfl) h (fun h => kzx_no rfl h)
def zb_X13_takeKind_p67 (E : zE) (L : Nat) (Q : kx_Rs → wS → Prop) (w : wS) : Prop := Q (.inl none) w
theorem zt_X13_takeKind_p67 {E : zE} {L : Nat} {Q : kx_Rs → wS → Prop} {w : wS} (hL : 22 ≤ L) (h : zb_X13_takeKind_p67 E L Q  w) : kzE E L kt_M553 67 [(0, .ref (w_adr E.2.1 12 0))] [] w Q := by
  unfold zb_X13_takeKind_p67 at h
  exact kz_ret (M := kt_M553) kX13_takeKind_c4.2.2.2.2.2.2.2.1 rfl h
def zb_X13_takeKind_p0 (E : zE) (L : Nat) (Q : kx_Rs → wS → Prop) (x1 : Int32) (w : wS) : Prop := zw E (L - 21) kt_M600 [.ref (w_adr E.2.1 12 0), .int 6] w (wk0 (fun w1 => wle w w1 → zw E (L - 21) kt_M600 [.ref (w_adr E.2.1 12 0), .int 18] w1 (wk0 (fun w3 => wle w1 w3 → (kx_inb x1 (w_n w3 12 0 34) = true ∧ (kx_inb x1 (w_n w3 12 0 34) = true ∧ zw E (L - 20) kt_M462 [.ref (w_adr E.2.1 12 0)] (ws_a w3 12 0 34 (x1).toNatClampNeg ((w_a w3 12 0 34 (x1).toNatClampNeg) ||| 2)) (wk1 (fun v6 w5 => wle (ws_a w3 12 0 34 (x1).toNatClampNeg ((w_a w3 12 0 34 (x1).toNatClampNeg) ||| 2)) w5 → (if ¬ v6 = 70 then zw E (L - 22) kt_M554 [.ref (w_adr E.2.1 12 0), .int x1] w5 (wk0 (fun w7 => wle w5 w7 → zb_X13_takeKind_p67 E L Q w7) (fun e w => Q (.inr e) w)) else (kx_inb (w_i w5 12 0 35) (w_n w5 12 0 8) = true ∧ (kx_inb x1 (w_n w5 12 0 33) = true ∧ zb_X13_takeKind_p67 E L Q (ws_i (ws_a w5 12 0 33 (x1).toNatClampNeg ((-2) - (w_a w5 12 0 8 (w_i w5 12 0 35).toNatClampNeg))) 12 0 35 ((w_i w5 12 0 35) + 1)))))) (fun e w => Q (.inr e) w))))) (fun e w => Q (.inr e) w))) (fun e w => Q (.inr e) w))
theorem zt_X13_takeKind_p0 {E : zE} {L : Nat} {Q : kx_Rs → wS → Prop} {x1 : Int32} {w : wS} (hL : 22 ≤ L) (h : zb_X13_takeKind_p0 E L Q x1 w) : kzE E L kt_M553 0 [(0, .ref (w_adr E.2.1 12 0)), (1, .int x1)] [] w Q := by
  unfold zb_X13_takeKind_p0 at h
  refine kz_aload_n (M := kt_M553) kX13_takeKind_c0.1 rfl ?_
  refine kz_bi (M := kt_M553) 6 kX13_takeKind_c0.2.1 rfl ?_
  refine kz_cv0 (M := kt_M553) (c := 12) (o := 0) (As := [.int 6]) (rest := []) kX13_takeKind_c0.2.2.1 wl_X13_585 wMv_600 rfl (.inl rfl) rfl (Nat.le_trans (Nat.le_of_ble_eq_true rfl) hL) (Nat.le_of_ble_eq_true rfl) (Nat.le_of_ble_eq_true rfl) h (fun w1 hle h => ?_) (fun _ _ _ h => kzx_no rfl h)
  have h := h hle
  refine kz_aload_n (M := kt_M553) kX13_takeKind_c0.2.2.2.1 rfl ?_
  refine kz_bi (M := kt_M553) 18 kX13_takeKind_c0.2.2.2.2.1 rfl ?_
  refine kz_cv0 (M := kt_M553) (c := 12) (o := 0) (As := [.int 18]) (rest := []) kX13_takeKind_c0.2.2.2.2.2.1 wl_X13_585 wMv_600 rfl (.inl rfl) rfl (Nat.le_trans (Nat.le_of_ble_eq_true rfl) hL) (Nat.le_of_ble_eq_true rfl) (Nat.le_of_ble_eq_true rfl) h (fun w3 hle h => ?_) (fun _ _ _ h => kzx_no rfl h)
  have h := h hle
  refine kz_aload_n (M := kt_M553) kX13_takeKind_c0.2.2.2.2.2.2.1 rfl ?_
  refine kz_gfc (M := kt_M553) (x := 4106) (c := 12) (o := 0) kX13_takeKind_c0.2.2.2.2.2.2.2.1 wf_X13_211 (.inl rfl) ?_
  refine kz_iload_n (M := kt_M553) kX13_takeKind_c1.1 rfl ?_
  refine kz_dup2 (M := kt_M553) kX13_takeKind_c1.2.1 ⟨rfl, rfl⟩ ?_
  refine kz_iald (M := kt_M553) (c := 12) (o := 0) (k := 34) (a := (E.2.1 4106)) kX13_takeKind_c1.2.2.1 ow_12_0_34 oa_12_0_34 ot_0 h (fun h => ?_)
  refine kz_ic (M := kt_M553) 2 kX13_takeKind_c1.2.2.2.1 rfl ?_
  refine kz_ior (M := kt_M553) kX13_takeKind_c1.2.2.2.2.1 ?_
  refine kz_iast (M := kt_M553) (c := 12) (o := 0) (k := 34) (a := (E.2.1 4106)) kX13_takeKind_c1.2.2.2.2.2.1 ow_12_0_34 oa_12_0_34 ot_0 h (fun h => ?_)
  refine kz_aload_n (M := kt_M553) kX13_takeKind_c1.2.2.2.2.2.2.1 rfl ?_
  refine kz_cv1 (M := kt_M553) (c := 12) (o := 0) (As := []) (rest := []) kX13_takeKind_c1.2.2.2.2.2.2.2.1 wl_X13_560 wMv_462 rfl (.inl rfl) rfl (Nat.le_trans (Nat.le_of_ble_eq_true rfl) hL) (Nat.le_of_ble_eq_true rfl) (Nat.le_of_ble_eq_true rfl) h (fun v6 w5 hle h => ?_) (fun _ _ _ h => kzx_no rfl h)
  have h := h hle
  refine kz_bi (M := kt_M553) 70 kX13_takeKind_c2.1 rfl ?_
  refine kz_icmp_ne (M := kt_M553) kX13_takeKind_c2.2.1 (t := 62) rfl h (fun h => ?_) (fun h => ?_)
  · skip
    refine kz_aload_n (M := kt_M553) kX13_takeKind_c4.2.2.2.2.1 rfl ?_
    refine kz_iload_n (M := kt_M553) kX13_takeKind_c4.2.2.2.2.2.1 rfl ?_
    refine kz_cv0 (M := kt_M553) (c := 12) (o := 0) (As := [.int x1]) (rest := []) kX13_takeKind_c4.2.2.2.2.2.2.1 wl_X13_677 wMv_554 rfl (.inl rfl) rfl (Nat.le_trans (Nat.le_of_ble_eq_true rfl) hL) (Nat.le_of_ble_eq_true rfl) (Nat.le_of_ble_eq_true rfl) h (fun w7 hle h => ?_) (fun _ _ _ h => kzx_no rfl h)
    have h := h hle
    exact kz_weak [(0, .ref (w_adr E.2.1 12 0))] ⟨rfl, trivial⟩ rfl (zt_X13_takeKind_p67 hL  h)
  · skip
    refine kz_aload_n (M := kt_M553) kX13_takeKind_c2.2.2.1 rfl ?_
    refine kz_gfc (M := kt_M553) (x := 4105) (c := 12) (o := 0) kX13_takeKind_c2.2.2.2.1 wf_X13_208 (.inl rfl) ?_
    refine kz_iload_n (M := kt_M553) kX13_takeKind_c2.2.2.2.2.1 rfl ?_
    refine kz_bi (M := kt_M553) (-2) kX13_takeKind_c2.2.2.2.2.2.1 rfl ?_
    refine kz_aload_n (M := kt_M553) kX13_takeKind_c2.2.2.2.2.2.2.1 rfl ?_
    refine kz_gfc (M := kt_M553) (x := 4080) (c := 12) (o := 0) kX13_takeKind_c2.2.2.2.2.2.2.2.1 wf_X13_160 (.inl rfl) ?_
    refine kz_aload_n (M := kt_M553) kX13_takeKind_c3.1 rfl ?_
    refine kz_gfi (M := kt_M553) (c := 12) (o := 0) kX13_takeKind_c3.2.1 wf_X13_547 (.inl rfl) ?_
    refine kz_iald (M := kt_M553) (c := 12) (o := 0) (k := 8) (a := (E.2.1 4080)) kX13_takeKind_c3.2.2.1 ow_12_0_8 oa_12_0_8 ot_0 h (fun h => ?_)
    refine kz_isub (M := kt_M553) kX13_takeKind_c3.2.2.2.1 ?_
    refine kz_iast (M := kt_M553) (c := 12) (o := 0) (k := 33) (a := (E.2.1 4105)) kX13_takeKind_c3.2.2.2.2.1 ow_12_0_33 oa_12_0_33 ot_0 h (fun h => ?_)
    refine kz_aload_n (M := kt_M553) kX13_takeKind_c3.2.2.2.2.2.1 rfl ?_
    refine kz_dup (M := kt_M553) kX13_takeKind_c3.2.2.2.2.2.2.1 rfl ?_
    refine kz_gfiR (M := kt_M553) (c := 12) (o := 0) (w_i w5 12 0 35) kX13_takeKind_c3.2.2.2.2.2.2.2.1 wf_X13_547 (.inl rfl) rd_i_a ?_
    refine kz_ic (M := kt_M553) 1 kX13_takeKind_c4.1 rfl ?_
    refine kz_iadd (M := kt_M553) kX13_takeKind_c4.2.1 ?_
    refine kz_pfi (M := kt_M553) (c := 12) (o := 0) kX13_takeKind_c4.2.2.1 wq_X13_547 (.inl rfl) ?_
    refine kz_goto (M := kt_M553) kX13_takeKind_c4.2.2.2.1 (t := 67) rfl ?_
    exact kz_weak [(0, .ref (w_adr E.2.1 12 0))] ⟨rfl, trivial⟩ rfl (zt_X13_takeKind_p67 hL  h)
def zb_X13_chain_p11 (E : zE) (L : Nat) (Q : kx_Rs → wS → Prop) (x2 : Int32) (w : wS) : Prop := Q (.inl (some (.int x2))) w
theorem zt_X13_chain_p11 {E : zE} {L : Nat} {Q : kx_Rs → wS → Prop} {x2 : Int32} {w : wS} (hL : 19 ≤ L) (h : zb_X13_chain_p11 E L Q x2 w) : kzE E L kt_M368 11 [(0, .ref (w_adr E.2.1 12 0)), (2, .int x2)] [] w Q := by
  unfold zb_X13_chain_p11 at h
  refine kz_iload_n (M := kt_M368) kX13_chain_c0.2.2.2.2.2.2.2.1 rfl ?_
  exact kz_iret (M := kt_M368) kX13_chain_c1.1 rfl rfl h
def zb_X13_chain_p0 (E : zE) (L : Nat) (Q : kx_Rs → wS → Prop) (x1 : Int32) (x2 : Int32) (w : wS) : Prop := (if x1 < 0 then zb_X13_chain_p11 E L Q x2 w else (kx_inb x1 (w_n w 12 0 32) = true ∧ zb_X13_chain_p11 E L Q x2 (ws_a w 12 0 32 (x1).toNatClampNeg x2)))
theorem zt_X13_chain_p0 {E : zE} {L : Nat} {Q : kx_Rs → wS → Prop} {x1 : Int32} {x2 : Int32} {w : wS} (hL : 19 ≤ L) (h : zb_X13_chain_p0 E L Q x1 x2 w) : kzE E L kt_M368 0 [(0, .ref (w_adr E.2.1 12 0)), (1, .int x1), (2, .int x2)] [] w Q := by
  unfold zb_X13_chain_p0 at h
  refine kz_iload_n (M := kt_M368) kX13_chain_c0.1 rfl ?_
  refine kz_if_lt (M := kt_M368) kX13_chain_c0.2.1 (t := 11) rfl h (fun h => ?_) (fun h => ?_)
  · skip
    exact kz_weak [(0, .ref (w_adr E.2.1 12 0)), (2, .int x2)] ⟨rfl, ⟨rfl, trivial⟩⟩ rfl (zt_X13_chain_p11 hL  h)
  · skip
    refine kz_aload_n (M := kt_M368) kX13_chain_c0.2.2.1 rfl ?_
    refine kz_gfc (M := kt_M368) (x := 4104) (c := 12) (o := 0) kX13_chain_c0.2.2.2.1 wf_X13_205 (.inl rfl) ?_
    refine kz_iload_n (M := kt_M368) kX13_chain_c0.2.2.2.2.1 rfl ?_
    refine kz_iload_n (M := kt_M368) kX13_chain_c0.2.2.2.2.2.1 rfl ?_
    refine kz_iast (M := kt_M368) (c := 12) (o := 0) (k := 32) (a := (E.2.1 4104)) kX13_chain_c0.2.2.2.2.2.2.1 ow_12_0_32 oa_12_0_32 ot_0 h (fun h => ?_)
    exact kz_weak [(0, .ref (w_adr E.2.1 12 0)), (2, .int x2)] ⟨rfl, ⟨rfl, trivial⟩⟩ rfl (zt_X13_chain_p11 hL  h)
def zb_X13_e_p35 (E : zE) (L : Nat) (Q : kx_Rs → wS → Prop) (x1 : Int32) (w : wS) : Prop := (kx_inb (w_i w 12 0 35) (w_n w 12 0 9) = true ∧ zw E (L - 22) kt_M494 [.ref (w_adr E.2.1 12 0), .int 62, .int (w_a w 12 0 9 (w_i w 12 0 35).toNatClampNeg)] w (wk1 (fun v2 w1 => wle w w1 → (kx_inb v2 (w_n w1 12 0 29) = true ∧ zw E (L - 24) kt_M498 [.ref (w_adr E.2.1 12 0)] (ws_a (ws_i w1 12 0 35 ((w_i w1 12 0 35) + 1)) 12 0 29 (v2).toNatClampNeg x1) (wk1 (fun v4 w3 => wle (ws_a (ws_i w1 12 0 35 ((w_i w1 12 0 35) + 1)) 12 0 29 (v2).toNatClampNeg x1) w3 → (kx_inb v2 (w_n w3 12 0 28) = true ∧ Q (.inl (some (.int v2))) (ws_a w3 12 0 28 (v2).toNatClampNeg v4))) (fun e w => Q (.inr e) w)))) (fun e w => Q (.inr e) w)))
theorem zt_X13_e_p35 {E : zE} {L : Nat} {Q : kx_Rs → wS → Prop} {x1 : Int32} {w : wS} (hL : 24 ≤ L) (h : zb_X13_e_p35 E L Q x1 w) : kzE E L kt_M393 35 [(0, .ref (w_adr E.2.1 12 0)), (1, .int x1)] [] w Q := by
  unfold zb_X13_e_p35 at h
  refine kz_aload_n (M := kt_M393) kX13_e_c2.2.2.1 rfl ?_
  refine kz_bi (M := kt_M393) 62 kX13_e_c2.2.2.2.1 rfl ?_
  refine kz_aload_n (M := kt_M393) kX13_e_c2.2.2.2.2.1 rfl ?_
  refine kz_gfc (M := kt_M393) (x := 4081) (c := 12) (o := 0) kX13_e_c2.2.2.2.2.2.1 wf_X13_163 (.inl rfl) ?_
  refine kz_aload_n (M := kt_M393) kX13_e_c2.2.2.2.2.2.2.1 rfl ?_
  refine kz_gfi (M := kt_M393) (c := 12) (o := 0) kX13_e_c2.2.2.2.2.2.2.2.1 wf_X13_547 (.inl rfl) ?_
  refine kz_iald (M := kt_M393) (c := 12) (o := 0) (k := 9) (a := (E.2.1 4081)) kX13_e_c3.1 ow_12_0_9 oa_12_0_9 ot_0 h (fun h => ?_)
  refine kz_cv1 (M := kt_M393) (c := 12) (o := 0) (As := [.int 62, .int (w_a w 12 0 9 (w_i w 12 0 35).toNatClampNeg)]) (rest := []) kX13_e_c3.2.1 wl_X13_592 wMv_494 rfl (.inl rfl) rfl (Nat.le_trans (Nat.le_of_ble_eq_true rfl) hL) (Nat.le_of_ble_eq_true rfl) (Nat.le_of_ble_eq_true rfl) h (fun v2 w1 hle h => ?_) (fun _ _ _ h => kzx_no rfl h)
  have h := h hle
  refine kz_sti_n (M := kt_M393) [(0, .ref (w_adr E.2.1 12 0)), (1, .int x1)] kX13_e_c3.2.2.1 (Nat.le_of_ble_eq_true rfl) ⟨⟨rfl, rfl, .inl rfl⟩, ⟨⟨rfl, rfl, .inr rfl⟩, trivial⟩⟩ rfl ?_
  refine kz_aload_n (M := kt_M393) kX13_e_c3.2.2.2.1 rfl ?_
  refine kz_dup (M := kt_M393) kX13_e_c3.2.2.2.2.1 rfl ?_
  refine kz_gfi (M := kt_M393) (c := 12) (o := 0) kX13_e_c3.2.2.2.2.2.1 wf_X13_547 (.inl rfl) ?_
  refine kz_ic (M := kt_M393) 1 kX13_e_c3.2.2.2.2.2.2.1 rfl ?_
  refine kz_iadd (M := kt_M393) kX13_e_c3.2.2.2.2.2.2.2.1 ?_
  refine kz_pfi (M := kt_M393) (c := 12) (o := 0) kX13_e_c4.1 wq_X13_547 (.inl rfl) ?_
  refine kz_aload_n (M := kt_M393) kX13_e_c4.2.1 rfl ?_
  refine kz_gfc (M := kt_M393) (x := 4101) (c := 12) (o := 0) kX13_e_c4.2.2.1 wf_X13_196 (.inl rfl) ?_
  refine kz_iload_n (M := kt_M393) kX13_e_c4.2.2.2.1 rfl ?_
  refine kz_iload_n (M := kt_M393) kX13_e_c4.2.2.2.2.1 rfl ?_
  refine kz_iastR (M := kt_M393) (n := w_n w1 12 0 29) (c := 12) (o := 0) (k := 29) (a := (E.2.1 4101)) kX13_e_c4.2.2.2.2.2.1 ow_12_0_29 oa_12_0_29 ot_0 rd_n_i h (fun h => ?_)
  refine kz_aload_n (M := kt_M393) kX13_e_c4.2.2.2.2.2.2.1 rfl ?_
  refine kz_gfc (M := kt_M393) (x := 4100) (c := 12) (o := 0) kX13_e_c4.2.2.2.2.2.2.2.1 wf_X13_193 (.inl rfl) ?_
  refine kz_iload_n (M := kt_M393) kX13_e_c5.1 rfl ?_
  refine kz_aload_n (M := kt_M393) kX13_e_c5.2.1 rfl ?_
  refine kz_cv1 (M := kt_M393) (c := 12) (o := 0) (As := []) (rest := [.int v2, .ref (E.2.1 4100)]) kX13_e_c5.2.2.1 wl_X13_672 wMv_498 rfl (.inl rfl) rfl (Nat.le_trans (Nat.le_of_ble_eq_true rfl) hL) (Nat.le_of_ble_eq_true rfl) (Nat.le_of_ble_eq_true rfl) h (fun v4 w3 hle h => ?_) (fun _ _ _ h => kzx_no rfl h)
  have h := h hle
  refine kz_iast (M := kt_M393) (c := 12) (o := 0) (k := 28) (a := (E.2.1 4100)) kX13_e_c5.2.2.2.1 ow_12_0_28 oa_12_0_28 ot_0 h (fun h => ?_)
  refine kz_iload_n (M := kt_M393) kX13_e_c5.2.2.2.2.1 rfl ?_
  exact kz_iret (M := kt_M393) kX13_e_c5.2.2.2.2.2.1 rfl rfl h
def zb_X13_e_p0 (E : zE) (L : Nat) (Q : kx_Rs → wS → Prop) (w : wS) : Prop := zw E (L - 20) kt_M462 [.ref (w_adr E.2.1 12 0)] w (wk1 (fun v2 w1 => wle w w1 → (if v2 = 58 then zb_X13_e_p35 E L Q v2 w1 else (if v2 = 67 then zb_X13_e_p35 E L Q v2 w1 else (if v2 = 17 then zb_X13_e_p35 E L Q v2 w1 else (if v2 = 14 then zb_X13_e_p35 E L Q v2 w1 else (if ¬ v2 = 27 then zw E (L - 24) kt_M498 [.ref (w_adr E.2.1 12 0)] w1 (wk1 (fun v4 w3 => wle w1 w3 → zw E (L - 24) kt_M394 [.ref (w_adr E.2.1 12 0), .int v4] w3 (wk1 (fun v6 w5 => wle w3 w5 → Q (.inl (some (.int v6))) w5) (fun e w => Q (.inr e) w))) (fun e w => Q (.inr e) w)) else zb_X13_e_p35 E L Q v2 w1)))))) (fun e w => Q (.inr e) w))
theorem zt_X13_e_p0 {E : zE} {L : Nat} {Q : kx_Rs → wS → Prop} {w : wS} (hL : 24 ≤ L) (h : zb_X13_e_p0 E L Q  w) : kzE E L kt_M393 0 [(0, .ref (w_adr E.2.1 12 0))] [] w Q := by
  unfold zb_X13_e_p0 at h
  refine kz_aload_n (M := kt_M393) kX13_e_c0.1 rfl ?_
  refine kz_cv1 (M := kt_M393) (c := 12) (o := 0) (As := []) (rest := []) kX13_e_c0.2.1 wl_X13_560 wMv_462 rfl (.inl rfl) rfl (Nat.le_trans (Nat.le_of_ble_eq_true rfl) hL) (Nat.le_of_ble_eq_true rfl) (Nat.le_of_ble_eq_true rfl) h (fun v2 w1 hle h => ?_) (fun _ _ _ h => kzx_no rfl h)
  have h := h hle
  refine kz_sti_n (M := kt_M393) [(0, .ref (w_adr E.2.1 12 0))] kX13_e_c0.2.2.1 (Nat.le_of_ble_eq_true rfl) ⟨⟨rfl, rfl, .inr rfl⟩, trivial⟩ rfl ?_
  refine kz_iload_n (M := kt_M393) kX13_e_c0.2.2.2.1 rfl ?_
  refine kz_bi (M := kt_M393) 58 kX13_e_c0.2.2.2.2.1 rfl ?_
  refine kz_icmp_eq (M := kt_M393) kX13_e_c0.2.2.2.2.2.1 (t := 35) rfl h (fun h => ?_) (fun h => ?_)
  · skip
    exact kz_weak [(0, .ref (w_adr E.2.1 12 0)), (1, .int v2)] ⟨rfl, ⟨rfl, trivial⟩⟩ rfl (zt_X13_e_p35 hL  h)
  · skip
    refine kz_iload_n (M := kt_M393) kX13_e_c0.2.2.2.2.2.2.1 rfl ?_
    refine kz_bi (M := kt_M393) 67 kX13_e_c0.2.2.2.2.2.2.2.1 rfl ?_
    refine kz_icmp_eq (M := kt_M393) kX13_e_c1.1 (t := 35) rfl h (fun h => ?_) (fun h => ?_)
    · skip
      exact kz_weak [(0, .ref (w_adr E.2.1 12 0)), (1, .int v2)] ⟨rfl, ⟨rfl, trivial⟩⟩ rfl (zt_X13_e_p35 hL  h)
    · skip
      refine kz_iload_n (M := kt_M393) kX13_e_c1.2.1 rfl ?_
      refine kz_bi (M := kt_M393) 17 kX13_e_c1.2.2.1 rfl ?_
      refine kz_icmp_eq (M := kt_M393) kX13_e_c1.2.2.2.1 (t := 35) rfl h (fun h => ?_) (fun h => ?_)
      · skip
        exact kz_weak [(0, .ref (w_adr E.2.1 12 0)), (1, .int v2)] ⟨rfl, ⟨rfl, trivial⟩⟩ rfl (zt_X13_e_p35 hL  h)
      · skip
        refine kz_iload_n (M := kt_M393) kX13_e_c1.2.2.2.2.1 rfl ?_
        refine kz_bi (M := kt_M393) 14 kX13_e_c1.2.2.2.2.2.1 rfl ?_
        refine kz_icmp_eq (M := kt_M393) kX13_e_c1.2.2.2.2.2.2.1 (t := 35) rfl h (fun h => ?_) (fun h => ?_)
        · skip
          exact kz_weak [(0, .ref (w_adr E.2.1 12 0)), (1, .int v2)] ⟨rfl, ⟨rfl, trivial⟩⟩ rfl (zt_X13_e_p35 hL  h)
        · skip
          refine kz_iload_n (M := kt_M393) kX13_e_c1.2.2.2.2.2.2.2.1 rfl ?_
          refine kz_bi (M := kt_M393) 27 kX13_e_c2.1 rfl ?_
          refine kz_icmp_ne (M := kt_M393) kX13_e_c2.2.1 (t := 80) rfl h (fun h => ?_) (fun h => ?_)
          · skip
            refine kz_aload_n (M := kt_M393) kX13_e_c5.2.2.2.2.2.2.1 rfl ?_
            refine kz_aload_n (M := kt_M393) kX13_e_c5.2.2.2.2.2.2.2.1 rfl ?_
            refine kz_cv1 (M := kt_M393) (c := 12) (o := 0) (As := []) (rest := [.ref (w_adr E.2.1 12 0)]) kX13_e_c6.1 wl_X13_672 wMv_498 rfl (.inl rfl) rfl (Nat.le_trans (Nat.le_of_ble_eq_true rfl) hL) (Nat.le_of_ble_eq_true rfl) (Nat.le_of_ble_eq_true rfl) h (fun v4 w3 hle h => ?_) (fun _ _ _ h => kzx_no rfl h)
            have h := h hle
            refine kz_cv1 (M := kt_M393) (c := 12) (o := 0) (As := [.int v4]) (rest := []) kX13_e_c6.2.1 wl_X13_654 wMv_394 rfl (.inl rfl) rfl (Nat.le_trans (Nat.le_of_ble_eq_true rfl) hL) (Nat.le_of_ble_eq_true rfl) (Nat.le_of_ble_eq_true rfl) h (fun v6 w5 hle h => ?_) (fun _ _ _ h => kzx_no rfl h)
            have h := h hle
            exact kz_iret (M := kt_M393) kX13_e_c6.2.2.1 rfl rfl h
          · skip
            exact kz_weak [(0, .ref (w_adr E.2.1 12 0)), (1, .int v2)] ⟨rfl, ⟨rfl, trivial⟩⟩ rfl (zt_X13_e_p35 hL  h)
def zb_X13_operand_2_p328 (E : zE) (L : Nat) (Q : kx_Rs → wS → Prop) (x2 : Int32) (y0 : Int32) (w : wS) : Prop := (if ¬ y0 = (-1) then zw E (L - 22) kt_M494 [.ref (w_adr E.2.1 12 0), .int y0, .int x2] w (wk1 (fun v2 w1 => wle w w1 → (kx_inb (w_i w1 12 0 35) (w_n w1 12 0 8) = true ∧ (kx_inb v2 (w_n w1 12 0 28) = true ∧ Q (.inl (some (.int v2))) (ws_i (ws_a w1 12 0 28 (v2).toNatClampNeg (w_a w1 12 0 8 (w_i w1 12 0 35).toNatClampNeg)) 12 0 35 ((w_i w1 12 0 35) + 1))))) (fun e w => Q (.inr e) w)) else zw E (L - 22) kt_M545 [.ref (w_adr E.2.1 12 0), .int 2] w (wkr (fun v4 w3 => wle w w3 → (v4 = some (w_adr E.2.1 13 0) ∧ Q (.inr "MeetingHouseModel$Halt") w3)) (fun e w => Q (.inr e) w)))
theorem zt_X13_operand_2_p328 {E : zE} {L : Nat} {Q : kx_Rs → wS → Prop} {x2 : Int32} {y0 : Int32} {w : wS} (hL : 24 ≤ L) (h : zb_X13_operand_2_p328 E L Q x2 y0 w) : kzE E L kt_M498 328 [(0, .ref (w_adr E.2.1 12 0)), (2, .int x2)] [.int y0] w Q := by
  unfold zb_X13_operand_2_p328 at h
  refine kz_sti_n (M := kt_M498) [(0, .ref (w_adr E.2.1 12 0)), (2, .int x2)] kX13_operand_2_c22.2.2.2.2.2.2.2.1 (Nat.le_of_ble_eq_true rfl) ⟨⟨rfl, rfl, .inl rfl⟩, ⟨⟨rfl, rfl, .inr rfl⟩, trivial⟩⟩ rfl ?_
  refine kz_iload_n (M := kt_M498) kX13_operand_2_c23.1 rfl ?_
  refine kz_ic (M := kt_M498) (-1) kX13_operand_2_c23.2.1 rfl ?_
  refine kz_icmp_ne (M := kt_M498) kX13_operand_2_c23.2.2.1 (t := 340) rfl h (fun h => ?_) (fun h => ?_)
  · skip
    refine kz_aload_n (M := kt_M498) kX13_operand_2_c23.2.2.2.2.2.2.2.1 rfl ?_
    refine kz_iload_n (M := kt_M498) kX13_operand_2_c24.1 rfl ?_
    refine kz_iload_n (M := kt_M498) kX13_operand_2_c24.2.1 rfl ?_
    refine kz_cv1 (M := kt_M498) (c := 12) (o := 0) (As := [.int y0, .int x2]) (rest := []) kX13_operand_2_c24.2.2.1 wl_X13_592 wMv_494 rfl (.inl rfl) rfl (Nat.le_trans (Nat.le_of_ble_eq_true rfl) hL) (Nat.le_of_ble_eq_true rfl) (Nat.le_of_ble_eq_true rfl) h (fun v2 w1 hle h => ?_) (fun _ _ _ h => kzx_no rfl h)
    have h := h hle
    refine kz_sti (M := kt_M498) [(0, .ref (w_adr E.2.1 12 0))] kX13_operand_2_c24.2.2.2.1 (Nat.le_of_ble_eq_true rfl) ⟨⟨rfl, rfl, .inl rfl⟩, trivial⟩ rfl ?_
    refine kz_aload_n (M := kt_M498) kX13_operand_2_c24.2.2.2.2.1 rfl ?_
    refine kz_gfc (M := kt_M498) (x := 4100) (c := 12) (o := 0) kX13_operand_2_c24.2.2.2.2.2.1 wf_X13_193 (.inl rfl) ?_
    refine kz_iload (M := kt_M498) kX13_operand_2_c24.2.2.2.2.2.2.1 rfl ?_
    refine kz_aload_n (M := kt_M498) kX13_operand_2_c24.2.2.2.2.2.2.2.1 rfl ?_
    refine kz_gfc (M := kt_M498) (x := 4080) (c := 12) (o := 0) kX13_operand_2_c25.1 wf_X13_160 (.inl rfl) ?_
    refine kz_aload_n (M := kt_M498) kX13_operand_2_c25.2.1 rfl ?_
    refine kz_gfi (M := kt_M498) (c := 12) (o := 0) kX13_operand_2_c25.2.2.1 wf_X13_547 (.inl rfl) ?_
    refine kz_iald (M := kt_M498) (c := 12) (o := 0) (k := 8) (a := (E.2.1 4080)) kX13_operand_2_c25.2.2.2.1 ow_12_0_8 oa_12_0_8 ot_0 h (fun h => ?_)
    refine kz_iast (M := kt_M498) (c := 12) (o := 0) (k := 28) (a := (E.2.1 4100)) kX13_operand_2_c25.2.2.2.2.1 ow_12_0_28 oa_12_0_28 ot_0 h (fun h => ?_)
    refine kz_aload_n (M := kt_M498) kX13_operand_2_c25.2.2.2.2.2.1 rfl ?_
    refine kz_dup (M := kt_M498) kX13_operand_2_c25.2.2.2.2.2.2.1 rfl ?_
    refine kz_gfiR (M := kt_M498) (c := 12) (o := 0) (w_i w1 12 0 35) kX13_operand_2_c25.2.2.2.2.2.2.2.1 wf_X13_547 (.inl rfl) rd_i_a ?_
    refine kz_ic (M := kt_M498) 1 kX13_operand_2_c26.1 rfl ?_
    refine kz_iadd (M := kt_M498) kX13_operand_2_c26.2.1 ?_
    refine kz_pfi (M := kt_M498) (c := 12) (o := 0) kX13_operand_2_c26.2.2.1 wq_X13_547 (.inl rfl) ?_
    refine kz_iload (M := kt_M498) kX13_operand_2_c26.2.2.2.1 rfl ?_
    exact kz_iret (M := kt_M498) kX13_operand_2_c26.2.2.2.2.1 rfl rfl h
  · skip
    refine kz_aload_n (M := kt_M498) kX13_operand_2_c23.2.2.2.1 rfl ?_
    refine kz_ic (M := kt_M498) 2 kX13_operand_2_c23.2.2.2.2.1 rfl ?_
    refine kz_cvr (M := kt_M498) (c := 12) (o := 0) (As := [.int 2]) (rest := []) kX13_operand_2_c23.2.2.2.2.2.1 wl_X13_556 wMv_545 rfl (.inl rfl) rfl (Nat.le_trans (Nat.le_of_ble_eq_true rfl) hL) (Nat.le_of_ble_eq_true rfl) (Nat.le_of_ble_eq_true rfl) h (fun v4 w3 hle h => ?_) (fun _ _ _ h => kzx_no rfl h)
    have h := h hle
    exact kz_throw (M := kt_M498) (c := 13) (o := 0) kX13_operand_2_c23.2.2.2.2.2.2.1 rfl (.inl rfl) h (fun h => kzx_no rfl h)
def zb_X13_operand_2_p267 (E : zE) (L : Nat) (Q : kx_Rs → wS → Prop) (x2 : Int32) (y0 : Int32) (w : wS) : Prop := zw E (L - 22) kt_M494 [.ref (w_adr E.2.1 12 0), .int y0, .int x2] w (wk1 (fun v2 w1 => wle w w1 → Q (.inl (some (.int v2))) w1) (fun e w => Q (.inr e) w))
theorem zt_X13_operand_2_p267 {E : zE} {L : Nat} {Q : kx_Rs → wS → Prop} {x2 : Int32} {y0 : Int32} {w : wS} (hL : 24 ≤ L) (h : zb_X13_operand_2_p267 E L Q x2 y0 w) : kzE E L kt_M498 267 [(0, .ref (w_adr E.2.1 12 0)), (2, .int x2)] [.int y0, .ref (w_adr E.2.1 12 0)] w Q := by
  unfold zb_X13_operand_2_p267 at h
  refine kz_iload_n (M := kt_M498) kX13_operand_2_c19.2.2.1 rfl ?_
  refine kz_cv1 (M := kt_M498) (c := 12) (o := 0) (As := [.int y0, .int x2]) (rest := []) kX13_operand_2_c19.2.2.2.1 wl_X13_592 wMv_494 rfl (.inl rfl) rfl (Nat.le_trans (Nat.le_of_ble_eq_true rfl) hL) (Nat.le_of_ble_eq_true rfl) (Nat.le_of_ble_eq_true rfl) h (fun v2 w1 hle h => ?_) (fun _ _ _ h => kzx_no rfl h)
  have h := h hle
  exact kz_iret (M := kt_M498) kX13_operand_2_c19.2.2.2.2.1 rfl rfl h
def zb_X13_operand_2_p237 (E : zE) (L : Nat) (Q : kx_Rs → wS → Prop) (x1 : Int32) (x2 : Int32) (w : wS) : Prop := zw E (L - 21) kt_M600 [.ref (w_adr E.2.1 12 0), .int 12] (ws_i w 12 0 35 ((w_i w 12 0 35) + 1)) (wk0 (fun w1 => wle (ws_i w 12 0 35 ((w_i w 12 0 35) + 1)) w1 → (if ¬ x1 = 16 then zb_X13_operand_2_p267 E L Q x2 56 w1 else zb_X13_operand_2_p267 E L Q x2 55 w1)) (fun e w => Q (.inr e) w))
theorem zt_X13_operand_2_p237 {E : zE} {L : Nat} {Q : kx_Rs → wS → Prop} {x1 : Int32} {x2 : Int32} {w : wS} (hL : 24 ≤ L) (h : zb_X13_operand_2_p237 E L Q x1 x2 w) : kzE E L kt_M498 237 [(0, .ref (w_adr E.2.1 12 0)), (1, .int x1), (2, .int x2)] [] w Q := by
  unfold zb_X13_operand_2_p237 at h
  refine kz_aload_n (M := kt_M498) kX13_operand_2_c17.2.2.1 rfl ?_
  refine kz_dup (M := kt_M498) kX13_operand_2_c17.2.2.2.1 rfl ?_
  refine kz_gfi (M := kt_M498) (c := 12) (o := 0) kX13_operand_2_c17.2.2.2.2.1 wf_X13_547 (.inl rfl) ?_
  refine kz_ic (M := kt_M498) 1 kX13_operand_2_c17.2.2.2.2.2.1 rfl ?_
  refine kz_iadd (M := kt_M498) kX13_operand_2_c17.2.2.2.2.2.2.1 ?_
  refine kz_pfi (M := kt_M498) (c := 12) (o := 0) kX13_operand_2_c17.2.2.2.2.2.2.2.1 wq_X13_547 (.inl rfl) ?_
  refine kz_aload_n (M := kt_M498) kX13_operand_2_c18.1 rfl ?_
  refine kz_bi (M := kt_M498) 12 kX13_operand_2_c18.2.1 rfl ?_
  refine kz_cv0 (M := kt_M498) (c := 12) (o := 0) (As := [.int 12]) (rest := []) kX13_operand_2_c18.2.2.1 wl_X13_585 wMv_600 rfl (.inl rfl) rfl (Nat.le_trans (Nat.le_of_ble_eq_true rfl) hL) (Nat.le_of_ble_eq_true rfl) (Nat.le_of_ble_eq_true rfl) h (fun w1 hle h => ?_) (fun _ _ _ h => kzx_no rfl h)
  have h := h hle
  refine kz_aload_n (M := kt_M498) kX13_operand_2_c18.2.2.2.1 rfl ?_
  refine kz_iload_n (M := kt_M498) kX13_operand_2_c18.2.2.2.2.1 rfl ?_
  refine kz_bi (M := kt_M498) 16 kX13_operand_2_c18.2.2.2.2.2.1 rfl ?_
  refine kz_icmp_ne (M := kt_M498) kX13_operand_2_c18.2.2.2.2.2.2.1 (t := 265) rfl h (fun h => ?_) (fun h => ?_)
  · skip
    refine kz_bi (M := kt_M498) 56 kX13_operand_2_c19.2.1 rfl ?_
    exact kz_weak [(0, .ref (w_adr E.2.1 12 0)), (2, .int x2)] ⟨rfl, ⟨rfl, trivial⟩⟩ rfl (zt_X13_operand_2_p267 hL  h)
  · skip
    refine kz_bi (M := kt_M498) 55 kX13_operand_2_c18.2.2.2.2.2.2.2.1 rfl ?_
    refine kz_goto (M := kt_M498) kX13_operand_2_c19.1 (t := 267) rfl ?_
    exact kz_weak [(0, .ref (w_adr E.2.1 12 0)), (2, .int x2)] ⟨rfl, ⟨rfl, trivial⟩⟩ rfl (zt_X13_operand_2_p267 hL  h)
def zb_X13_operand_2_p202 (E : zE) (L : Nat) (Q : kx_Rs → wS → Prop) (x3 : Int32) (y0 : Int32) (y1 : Int32) (w : wS) : Prop := (kx_inb y1 (w_n w 12 0 29) = true ∧ zw E (L - 24) kt_M498 [.ref (w_adr E.2.1 12 0)] (ws_a w 12 0 29 (y1).toNatClampNeg y0) (wk1 (fun v2 w1 => wle (ws_a w 12 0 29 (y1).toNatClampNeg y0) w1 → (kx_inb x3 (w_n w1 12 0 28) = true ∧ Q (.inl (some (.int x3))) (ws_i (ws_a w1 12 0 28 (x3).toNatClampNeg v2) 12 0 38 ((w_i w1 12 0 38) - 1)))) (fun e w => Q (.inr e) w)))
theorem zt_X13_operand_2_p202 {E : zE} {L : Nat} {Q : kx_Rs → wS → Prop} {x3 : Int32} {y0 : Int32} {y1 : Int32} {w : wS} (hL : 24 ≤ L) (h : zb_X13_operand_2_p202 E L Q x3 y0 y1 w) : kzE E L kt_M498 202 [(0, .ref (w_adr E.2.1 12 0)), (3, .int x3)] [.int y0, .int y1, .ref (E.2.1 4101)] w Q := by
  unfold zb_X13_operand_2_p202 at h
  refine kz_iast (M := kt_M498) (c := 12) (o := 0) (k := 29) (a := (E.2.1 4101)) kX13_operand_2_c14.2.2.2.2.2.1 ow_12_0_29 oa_12_0_29 ot_0 h (fun h => ?_)
  refine kz_aload_n (M := kt_M498) kX13_operand_2_c14.2.2.2.2.2.2.1 rfl ?_
  refine kz_gfc (M := kt_M498) (x := 4100) (c := 12) (o := 0) kX13_operand_2_c14.2.2.2.2.2.2.2.1 wf_X13_193 (.inl rfl) ?_
  refine kz_iload_n (M := kt_M498) kX13_operand_2_c15.1 rfl ?_
  refine kz_aload_n (M := kt_M498) kX13_operand_2_c15.2.1 rfl ?_
  refine kz_cv1 (M := kt_M498) (c := 12) (o := 0) (As := []) (rest := [.int x3, .ref (E.2.1 4100)]) kX13_operand_2_c15.2.2.1 wl_X13_672 wMv_498 rfl (.inl rfl) rfl (Nat.le_trans (Nat.le_of_ble_eq_true rfl) hL) (Nat.le_of_ble_eq_true rfl) (Nat.le_of_ble_eq_true rfl) h (fun v2 w1 hle h => ?_) (fun _ _ _ h => kzx_no rfl h)
  have h := h hle
  refine kz_iast (M := kt_M498) (c := 12) (o := 0) (k := 28) (a := (E.2.1 4100)) kX13_operand_2_c15.2.2.2.1 ow_12_0_28 oa_12_0_28 ot_0 h (fun h => ?_)
  refine kz_aload_n (M := kt_M498) kX13_operand_2_c15.2.2.2.2.1 rfl ?_
  refine kz_dup (M := kt_M498) kX13_operand_2_c15.2.2.2.2.2.1 rfl ?_
  refine kz_gfiR (M := kt_M498) (c := 12) (o := 0) (w_i w1 12 0 38) kX13_operand_2_c15.2.2.2.2.2.2.1 wf_X13_669 (.inl rfl) rd_i_a ?_
  refine kz_ic (M := kt_M498) 1 kX13_operand_2_c15.2.2.2.2.2.2.2.1 rfl ?_
  refine kz_isub (M := kt_M498) kX13_operand_2_c16.1 ?_
  refine kz_pfi (M := kt_M498) (c := 12) (o := 0) kX13_operand_2_c16.2.1 wq_X13_669 (.inl rfl) ?_
  refine kz_iload_n (M := kt_M498) kX13_operand_2_c16.2.2.1 rfl ?_
  exact kz_iret (M := kt_M498) kX13_operand_2_c16.2.2.2.1 rfl rfl h
def zb_X13_operand_2_p0 (E : zE) (L : Nat) (Q : kx_Rs → wS → Prop) (w : wS) : Prop := zw E (L - 20) kt_M462 [.ref (w_adr E.2.1 12 0)] w (wk1 (fun v2 w1 => wle w w1 → (kx_inb (w_i w1 12 0 35) (w_n w1 12 0 9) = true ∧ (if ¬ v2 = 70 then (if ¬ v2 = 40 then (if ¬ v2 = 42 then zw E (L - 20) kt_M448 [.int v2] w1 (wk1 (fun v4 w3 => wle w1 w3 → (if v4 = 0 then (if v2 = 16 then zb_X13_operand_2_p237 E L Q v2 (w_a w1 12 0 9 (w_i w1 12 0 35).toNatClampNeg) w3 else (if ¬ v2 = 15 then (if ¬ v2 = 71 then (if ¬ v2 = 72 then (if ¬ v2 = 73 then (if ¬ v2 = 32 then (if ¬ v2 = 8 then zb_X13_operand_2_p328 E L Q (w_a w1 12 0 9 (w_i w1 12 0 35).toNatClampNeg) (-1) w3 else zb_X13_operand_2_p328 E L Q (w_a w1 12 0 9 (w_i w1 12 0 35).toNatClampNeg) 54 w3) else zb_X13_operand_2_p328 E L Q (w_a w1 12 0 9 (w_i w1 12 0 35).toNatClampNeg) 53 w3) else zb_X13_operand_2_p328 E L Q (w_a w1 12 0 9 (w_i w1 12 0 35).toNatClampNeg) 52 w3) else zb_X13_operand_2_p328 E L Q (w_a w1 12 0 9 (w_i w1 12 0 35).toNatClampNeg) 51 w3) else zb_X13_operand_2_p328 E L Q (w_a w1 12 0 9 (w_i w1 12 0 35).toNatClampNeg) 50 w3) else zb_X13_operand_2_p237 E L Q v2 (w_a w1 12 0 9 (w_i w1 12 0 35).toNatClampNeg) w3)) else zw E (L - 20) kt_M497 [.ref (w_adr E.2.1 12 0)] w3 (wk0 (fun w5 => wle w3 w5 → zw E (L - 22) kt_M494 [.ref (w_adr E.2.1 12 0), .int 57, .int (w_a w1 12 0 9 (w_i w1 12 0 35).toNatClampNeg)] w5 (wk1 (fun v8 w7 => wle w5 w7 → (if ¬ v2 = 12 then (if ¬ v2 = 4 then zb_X13_operand_2_p202 E L Q v8 2 v8 w7 else zb_X13_operand_2_p202 E L Q v8 1 v8 w7) else zb_X13_operand_2_p202 E L Q v8 0 v8 w7)) (fun e w => Q (.inr e) w))) (fun e w => Q (.inr e) w)))) (fun e w => Q (.inr e) w)) else zw E (L - 20) kt_M497 [.ref (w_adr E.2.1 12 0)] w1 (wk0 (fun w9 => wle w1 w9 → zw E (L - 22) kt_M494 [.ref (w_adr E.2.1 12 0), .int 59, .int (w_a w1 12 0 9 (w_i w1 12 0 35).toNatClampNeg)] w9 (wk1 (fun v12 w11 => wle w9 w11 → zw E (L - 22) kt_M459 [.ref (w_adr E.2.1 12 0)] w11 (wk1 (fun v14 w13 => wle w11 w13 → (kx_inb v12 (w_n w13 12 0 28) = true ∧ zw E (L - 21) kt_M600 [.ref (w_adr E.2.1 12 0), .int 43] (ws_a w13 12 0 28 (v12).toNatClampNeg v14) (wk0 (fun w15 => wle (ws_a w13 12 0 28 (v12).toNatClampNeg v14) w15 → Q (.inl (some (.int v12))) (ws_i w15 12 0 38 ((w_i w15 12 0 38) - 1))) (fun e w => Q (.inr e) w)))) (fun e w => Q (.inr e) w))) (fun e w => Q (.inr e) w))) (fun e w => Q (.inr e) w))) else zw E (L - 20) kt_M497 [.ref (w_adr E.2.1 12 0)] w1 (wk0 (fun w17 => wle w1 w17 → zw E (L - 22) kt_M494 [.ref (w_adr E.2.1 12 0), .int 58, .int (w_a w1 12 0 9 (w_i w1 12 0 35).toNatClampNeg)] w17 (wk1 (fun v20 w19 => wle w17 w19 → zw E (L - 22) kt_M393 [.ref (w_adr E.2.1 12 0)] w19 (wk1 (fun v22 w21 => wle w19 w21 → (kx_inb v20 (w_n w21 12 0 28) = true ∧ zw E (L - 21) kt_M600 [.ref (w_adr E.2.1 12 0), .int 41] (ws_a w21 12 0 28 (v20).toNatClampNeg v22) (wk0 (fun w23 => wle (ws_a w21 12 0 28 (v20).toNatClampNeg v22) w23 → Q (.inl (some (.int v20))) (ws_i w23 12 0 38 ((w_i w23 12 0 38) - 1))) (fun e w => Q (.inr e) w)))) (fun e w => Q (.inr e) w))) (fun e w => Q (.inr e) w))) (fun e w => Q (.inr e) w))) else zw E (L - 21) kt_M349 [.ref (w_adr E.2.1 12 0), .int 1] w1 (wk1 (fun v26 w25 => wle w1 w25 → (if v26 = 40 then zw E (L - 22) kt_M494 [.ref (w_adr E.2.1 12 0), .int 61, .int (w_a w1 12 0 9 (w_i w1 12 0 35).toNatClampNeg)] w25 (wk1 (fun v28 w27 => wle w25 w27 → zw E (L - 20) kt_M601 [.ref (w_adr E.2.1 12 0)] w27 (wk1 (fun v30 w29 => wle w27 w29 → (kx_inb v28 (w_n w29 12 0 30) = true ∧ zw E (L - 21) kt_M352 [.ref (w_adr E.2.1 12 0)] (ws_a w29 12 0 30 (v28).toNatClampNeg v30) (wk1 (fun v32 w31 => wle (ws_a w29 12 0 30 (v28).toNatClampNeg v30) w31 → (kx_inb v28 (w_n w31 12 0 28) = true ∧ Q (.inl (some (.int v28))) (ws_a w31 12 0 28 (v28).toNatClampNeg v32))) (fun e w => Q (.inr e) w)))) (fun e w => Q (.inr e) w))) (fun e w => Q (.inr e) w)) else zw E (L - 23) kt_M396 [.ref (w_adr E.2.1 12 0)] w25 (wk1 (fun v34 w33 => wle w25 w33 → Q (.inl (some (.int v34))) w33) (fun e w => Q (.inr e) w)))) (fun e w => Q (.inr e) w))))) (fun e w => Q (.inr e) w))
theorem zt_X13_operand_2_p0 {E : zE} {L : Nat} {Q : kx_Rs → wS → Prop} {w : wS} (hL : 24 ≤ L) (h : zb_X13_operand_2_p0 E L Q  w) : kzE E L kt_M498 0 [(0, .ref (w_adr E.2.1 12 0))] [] w Q := by
  unfold zb_X13_operand_2_p0 at h
  refine kz_aload_n (M := kt_M498) kX13_operand_2_c0.1 rfl ?_
  refine kz_cv1 (M := kt_M498) (c := 12) (o := 0) (As := []) (rest := []) kX13_operand_2_c0.2.1 wl_X13_560 wMv_462 rfl (.inl rfl) rfl (Nat.le_trans (Nat.le_of_ble_eq_true rfl) hL) (Nat.le_of_ble_eq_true rfl) (Nat.le_of_ble_eq_true rfl) h (fun v2 w1 hle h => ?_) (fun _ _ _ h => kzx_no rfl h)
  have h := h hle
  refine kz_sti_n (M := kt_M498) [(0, .ref (w_adr E.2.1 12 0))] kX13_operand_2_c0.2.2.1 (Nat.le_of_ble_eq_true rfl) ⟨⟨rfl, rfl, .inr rfl⟩, trivial⟩ rfl ?_
  refine kz_aload_n (M := kt_M498) kX13_operand_2_c0.2.2.2.1 rfl ?_
  refine kz_gfc (M := kt_M498) (x := 4081) (c := 12) (o := 0) kX13_operand_2_c0.2.2.2.2.1 wf_X13_163 (.inl rfl) ?_
  refine kz_aload_n (M := kt_M498) kX13_operand_2_c0.2.2.2.2.2.1 rfl ?_
  refine kz_gfi (M := kt_M498) (c := 12) (o := 0) kX13_operand_2_c0.2.2.2.2.2.2.1 wf_X13_547 (.inl rfl) ?_
  refine kz_iald (M := kt_M498) (c := 12) (o := 0) (k := 9) (a := (E.2.1 4081)) kX13_operand_2_c0.2.2.2.2.2.2.2.1 ow_12_0_9 oa_12_0_9 ot_0 h (fun h => ?_)
  refine kz_sti_n (M := kt_M498) [(0, .ref (w_adr E.2.1 12 0)), (1, .int v2)] kX13_operand_2_c1.1 (Nat.le_of_ble_eq_true rfl) ⟨⟨rfl, rfl, .inl rfl⟩, ⟨⟨rfl, rfl, .inr rfl⟩, trivial⟩⟩ rfl ?_
  refine kz_iload_n (M := kt_M498) kX13_operand_2_c1.2.1 rfl ?_
  refine kz_bi (M := kt_M498) 70 kX13_operand_2_c1.2.2.1 rfl ?_
  refine kz_icmp_ne (M := kt_M498) kX13_operand_2_c1.2.2.2.1 (t := 66) rfl h (fun h => ?_) (fun h => ?_)
  · skip
    refine kz_iload_n (M := kt_M498) kX13_operand_2_c4.2.2.2.2.2.2.2.1 rfl ?_
    refine kz_bi (M := kt_M498) 40 kX13_operand_2_c5.1 rfl ?_
    refine kz_icmp_ne (M := kt_M498) kX13_operand_2_c5.2.1 (t := 112) rfl h (fun h => ?_) (fun h => ?_)
    · skip
      refine kz_iload_n (M := kt_M498) kX13_operand_2_c8.2.2.1 rfl ?_
      refine kz_bi (M := kt_M498) 42 kX13_operand_2_c8.2.2.2.1 rfl ?_
      refine kz_icmp_ne (M := kt_M498) kX13_operand_2_c8.2.2.2.2.1 (t := 158) rfl h (fun h => ?_) (fun h => ?_)
      · skip
        refine kz_iload_n (M := kt_M498) kX13_operand_2_c11.2.2.2.2.2.1 rfl ?_
        refine kz_cs1 (M := kt_M498) (As := [.int v2]) (rest := []) kX13_operand_2_c11.2.2.2.2.2.2.1 wl_X13_563 wMs_448 rfl (Nat.le_trans (Nat.le_of_ble_eq_true rfl) hL) (Nat.le_of_ble_eq_true rfl) (Nat.le_of_ble_eq_true rfl) h (fun v4 w3 hle h => ?_) (fun _ _ _ h => kzx_no rfl h)
        have h := h hle
        refine kz_if_eq (M := kt_M498) kX13_operand_2_c11.2.2.2.2.2.2.2.1 (t := 225) rfl h (fun h => ?_) (fun h => ?_)
        · skip
          refine kz_iload_n (M := kt_M498) kX13_operand_2_c16.2.2.2.2.1 rfl ?_
          refine kz_bi (M := kt_M498) 16 kX13_operand_2_c16.2.2.2.2.2.1 rfl ?_
          refine kz_icmp_eq (M := kt_M498) kX13_operand_2_c16.2.2.2.2.2.2.1 (t := 237) rfl h (fun h => ?_) (fun h => ?_)
          · skip
            exact kz_weak [(0, .ref (w_adr E.2.1 12 0)), (1, .int v2), (2, .int (w_a w1 12 0 9 (w_i w1 12 0 35).toNatClampNeg))] ⟨rfl, ⟨rfl, ⟨rfl, trivial⟩⟩⟩ rfl (zt_X13_operand_2_p237 hL  h)
          · skip
            refine kz_iload_n (M := kt_M498) kX13_operand_2_c16.2.2.2.2.2.2.2.1 rfl ?_
            refine kz_bi (M := kt_M498) 15 kX13_operand_2_c17.1 rfl ?_
            refine kz_icmp_ne (M := kt_M498) kX13_operand_2_c17.2.1 (t := 272) rfl h (fun h => ?_) (fun h => ?_)
            · skip
              refine kz_iload_n (M := kt_M498) kX13_operand_2_c19.2.2.2.2.2.1 rfl ?_
              refine kz_bi (M := kt_M498) 71 kX13_operand_2_c19.2.2.2.2.2.2.1 rfl ?_
              refine kz_icmp_ne (M := kt_M498) kX13_operand_2_c19.2.2.2.2.2.2.2.1 (t := 283) rfl h (fun h => ?_) (fun h => ?_)
              · skip
                refine kz_iload_n (M := kt_M498) kX13_operand_2_c20.2.2.1 rfl ?_
                refine kz_bi (M := kt_M498) 72 kX13_operand_2_c20.2.2.2.1 rfl ?_
                refine kz_icmp_ne (M := kt_M498) kX13_operand_2_c20.2.2.2.2.1 (t := 294) rfl h (fun h => ?_) (fun h => ?_)
                · skip
                  refine kz_iload_n (M := kt_M498) kX13_operand_2_c20.2.2.2.2.2.2.2.1 rfl ?_
                  refine kz_bi (M := kt_M498) 73 kX13_operand_2_c21.1 rfl ?_
                  refine kz_icmp_ne (M := kt_M498) kX13_operand_2_c21.2.1 (t := 305) rfl h (fun h => ?_) (fun h => ?_)
                  · skip
                    refine kz_iload_n (M := kt_M498) kX13_operand_2_c21.2.2.2.2.1 rfl ?_
                    refine kz_bi (M := kt_M498) 32 kX13_operand_2_c21.2.2.2.2.2.1 rfl ?_
                    refine kz_icmp_ne (M := kt_M498) kX13_operand_2_c21.2.2.2.2.2.2.1 (t := 316) rfl h (fun h => ?_) (fun h => ?_)
                    · skip
                      refine kz_iload_n (M := kt_M498) kX13_operand_2_c22.2.1 rfl ?_
                      refine kz_bi (M := kt_M498) 8 kX13_operand_2_c22.2.2.1 rfl ?_
                      refine kz_icmp_ne (M := kt_M498) kX13_operand_2_c22.2.2.2.1 (t := 327) rfl h (fun h => ?_) (fun h => ?_)
                      · skip
                        refine kz_ic (M := kt_M498) (-1) kX13_operand_2_c22.2.2.2.2.2.2.1 rfl ?_
                        exact kz_weak [(0, .ref (w_adr E.2.1 12 0)), (2, .int (w_a w1 12 0 9 (w_i w1 12 0 35).toNatClampNeg))] ⟨rfl, ⟨rfl, trivial⟩⟩ rfl (zt_X13_operand_2_p328 hL  h)
                      · skip
                        refine kz_bi (M := kt_M498) 54 kX13_operand_2_c22.2.2.2.2.1 rfl ?_
                        refine kz_goto (M := kt_M498) kX13_operand_2_c22.2.2.2.2.2.1 (t := 328) rfl ?_
                        exact kz_weak [(0, .ref (w_adr E.2.1 12 0)), (2, .int (w_a w1 12 0 9 (w_i w1 12 0 35).toNatClampNeg))] ⟨rfl, ⟨rfl, trivial⟩⟩ rfl (zt_X13_operand_2_p328 hL  h)
                    · skip
                      refine kz_bi (M := kt_M498) 53 kX13_operand_2_c21.2.2.2.2.2.2.2.1 rfl ?_
                      refine kz_goto (M := kt_M498) kX13_operand_2_c22.1 (t := 328) rfl ?_
                      exact kz_weak [(0, .ref (w_adr E.2.1 12 0)), (2, .int (w_a w1 12 0 9 (w_i w1 12 0 35).toNatClampNeg))] ⟨rfl, ⟨rfl, trivial⟩⟩ rfl (zt_X13_operand_2_p328 hL  h)
                  · skip
                    refine kz_bi (M := kt_M498) 52 kX13_operand_2_c21.2.2.1 rfl ?_
                    refine kz_goto (M := kt_M498) kX13_operand_2_c21.2.2.2.1 (t := 328) rfl ?_
                    exact kz_weak [(0, .ref (w_adr E.2.1 12 0)), (2, .int (w_a w1 12 0 9 (w_i w1 12 0 35).toNatClampNeg))] ⟨rfl, ⟨rfl, trivial⟩⟩ rfl (zt_X13_operand_2_p328 hL  h)
                · skip
                  refine kz_bi (M := kt_M498) 51 kX13_operand_2_c20.2.2.2.2.2.1 rfl ?_
                  refine kz_goto (M := kt_M498) kX13_operand_2_c20.2.2.2.2.2.2.1 (t := 328) rfl ?_
                  exact kz_weak [(0, .ref (w_adr E.2.1 12 0)), (2, .int (w_a w1 12 0 9 (w_i w1 12 0 35).toNatClampNeg))] ⟨rfl, ⟨rfl, trivial⟩⟩ rfl (zt_X13_operand_2_p328 hL  h)
              · skip
                refine kz_bi (M := kt_M498) 50 kX13_operand_2_c20.1 rfl ?_
                refine kz_goto (M := kt_M498) kX13_operand_2_c20.2.1 (t := 328) rfl ?_
                exact kz_weak [(0, .ref (w_adr E.2.1 12 0)), (2, .int (w_a w1 12 0 9 (w_i w1 12 0 35).toNatClampNeg))] ⟨rfl, ⟨rfl, trivial⟩⟩ rfl (zt_X13_operand_2_p328 hL  h)
            · skip
              exact kz_weak [(0, .ref (w_adr E.2.1 12 0)), (1, .int v2), (2, .int (w_a w1 12 0 9 (w_i w1 12 0 35).toNatClampNeg))] ⟨rfl, ⟨rfl, ⟨rfl, trivial⟩⟩⟩ rfl (zt_X13_operand_2_p237 hL  h)
        · skip
          refine kz_aload_n (M := kt_M498) kX13_operand_2_c12.1 rfl ?_
          refine kz_cv0 (M := kt_M498) (c := 12) (o := 0) (As := []) (rest := []) kX13_operand_2_c12.2.1 wl_X13_666 wMv_497 rfl (.inl rfl) rfl (Nat.le_trans (Nat.le_of_ble_eq_true rfl) hL) (Nat.le_of_ble_eq_true rfl) (Nat.le_of_ble_eq_true rfl) h (fun w5 hle h => ?_) (fun _ _ _ h => kzx_no rfl h)
          have h := h hle
          refine kz_aload_n (M := kt_M498) kX13_operand_2_c12.2.2.1 rfl ?_
          refine kz_bi (M := kt_M498) 57 kX13_operand_2_c12.2.2.2.1 rfl ?_
          refine kz_iload_n (M := kt_M498) kX13_operand_2_c12.2.2.2.2.1 rfl ?_
          refine kz_cv1 (M := kt_M498) (c := 12) (o := 0) (As := [.int 57, .int (w_a w1 12 0 9 (w_i w1 12 0 35).toNatClampNeg)]) (rest := []) kX13_operand_2_c12.2.2.2.2.2.1 wl_X13_592 wMv_494 rfl (.inl rfl) rfl (Nat.le_trans (Nat.le_of_ble_eq_true rfl) hL) (Nat.le_of_ble_eq_true rfl) (Nat.le_of_ble_eq_true rfl) h (fun v8 w7 hle h => ?_) (fun _ _ _ h => kzx_no rfl h)
          have h := h hle
          refine kz_sti_n (M := kt_M498) [(0, .ref (w_adr E.2.1 12 0)), (1, .int v2)] kX13_operand_2_c12.2.2.2.2.2.2.1 (Nat.le_of_ble_eq_true rfl) ⟨⟨rfl, rfl, .inl rfl⟩, ⟨⟨rfl, rfl, .inl rfl⟩, trivial⟩⟩ rfl ?_
          refine kz_aload_n (M := kt_M498) kX13_operand_2_c12.2.2.2.2.2.2.2.1 rfl ?_
          refine kz_gfc (M := kt_M498) (x := 4101) (c := 12) (o := 0) kX13_operand_2_c13.1 wf_X13_196 (.inl rfl) ?_
          refine kz_iload_n (M := kt_M498) kX13_operand_2_c13.2.1 rfl ?_
          refine kz_iload_n (M := kt_M498) kX13_operand_2_c13.2.2.1 rfl ?_
          refine kz_bi (M := kt_M498) 12 kX13_operand_2_c13.2.2.2.1 rfl ?_
          refine kz_icmp_ne (M := kt_M498) kX13_operand_2_c13.2.2.2.2.1 (t := 192) rfl h (fun h => ?_) (fun h => ?_)
          · skip
            refine kz_iload_n (M := kt_M498) kX13_operand_2_c13.2.2.2.2.2.2.2.1 rfl ?_
            refine kz_ic (M := kt_M498) 4 kX13_operand_2_c14.1 rfl ?_
            refine kz_icmp_ne (M := kt_M498) kX13_operand_2_c14.2.1 (t := 201) rfl h (fun h => ?_) (fun h => ?_)
            · skip
              refine kz_ic (M := kt_M498) 2 kX13_operand_2_c14.2.2.2.2.1 rfl ?_
              exact kz_weak [(0, .ref (w_adr E.2.1 12 0)), (3, .int v8)] ⟨rfl, ⟨rfl, trivial⟩⟩ rfl (zt_X13_operand_2_p202 hL  h)
            · skip
              refine kz_ic (M := kt_M498) 1 kX13_operand_2_c14.2.2.1 rfl ?_
              refine kz_goto (M := kt_M498) kX13_operand_2_c14.2.2.2.1 (t := 202) rfl ?_
              exact kz_weak [(0, .ref (w_adr E.2.1 12 0)), (3, .int v8)] ⟨rfl, ⟨rfl, trivial⟩⟩ rfl (zt_X13_operand_2_p202 hL  h)
          · skip
            refine kz_ic (M := kt_M498) 0 kX13_operand_2_c13.2.2.2.2.2.1 rfl ?_
            refine kz_goto (M := kt_M498) kX13_operand_2_c13.2.2.2.2.2.2.1 (t := 202) rfl ?_
            exact kz_weak [(0, .ref (w_adr E.2.1 12 0)), (3, .int v8)] ⟨rfl, ⟨rfl, trivial⟩⟩ rfl (zt_X13_operand_2_p202 hL  h)
      · skip
        refine kz_aload_n (M := kt_M498) kX13_operand_2_c8.2.2.2.2.2.1 rfl ?_
        refine kz_cv0 (M := kt_M498) (c := 12) (o := 0) (As := []) (rest := []) kX13_operand_2_c8.2.2.2.2.2.2.1 wl_X13_666 wMv_497 rfl (.inl rfl) rfl (Nat.le_trans (Nat.le_of_ble_eq_true rfl) hL) (Nat.le_of_ble_eq_true rfl) (Nat.le_of_ble_eq_true rfl) h (fun w9 hle h => ?_) (fun _ _ _ h => kzx_no rfl h)
        have h := h hle
        refine kz_aload_n (M := kt_M498) kX13_operand_2_c8.2.2.2.2.2.2.2.1 rfl ?_
        refine kz_bi (M := kt_M498) 59 kX13_operand_2_c9.1 rfl ?_
        refine kz_iload_n (M := kt_M498) kX13_operand_2_c9.2.1 rfl ?_
        refine kz_cv1 (M := kt_M498) (c := 12) (o := 0) (As := [.int 59, .int (w_a w1 12 0 9 (w_i w1 12 0 35).toNatClampNeg)]) (rest := []) kX13_operand_2_c9.2.2.1 wl_X13_592 wMv_494 rfl (.inl rfl) rfl (Nat.le_trans (Nat.le_of_ble_eq_true rfl) hL) (Nat.le_of_ble_eq_true rfl) (Nat.le_of_ble_eq_true rfl) h (fun v12 w11 hle h => ?_) (fun _ _ _ h => kzx_no rfl h)
        have h := h hle
        refine kz_sti_n (M := kt_M498) [(0, .ref (w_adr E.2.1 12 0))] kX13_operand_2_c9.2.2.2.1 (Nat.le_of_ble_eq_true rfl) ⟨⟨rfl, rfl, .inl rfl⟩, trivial⟩ rfl ?_
        refine kz_aload_n (M := kt_M498) kX13_operand_2_c9.2.2.2.2.1 rfl ?_
        refine kz_gfc (M := kt_M498) (x := 4100) (c := 12) (o := 0) kX13_operand_2_c9.2.2.2.2.2.1 wf_X13_193 (.inl rfl) ?_
        refine kz_iload_n (M := kt_M498) kX13_operand_2_c9.2.2.2.2.2.2.1 rfl ?_
        refine kz_aload_n (M := kt_M498) kX13_operand_2_c9.2.2.2.2.2.2.2.1 rfl ?_
        refine kz_cv1 (M := kt_M498) (c := 12) (o := 0) (As := []) (rest := [.int v12, .ref (E.2.1 4100)]) kX13_operand_2_c10.1 wl_X13_645 wMv_459 rfl (.inl rfl) rfl (Nat.le_trans (Nat.le_of_ble_eq_true rfl) hL) (Nat.le_of_ble_eq_true rfl) (Nat.le_of_ble_eq_true rfl) h (fun v14 w13 hle h => ?_) (fun _ _ _ h => kzx_no rfl h)
        have h := h hle
        refine kz_iast (M := kt_M498) (c := 12) (o := 0) (k := 28) (a := (E.2.1 4100)) kX13_operand_2_c10.2.1 ow_12_0_28 oa_12_0_28 ot_0 h (fun h => ?_)
        refine kz_aload_n (M := kt_M498) kX13_operand_2_c10.2.2.1 rfl ?_
        refine kz_bi (M := kt_M498) 43 kX13_operand_2_c10.2.2.2.1 rfl ?_
        refine kz_cv0 (M := kt_M498) (c := 12) (o := 0) (As := [.int 43]) (rest := []) kX13_operand_2_c10.2.2.2.2.1 wl_X13_585 wMv_600 rfl (.inl rfl) rfl (Nat.le_trans (Nat.le_of_ble_eq_true rfl) hL) (Nat.le_of_ble_eq_true rfl) (Nat.le_of_ble_eq_true rfl) h (fun w15 hle h => ?_) (fun _ _ _ h => kzx_no rfl h)
        have h := h hle
        refine kz_aload_n (M := kt_M498) kX13_operand_2_c10.2.2.2.2.2.1 rfl ?_
        refine kz_dup (M := kt_M498) kX13_operand_2_c10.2.2.2.2.2.2.1 rfl ?_
        refine kz_gfi (M := kt_M498) (c := 12) (o := 0) kX13_operand_2_c10.2.2.2.2.2.2.2.1 wf_X13_669 (.inl rfl) ?_
        refine kz_ic (M := kt_M498) 1 kX13_operand_2_c11.1 rfl ?_
        refine kz_isub (M := kt_M498) kX13_operand_2_c11.2.1 ?_
        refine kz_pfi (M := kt_M498) (c := 12) (o := 0) kX13_operand_2_c11.2.2.1 wq_X13_669 (.inl rfl) ?_
        refine kz_iload_n (M := kt_M498) kX13_operand_2_c11.2.2.2.1 rfl ?_
        exact kz_iret (M := kt_M498) kX13_operand_2_c11.2.2.2.2.1 rfl rfl h
    · skip
      refine kz_aload_n (M := kt_M498) kX13_operand_2_c5.2.2.1 rfl ?_
      refine kz_cv0 (M := kt_M498) (c := 12) (o := 0) (As := []) (rest := []) kX13_operand_2_c5.2.2.2.1 wl_X13_666 wMv_497 rfl (.inl rfl) rfl (Nat.le_trans (Nat.le_of_ble_eq_true rfl) hL) (Nat.le_of_ble_eq_true rfl) (Nat.le_of_ble_eq_true rfl) h (fun w17 hle h => ?_) (fun _ _ _ h => kzx_no rfl h)
      have h := h hle
      refine kz_aload_n (M := kt_M498) kX13_operand_2_c5.2.2.2.2.1 rfl ?_
      refine kz_bi (M := kt_M498) 58 kX13_operand_2_c5.2.2.2.2.2.1 rfl ?_
      refine kz_iload_n (M := kt_M498) kX13_operand_2_c5.2.2.2.2.2.2.1 rfl ?_
      refine kz_cv1 (M := kt_M498) (c := 12) (o := 0) (As := [.int 58, .int (w_a w1 12 0 9 (w_i w1 12 0 35).toNatClampNeg)]) (rest := []) kX13_operand_2_c5.2.2.2.2.2.2.2.1 wl_X13_592 wMv_494 rfl (.inl rfl) rfl (Nat.le_trans (Nat.le_of_ble_eq_true rfl) hL) (Nat.le_of_ble_eq_true rfl) (Nat.le_of_ble_eq_true rfl) h (fun v20 w19 hle h => ?_) (fun _ _ _ h => kzx_no rfl h)
      have h := h hle
      refine kz_sti_n (M := kt_M498) [(0, .ref (w_adr E.2.1 12 0))] kX13_operand_2_c6.1 (Nat.le_of_ble_eq_true rfl) ⟨⟨rfl, rfl, .inl rfl⟩, trivial⟩ rfl ?_
      refine kz_aload_n (M := kt_M498) kX13_operand_2_c6.2.1 rfl ?_
      refine kz_gfc (M := kt_M498) (x := 4100) (c := 12) (o := 0) kX13_operand_2_c6.2.2.1 wf_X13_193 (.inl rfl) ?_
      refine kz_iload_n (M := kt_M498) kX13_operand_2_c6.2.2.2.1 rfl ?_
      refine kz_aload_n (M := kt_M498) kX13_operand_2_c6.2.2.2.2.1 rfl ?_
      refine kz_cv1 (M := kt_M498) (c := 12) (o := 0) (As := []) (rest := [.int v20, .ref (E.2.1 4100)]) kX13_operand_2_c6.2.2.2.2.2.1 wl_X13_632 wMv_393 rfl (.inl rfl) rfl (Nat.le_trans (Nat.le_of_ble_eq_true rfl) hL) (Nat.le_of_ble_eq_true rfl) (Nat.le_of_ble_eq_true rfl) h (fun v22 w21 hle h => ?_) (fun _ _ _ h => kzx_no rfl h)
      have h := h hle
      refine kz_iast (M := kt_M498) (c := 12) (o := 0) (k := 28) (a := (E.2.1 4100)) kX13_operand_2_c6.2.2.2.2.2.2.1 ow_12_0_28 oa_12_0_28 ot_0 h (fun h => ?_)
      refine kz_aload_n (M := kt_M498) kX13_operand_2_c6.2.2.2.2.2.2.2.1 rfl ?_
      refine kz_bi (M := kt_M498) 41 kX13_operand_2_c7.1 rfl ?_
      refine kz_cv0 (M := kt_M498) (c := 12) (o := 0) (As := [.int 41]) (rest := []) kX13_operand_2_c7.2.1 wl_X13_585 wMv_600 rfl (.inl rfl) rfl (Nat.le_trans (Nat.le_of_ble_eq_true rfl) hL) (Nat.le_of_ble_eq_true rfl) (Nat.le_of_ble_eq_true rfl) h (fun w23 hle h => ?_) (fun _ _ _ h => kzx_no rfl h)
      have h := h hle
      refine kz_aload_n (M := kt_M498) kX13_operand_2_c7.2.2.1 rfl ?_
      refine kz_dup (M := kt_M498) kX13_operand_2_c7.2.2.2.1 rfl ?_
      refine kz_gfi (M := kt_M498) (c := 12) (o := 0) kX13_operand_2_c7.2.2.2.2.1 wf_X13_669 (.inl rfl) ?_
      refine kz_ic (M := kt_M498) 1 kX13_operand_2_c7.2.2.2.2.2.1 rfl ?_
      refine kz_isub (M := kt_M498) kX13_operand_2_c7.2.2.2.2.2.2.1 ?_
      refine kz_pfi (M := kt_M498) (c := 12) (o := 0) kX13_operand_2_c7.2.2.2.2.2.2.2.1 wq_X13_669 (.inl rfl) ?_
      refine kz_iload_n (M := kt_M498) kX13_operand_2_c8.1 rfl ?_
      exact kz_iret (M := kt_M498) kX13_operand_2_c8.2.1 rfl rfl h
  · skip
    refine kz_aload_n (M := kt_M498) kX13_operand_2_c1.2.2.2.2.1 rfl ?_
    refine kz_ic (M := kt_M498) 1 kX13_operand_2_c1.2.2.2.2.2.1 rfl ?_
    refine kz_cv1 (M := kt_M498) (c := 12) (o := 0) (As := [.int 1]) (rest := []) kX13_operand_2_c1.2.2.2.2.2.2.1 wl_X13_607 wMv_349 rfl (.inl rfl) rfl (Nat.le_trans (Nat.le_of_ble_eq_true rfl) hL) (Nat.le_of_ble_eq_true rfl) (Nat.le_of_ble_eq_true rfl) h (fun v26 w25 hle h => ?_) (fun _ _ _ h => kzx_no rfl h)
    have h := h hle
    refine kz_bi (M := kt_M498) 40 kX13_operand_2_c1.2.2.2.2.2.2.2.1 rfl ?_
    refine kz_icmp_eq (M := kt_M498) kX13_operand_2_c2.1 (t := 36) rfl h (fun h => ?_) (fun h => ?_)
    · skip
      refine kz_aload_n (M := kt_M498) kX13_operand_2_c2.2.2.2.2.1 rfl ?_
      refine kz_bi (M := kt_M498) 61 kX13_operand_2_c2.2.2.2.2.2.1 rfl ?_
      refine kz_iload_n (M := kt_M498) kX13_operand_2_c2.2.2.2.2.2.2.1 rfl ?_
      refine kz_cv1 (M := kt_M498) (c := 12) (o := 0) (As := [.int 61, .int (w_a w1 12 0 9 (w_i w1 12 0 35).toNatClampNeg)]) (rest := []) kX13_operand_2_c2.2.2.2.2.2.2.2.1 wl_X13_592 wMv_494 rfl (.inl rfl) rfl (Nat.le_trans (Nat.le_of_ble_eq_true rfl) hL) (Nat.le_of_ble_eq_true rfl) (Nat.le_of_ble_eq_true rfl) h (fun v28 w27 hle h => ?_) (fun _ _ _ h => kzx_no rfl h)
      have h := h hle
      refine kz_sti_n (M := kt_M498) [(0, .ref (w_adr E.2.1 12 0))] kX13_operand_2_c3.1 (Nat.le_of_ble_eq_true rfl) ⟨⟨rfl, rfl, .inl rfl⟩, trivial⟩ rfl ?_
      refine kz_aload_n (M := kt_M498) kX13_operand_2_c3.2.1 rfl ?_
      refine kz_gfc (M := kt_M498) (x := 4102) (c := 12) (o := 0) kX13_operand_2_c3.2.2.1 wf_X13_199 (.inl rfl) ?_
      refine kz_iload_n (M := kt_M498) kX13_operand_2_c3.2.2.2.1 rfl ?_
      refine kz_aload_n (M := kt_M498) kX13_operand_2_c3.2.2.2.2.1 rfl ?_
      refine kz_cv1 (M := kt_M498) (c := 12) (o := 0) (As := []) (rest := [.int v28, .ref (E.2.1 4102)]) kX13_operand_2_c3.2.2.2.2.2.1 wl_X13_639 wMv_601 rfl (.inl rfl) rfl (Nat.le_trans (Nat.le_of_ble_eq_true rfl) hL) (Nat.le_of_ble_eq_true rfl) (Nat.le_of_ble_eq_true rfl) h (fun v30 w29 hle h => ?_) (fun _ _ _ h => kzx_no rfl h)
      have h := h hle
      refine kz_iast (M := kt_M498) (c := 12) (o := 0) (k := 30) (a := (E.2.1 4102)) kX13_operand_2_c3.2.2.2.2.2.2.1 ow_12_0_30 oa_12_0_30 ot_0 h (fun h => ?_)
      refine kz_aload_n (M := kt_M498) kX13_operand_2_c3.2.2.2.2.2.2.2.1 rfl ?_
      refine kz_gfc (M := kt_M498) (x := 4100) (c := 12) (o := 0) kX13_operand_2_c4.1 wf_X13_193 (.inl rfl) ?_
      refine kz_iload_n (M := kt_M498) kX13_operand_2_c4.2.1 rfl ?_
      refine kz_aload_n (M := kt_M498) kX13_operand_2_c4.2.2.1 rfl ?_
      refine kz_cv1 (M := kt_M498) (c := 12) (o := 0) (As := []) (rest := [.int v28, .ref (E.2.1 4100)]) kX13_operand_2_c4.2.2.2.1 wl_X13_663 wMv_352 rfl (.inl rfl) rfl (Nat.le_trans (Nat.le_of_ble_eq_true rfl) hL) (Nat.le_of_ble_eq_true rfl) (Nat.le_of_ble_eq_true rfl) h (fun v32 w31 hle h => ?_) (fun _ _ _ h => kzx_no rfl h)
      have h := h hle
      refine kz_iast (M := kt_M498) (c := 12) (o := 0) (k := 28) (a := (E.2.1 4100)) kX13_operand_2_c4.2.2.2.2.1 ow_12_0_28 oa_12_0_28 ot_0 h (fun h => ?_)
      refine kz_iload_n (M := kt_M498) kX13_operand_2_c4.2.2.2.2.2.1 rfl ?_
      exact kz_iret (M := kt_M498) kX13_operand_2_c4.2.2.2.2.2.2.1 rfl rfl h
    · skip
      refine kz_aload_n (M := kt_M498) kX13_operand_2_c2.2.1 rfl ?_
      refine kz_cv1 (M := kt_M498) (c := 12) (o := 0) (As := []) (rest := []) kX13_operand_2_c2.2.2.1 wl_X13_651 wMv_396 rfl (.inl rfl) rfl (Nat.le_trans (Nat.le_of_ble_eq_true rfl) hL) (Nat.le_of_ble_eq_true rfl) (Nat.le_of_ble_eq_true rfl) h (fun v34 w33 hle h => ?_) (fun _ _ _ h => kzx_no rfl h)
      have h := h hle
      exact kz_iret (M := kt_M498) kX13_operand_2_c2.2.2.2.1 rfl rfl h
def zb_X13_ahead_p29 (E : zE) (L : Nat) (Q : kx_Rs → wS → Prop) (y0 : Int32) (w : wS) : Prop := Q (.inl (some (.int y0))) w
theorem zt_X13_ahead_p29 {E : zE} {L : Nat} {Q : kx_Rs → wS → Prop} {y0 : Int32} {w : wS} (hL : 19 ≤ L) (h : zb_X13_ahead_p29 E L Q y0 w) : kzE E L kt_M349 29 [(0, .ref (w_adr E.2.1 12 0))] [.int y0] w Q := by
  unfold zb_X13_ahead_p29 at h
  exact kz_iret (M := kt_M349) kX13_ahead_c2.1 rfl rfl h
def zb_X13_ahead_p0 (E : zE) (L : Nat) (Q : kx_Rs → wS → Prop) (x1 : Int32) (w : wS) : Prop := (if w_i w 12 0 6 ≤ ((w_i w 12 0 35) + x1) then zb_X13_ahead_p29 E L Q 75 w else (kx_inb ((w_i w 12 0 35) + x1) (w_n w 12 0 7) = true ∧ zb_X13_ahead_p29 E L Q (w_a w 12 0 7 (((w_i w 12 0 35) + x1)).toNatClampNeg) w))
theorem zt_X13_ahead_p0 {E : zE} {L : Nat} {Q : kx_Rs → wS → Prop} {x1 : Int32} {w : wS} (hL : 19 ≤ L) (h : zb_X13_ahead_p0 E L Q x1 w) : kzE E L kt_M349 0 [(0, .ref (w_adr E.2.1 12 0)), (1, .int x1)] [] w Q := by
  unfold zb_X13_ahead_p0 at h
  refine kz_aload_n (M := kt_M349) kX13_ahead_c0.1 rfl ?_
  refine kz_gfi (M := kt_M349) (c := 12) (o := 0) kX13_ahead_c0.2.1 wf_X13_547 (.inl rfl) ?_
  refine kz_iload_n (M := kt_M349) kX13_ahead_c0.2.2.1 rfl ?_
  refine kz_iadd (M := kt_M349) kX13_ahead_c0.2.2.2.1 ?_
  refine kz_aload_n (M := kt_M349) kX13_ahead_c0.2.2.2.2.1 rfl ?_
  refine kz_gfi (M := kt_M349) (c := 12) (o := 0) kX13_ahead_c0.2.2.2.2.2.1 wf_X13_472 (.inl rfl) ?_
  refine kz_icmp_ge (M := kt_M349) kX13_ahead_c0.2.2.2.2.2.2.1 (t := 27) rfl h (fun h => ?_) (fun h => ?_)
  · skip
    refine kz_bi (M := kt_M349) 75 kX13_ahead_c1.2.2.2.2.2.2.2.1 rfl ?_
    exact kz_weak [(0, .ref (w_adr E.2.1 12 0))] ⟨rfl, trivial⟩ rfl (zt_X13_ahead_p29 hL  h)
  · skip
    refine kz_aload_n (M := kt_M349) kX13_ahead_c0.2.2.2.2.2.2.2.1 rfl ?_
    refine kz_gfc (M := kt_M349) (x := 4079) (c := 12) (o := 0) kX13_ahead_c1.1 wf_X13_157 (.inl rfl) ?_
    refine kz_aload_n (M := kt_M349) kX13_ahead_c1.2.1 rfl ?_
    refine kz_gfi (M := kt_M349) (c := 12) (o := 0) kX13_ahead_c1.2.2.1 wf_X13_547 (.inl rfl) ?_
    refine kz_iload_n (M := kt_M349) kX13_ahead_c1.2.2.2.1 rfl ?_
    refine kz_iadd (M := kt_M349) kX13_ahead_c1.2.2.2.2.1 ?_
    refine kz_iald (M := kt_M349) (c := 12) (o := 0) (k := 7) (a := (E.2.1 4079)) kX13_ahead_c1.2.2.2.2.2.1 ow_12_0_7 oa_12_0_7 ot_0 h (fun h => ?_)
    refine kz_goto (M := kt_M349) kX13_ahead_c1.2.2.2.2.2.2.1 (t := 29) rfl ?_
    exact kz_weak [(0, .ref (w_adr E.2.1 12 0))] ⟨rfl, trivial⟩ rfl (zt_X13_ahead_p29 hL  h)
def zb_X13_elem_p69 (E : zE) (L : Nat) (Q : kx_Rs → wS → Prop) (x3 : Int32) (w : wS) : Prop := Q (.inl (some (.int x3))) w
theorem zt_X13_elem_p69 {E : zE} {L : Nat} {Q : kx_Rs → wS → Prop} {x3 : Int32} {w : wS} (hL : 22 ≤ L) (h : zb_X13_elem_p69 E L Q x3 w) : kzE E L kt_M396 69 [(0, .ref (w_adr E.2.1 12 0)), (3, .int x3)] [] w Q := by
  unfold zb_X13_elem_p69 at h
  refine kz_iload_n (M := kt_M396) kX13_elem_c5.1 rfl ?_
  exact kz_iret (M := kt_M396) kX13_elem_c5.2.1 rfl rfl h
def zb_X13_elem_p0 (E : zE) (L : Nat) (Q : kx_Rs → wS → Prop) (w : wS) : Prop := (kx_inb (w_i w 12 0 35) (w_n w 12 0 9) = true ∧ zw E (L - 20) kt_M601 [.ref (w_adr E.2.1 12 0)] w (wk1 (fun v2 w1 => wle w w1 → zw E (L - 22) kt_M494 [.ref (w_adr E.2.1 12 0), .int 60, .int (w_a w 12 0 9 (w_i w 12 0 35).toNatClampNeg)] w1 (wk1 (fun v4 w3 => wle w1 w3 → (kx_inb v4 (w_n w3 12 0 30) = true ∧ zw E (L - 20) kt_M462 [.ref (w_adr E.2.1 12 0)] (ws_a w3 12 0 30 (v4).toNatClampNeg v2) (wk1 (fun v6 w5 => wle (ws_a w3 12 0 30 (v4).toNatClampNeg v2) w5 → (if ¬ v6 = 42 then zb_X13_elem_p69 E L Q v4 w5 else zw E (L - 20) kt_M497 [.ref (w_adr E.2.1 12 0)] w5 (wk0 (fun w7 => wle w5 w7 → zw E (L - 22) kt_M393 [.ref (w_adr E.2.1 12 0)] w7 (wk1 (fun v10 w9 => wle w7 w9 → (kx_inb v4 (w_n w9 12 0 28) = true ∧ zw E (L - 21) kt_M600 [.ref (w_adr E.2.1 12 0), .int 43] (ws_a w9 12 0 28 (v4).toNatClampNeg v10) (wk0 (fun w11 => wle (ws_a w9 12 0 28 (v4).toNatClampNeg v10) w11 → zb_X13_elem_p69 E L Q v4 (ws_i w11 12 0 38 ((w_i w11 12 0 38) - 1))) (fun e w => Q (.inr e) w)))) (fun e w => Q (.inr e) w))) (fun e w => Q (.inr e) w)))) (fun e w => Q (.inr e) w)))) (fun e w => Q (.inr e) w))) (fun e w => Q (.inr e) w)))
theorem zt_X13_elem_p0 {E : zE} {L : Nat} {Q : kx_Rs → wS → Prop} {w : wS} (hL : 22 ≤ L) (h : zb_X13_elem_p0 E L Q  w) : kzE E L kt_M396 0 [(0, .ref (w_adr E.2.1 12 0))] [] w Q := by
  unfold zb_X13_elem_p0 at h
  refine kz_aload_n (M := kt_M396) kX13_elem_c0.1 rfl ?_
  refine kz_gfc (M := kt_M396) (x := 4081) (c := 12) (o := 0) kX13_elem_c0.2.1 wf_X13_163 (.inl rfl) ?_
  refine kz_aload_n (M := kt_M396) kX13_elem_c0.2.2.1 rfl ?_
  refine kz_gfi (M := kt_M396) (c := 12) (o := 0) kX13_elem_c0.2.2.2.1 wf_X13_547 (.inl rfl) ?_
  refine kz_iald (M := kt_M396) (c := 12) (o := 0) (k := 9) (a := (E.2.1 4081)) kX13_elem_c0.2.2.2.2.1 ow_12_0_9 oa_12_0_9 ot_0 h (fun h => ?_)
  refine kz_sti_n (M := kt_M396) [(0, .ref (w_adr E.2.1 12 0))] kX13_elem_c0.2.2.2.2.2.1 (Nat.le_of_ble_eq_true rfl) ⟨⟨rfl, rfl, .inr rfl⟩, trivial⟩ rfl ?_
  refine kz_aload_n (M := kt_M396) kX13_elem_c0.2.2.2.2.2.2.1 rfl ?_
  refine kz_cv1 (M := kt_M396) (c := 12) (o := 0) (As := []) (rest := []) kX13_elem_c0.2.2.2.2.2.2.2.1 wl_X13_639 wMv_601 rfl (.inl rfl) rfl (Nat.le_trans (Nat.le_of_ble_eq_true rfl) hL) (Nat.le_of_ble_eq_true rfl) (Nat.le_of_ble_eq_true rfl) h (fun v2 w1 hle h => ?_) (fun _ _ _ h => kzx_no rfl h)
  have h := h hle
  refine kz_sti_n (M := kt_M396) [(0, .ref (w_adr E.2.1 12 0)), (1, .int (w_a w 12 0 9 (w_i w 12 0 35).toNatClampNeg))] kX13_elem_c1.1 (Nat.le_of_ble_eq_true rfl) ⟨⟨rfl, rfl, .inl rfl⟩, ⟨⟨rfl, rfl, .inr rfl⟩, trivial⟩⟩ rfl ?_
  refine kz_aload_n (M := kt_M396) kX13_elem_c1.2.1 rfl ?_
  refine kz_bi (M := kt_M396) 60 kX13_elem_c1.2.2.1 rfl ?_
  refine kz_iload_n (M := kt_M396) kX13_elem_c1.2.2.2.1 rfl ?_
  refine kz_cv1 (M := kt_M396) (c := 12) (o := 0) (As := [.int 60, .int (w_a w 12 0 9 (w_i w 12 0 35).toNatClampNeg)]) (rest := []) kX13_elem_c1.2.2.2.2.1 wl_X13_592 wMv_494 rfl (.inl rfl) rfl (Nat.le_trans (Nat.le_of_ble_eq_true rfl) hL) (Nat.le_of_ble_eq_true rfl) (Nat.le_of_ble_eq_true rfl) h (fun v4 w3 hle h => ?_) (fun _ _ _ h => kzx_no rfl h)
  have h := h hle
  refine kz_sti_n (M := kt_M396) [(0, .ref (w_adr E.2.1 12 0)), (2, .int v2)] kX13_elem_c1.2.2.2.2.2.1 (Nat.le_of_ble_eq_true rfl) ⟨⟨rfl, rfl, .inl rfl⟩, ⟨⟨rfl, rfl, .inr rfl⟩, trivial⟩⟩ rfl ?_
  refine kz_aload_n (M := kt_M396) kX13_elem_c1.2.2.2.2.2.2.1 rfl ?_
  refine kz_gfc (M := kt_M396) (x := 4102) (c := 12) (o := 0) kX13_elem_c1.2.2.2.2.2.2.2.1 wf_X13_199 (.inl rfl) ?_
  refine kz_iload_n (M := kt_M396) kX13_elem_c2.1 rfl ?_
  refine kz_iload_n (M := kt_M396) kX13_elem_c2.2.1 rfl ?_
  refine kz_iast (M := kt_M396) (c := 12) (o := 0) (k := 30) (a := (E.2.1 4102)) kX13_elem_c2.2.2.1 ow_12_0_30 oa_12_0_30 ot_0 h (fun h => ?_)
  refine kz_aload_n (M := kt_M396) kX13_elem_c2.2.2.2.1 rfl ?_
  refine kz_cv1 (M := kt_M396) (c := 12) (o := 0) (As := []) (rest := []) kX13_elem_c2.2.2.2.2.1 wl_X13_560 wMv_462 rfl (.inl rfl) rfl (Nat.le_trans (Nat.le_of_ble_eq_true rfl) hL) (Nat.le_of_ble_eq_true rfl) (Nat.le_of_ble_eq_true rfl) h (fun v6 w5 hle h => ?_) (fun _ _ _ h => kzx_no rfl h)
  have h := h hle
  refine kz_bi (M := kt_M396) 42 kX13_elem_c2.2.2.2.2.2.1 rfl ?_
  refine kz_icmp_ne (M := kt_M396) kX13_elem_c2.2.2.2.2.2.2.1 (t := 69) rfl h (fun h => ?_) (fun h => ?_)
  · skip
    exact kz_weak [(0, .ref (w_adr E.2.1 12 0)), (3, .int v4)] ⟨rfl, ⟨rfl, trivial⟩⟩ rfl (zt_X13_elem_p69 hL  h)
  · skip
    refine kz_aload_n (M := kt_M396) kX13_elem_c2.2.2.2.2.2.2.2.1 rfl ?_
    refine kz_cv0 (M := kt_M396) (c := 12) (o := 0) (As := []) (rest := []) kX13_elem_c3.1 wl_X13_666 wMv_497 rfl (.inl rfl) rfl (Nat.le_trans (Nat.le_of_ble_eq_true rfl) hL) (Nat.le_of_ble_eq_true rfl) (Nat.le_of_ble_eq_true rfl) h (fun w7 hle h => ?_) (fun _ _ _ h => kzx_no rfl h)
    have h := h hle
    refine kz_aload_n (M := kt_M396) kX13_elem_c3.2.1 rfl ?_
    refine kz_gfc (M := kt_M396) (x := 4100) (c := 12) (o := 0) kX13_elem_c3.2.2.1 wf_X13_193 (.inl rfl) ?_
    refine kz_iload_n (M := kt_M396) kX13_elem_c3.2.2.2.1 rfl ?_
    refine kz_aload_n (M := kt_M396) kX13_elem_c3.2.2.2.2.1 rfl ?_
    refine kz_cv1 (M := kt_M396) (c := 12) (o := 0) (As := []) (rest := [.int v4, .ref (E.2.1 4100)]) kX13_elem_c3.2.2.2.2.2.1 wl_X13_632 wMv_393 rfl (.inl rfl) rfl (Nat.le_trans (Nat.le_of_ble_eq_true rfl) hL) (Nat.le_of_ble_eq_true rfl) (Nat.le_of_ble_eq_true rfl) h (fun v10 w9 hle h => ?_) (fun _ _ _ h => kzx_no rfl h)
    have h := h hle
    refine kz_iast (M := kt_M396) (c := 12) (o := 0) (k := 28) (a := (E.2.1 4100)) kX13_elem_c3.2.2.2.2.2.2.1 ow_12_0_28 oa_12_0_28 ot_0 h (fun h => ?_)
    refine kz_aload_n (M := kt_M396) kX13_elem_c3.2.2.2.2.2.2.2.1 rfl ?_
    refine kz_bi (M := kt_M396) 43 kX13_elem_c4.1 rfl ?_
    refine kz_cv0 (M := kt_M396) (c := 12) (o := 0) (As := [.int 43]) (rest := []) kX13_elem_c4.2.1 wl_X13_585 wMv_600 rfl (.inl rfl) rfl (Nat.le_trans (Nat.le_of_ble_eq_true rfl) hL) (Nat.le_of_ble_eq_true rfl) (Nat.le_of_ble_eq_true rfl) h (fun w11 hle h => ?_) (fun _ _ _ h => kzx_no rfl h)
    have h := h hle
    refine kz_aload_n (M := kt_M396) kX13_elem_c4.2.2.1 rfl ?_
    refine kz_dup (M := kt_M396) kX13_elem_c4.2.2.2.1 rfl ?_
    refine kz_gfi (M := kt_M396) (c := 12) (o := 0) kX13_elem_c4.2.2.2.2.1 wf_X13_669 (.inl rfl) ?_
    refine kz_ic (M := kt_M396) 1 kX13_elem_c4.2.2.2.2.2.1 rfl ?_
    refine kz_isub (M := kt_M396) kX13_elem_c4.2.2.2.2.2.2.1 ?_
    refine kz_pfi (M := kt_M396) (c := 12) (o := 0) kX13_elem_c4.2.2.2.2.2.2.2.1 wq_X13_669 (.inl rfl) ?_
    exact kz_weak [(0, .ref (w_adr E.2.1 12 0)), (3, .int v4)] ⟨rfl, ⟨rfl, trivial⟩⟩ rfl (zt_X13_elem_p69 hL  h)
def zb_X13_arguments_p20 (E : zE) (L : Nat) (Q : kx_Rs → wS → Prop) (x1 : Int32) (w : wS) : Prop := zw E (L - 21) kt_M600 [.ref (w_adr E.2.1 12 0), .int 41] w (wk0 (fun w1 => wle w w1 → Q (.inl (some (.int x1))) (ws_i w1 12 0 38 ((w_i w1 12 0 38) - 1))) (fun e w => Q (.inr e) w))
theorem zt_X13_arguments_p20 {E : zE} {L : Nat} {Q : kx_Rs → wS → Prop} {x1 : Int32} {w : wS} (hL : 22 ≤ L) (h : zb_X13_arguments_p20 E L Q x1 w) : kzE E L kt_M352 20 [(0, .ref (w_adr E.2.1 12 0)), (1, .int x1)] [] w Q := by
  unfold zb_X13_arguments_p20 at h
  refine kz_aload_n (M := kt_M352) kX13_arguments_c1.2.2.2.1 rfl ?_
  refine kz_bi (M := kt_M352) 41 kX13_arguments_c1.2.2.2.2.1 rfl ?_
  refine kz_cv0 (M := kt_M352) (c := 12) (o := 0) (As := [.int 41]) (rest := []) kX13_arguments_c1.2.2.2.2.2.1 wl_X13_585 wMv_600 rfl (.inl rfl) rfl (Nat.le_trans (Nat.le_of_ble_eq_true rfl) hL) (Nat.le_of_ble_eq_true rfl) (Nat.le_of_ble_eq_true rfl) h (fun w1 hle h => ?_) (fun _ _ _ h => kzx_no rfl h)
  have h := h hle
  refine kz_aload_n (M := kt_M352) kX13_arguments_c1.2.2.2.2.2.2.1 rfl ?_
  refine kz_dup (M := kt_M352) kX13_arguments_c1.2.2.2.2.2.2.2.1 rfl ?_
  refine kz_gfi (M := kt_M352) (c := 12) (o := 0) kX13_arguments_c2.1 wf_X13_669 (.inl rfl) ?_
  refine kz_ic (M := kt_M352) 1 kX13_arguments_c2.2.1 rfl ?_
  refine kz_isub (M := kt_M352) kX13_arguments_c2.2.2.1 ?_
  refine kz_pfi (M := kt_M352) (c := 12) (o := 0) kX13_arguments_c2.2.2.2.1 wq_X13_669 (.inl rfl) ?_
  refine kz_iload_n (M := kt_M352) kX13_arguments_c2.2.2.2.2.1 rfl ?_
  exact kz_iret (M := kt_M352) kX13_arguments_c2.2.2.2.2.2.1 rfl rfl h
def zb_X13_arguments_p0 (E : zE) (L : Nat) (Q : kx_Rs → wS → Prop) (w : wS) : Prop := zw E (L - 20) kt_M497 [.ref (w_adr E.2.1 12 0)] w (wk0 (fun w1 => wle w w1 → zw E (L - 20) kt_M462 [.ref (w_adr E.2.1 12 0)] w1 (wk1 (fun v4 w3 => wle w1 w3 → (if v4 = 41 then zb_X13_arguments_p20 E L Q (-1) w3 else zw E (L - 22) kt_M459 [.ref (w_adr E.2.1 12 0)] w3 (wk1 (fun v6 w5 => wle w3 w5 → zb_X13_arguments_p20 E L Q v6 w5) (fun e w => Q (.inr e) w)))) (fun e w => Q (.inr e) w))) (fun e w => Q (.inr e) w))
theorem zt_X13_arguments_p0 {E : zE} {L : Nat} {Q : kx_Rs → wS → Prop} {w : wS} (hL : 22 ≤ L) (h : zb_X13_arguments_p0 E L Q  w) : kzE E L kt_M352 0 [(0, .ref (w_adr E.2.1 12 0))] [] w Q := by
  unfold zb_X13_arguments_p0 at h
  refine kz_aload_n (M := kt_M352) kX13_arguments_c0.1 rfl ?_
  refine kz_cv0 (M := kt_M352) (c := 12) (o := 0) (As := []) (rest := []) kX13_arguments_c0.2.1 wl_X13_666 wMv_497 rfl (.inl rfl) rfl (Nat.le_trans (Nat.le_of_ble_eq_true rfl) hL) (Nat.le_of_ble_eq_true rfl) (Nat.le_of_ble_eq_true rfl) h (fun w1 hle h => ?_) (fun _ _ _ h => kzx_no rfl h)
  have h := h hle
  refine kz_ic (M := kt_M352) (-1) kX13_arguments_c0.2.2.1 rfl ?_
  refine kz_sti_n (M := kt_M352) [(0, .ref (w_adr E.2.1 12 0))] kX13_arguments_c0.2.2.2.1 (Nat.le_of_ble_eq_true rfl) ⟨⟨rfl, rfl, .inr rfl⟩, trivial⟩ rfl ?_
  refine kz_aload_n (M := kt_M352) kX13_arguments_c0.2.2.2.2.1 rfl ?_
  refine kz_cv1 (M := kt_M352) (c := 12) (o := 0) (As := []) (rest := []) kX13_arguments_c0.2.2.2.2.2.1 wl_X13_560 wMv_462 rfl (.inl rfl) rfl (Nat.le_trans (Nat.le_of_ble_eq_true rfl) hL) (Nat.le_of_ble_eq_true rfl) (Nat.le_of_ble_eq_true rfl) h (fun v4 w3 hle h => ?_) (fun _ _ _ h => kzx_no rfl h)
  have h := h hle
  refine kz_bi (M := kt_M352) 41 kX13_arguments_c0.2.2.2.2.2.2.1 rfl ?_
  refine kz_icmp_eq (M := kt_M352) kX13_arguments_c0.2.2.2.2.2.2.2.1 (t := 20) rfl h (fun h => ?_) (fun h => ?_)
  · skip
    exact kz_weak [(0, .ref (w_adr E.2.1 12 0)), (1, .int (-1))] ⟨rfl, ⟨rfl, trivial⟩⟩ rfl (zt_X13_arguments_p20 hL  h)
  · skip
    refine kz_aload_n (M := kt_M352) kX13_arguments_c1.1 rfl ?_
    refine kz_cv1 (M := kt_M352) (c := 12) (o := 0) (As := []) (rest := []) kX13_arguments_c1.2.1 wl_X13_645 wMv_459 rfl (.inl rfl) rfl (Nat.le_trans (Nat.le_of_ble_eq_true rfl) hL) (Nat.le_of_ble_eq_true rfl) (Nat.le_of_ble_eq_true rfl) h (fun v6 w5 hle h => ?_) (fun _ _ _ h => kzx_no rfl h)
    have h := h hle
    refine kz_sti_n (M := kt_M352) [(0, .ref (w_adr E.2.1 12 0))] kX13_arguments_c1.2.2.1 (Nat.le_of_ble_eq_true rfl) ⟨⟨rfl, rfl, .inr rfl⟩, trivial⟩ rfl ?_
    exact kz_weak [(0, .ref (w_adr E.2.1 12 0)), (1, .int v6)] ⟨rfl, ⟨rfl, trivial⟩⟩ rfl (zt_X13_arguments_p20 hL  h)
def zL_X13_list_p7 (E : zE) (L : Nat) (Q : kx_Rs → wS → Prop) (x1 : Int32) (x2 : Int32) (w : wS) : Prop := kzE E L kt_M459 7 [(0, .ref (w_adr E.2.1 12 0)), (1, .int x1), (2, .int x2)] [] w Q
def zb_X13_list_p7 (E : zE) (L : Nat) (Q : kx_Rs → wS → Prop) (x1 : Int32) (x2 : Int32) (w : wS) : Prop := zw E (L - 21) kt_M466 [.ref (w_adr E.2.1 12 0), .int 44] w (wk1 (fun v2 w1 => wle w w1 → (if v2 = 0 then Q (.inl (some (.int x1))) w1 else zw E (L - 22) kt_M393 [.ref (w_adr E.2.1 12 0)] w1 (wk1 (fun v4 w3 => wle w1 w3 → zw E (L - 22) kt_M368 [.ref (w_adr E.2.1 12 0), .int x2, .int v4] w3 (wk1 (fun v6 w5 => wle w3 w5 → zL_X13_list_p7 E L Q x1 v6 w5) (fun e w => Q (.inr e) w))) (fun e w => Q (.inr e) w)))) (fun e w => Q (.inr e) w))
theorem zt_X13_list_p7 {E : zE} {L : Nat} {Q : kx_Rs → wS → Prop} {x1 : Int32} {x2 : Int32} {w : wS} (hL : 22 ≤ L) (h : zb_X13_list_p7 E L Q x1 x2 w) : kzE E L kt_M459 7 [(0, .ref (w_adr E.2.1 12 0)), (1, .int x1), (2, .int x2)] [] w Q := by
  unfold zb_X13_list_p7 at h
  refine kz_aload_n (M := kt_M459) kX13_list_c0.2.2.2.2.2.1 rfl ?_
  refine kz_bi (M := kt_M459) 44 kX13_list_c0.2.2.2.2.2.2.1 rfl ?_
  refine kz_cv1 (M := kt_M459) (c := 12) (o := 0) (As := [.int 44]) (rest := []) kX13_list_c0.2.2.2.2.2.2.2.1 wl_X13_642 wMv_466 rfl (.inl rfl) rfl (Nat.le_trans (Nat.le_of_ble_eq_true rfl) hL) (Nat.le_of_ble_eq_true rfl) (Nat.le_of_ble_eq_true rfl) h (fun v2 w1 hle h => ?_) (fun _ _ _ h => kzx_no rfl h)
  have h := h hle
  refine kz_if_eq (M := kt_M459) kX13_list_c1.1 (t := 29) rfl h (fun h => ?_) (fun h => ?_)
  · skip
    refine kz_iload_n (M := kt_M459) kX13_list_c2.1 rfl ?_
    exact kz_iret (M := kt_M459) kX13_list_c2.2.1 rfl rfl h
  · skip
    refine kz_aload_n (M := kt_M459) kX13_list_c1.2.1 rfl ?_
    refine kz_iload_n (M := kt_M459) kX13_list_c1.2.2.1 rfl ?_
    refine kz_aload_n (M := kt_M459) kX13_list_c1.2.2.2.1 rfl ?_
    refine kz_cv1 (M := kt_M459) (c := 12) (o := 0) (As := []) (rest := [.int x2, .ref (w_adr E.2.1 12 0)]) kX13_list_c1.2.2.2.2.1 wl_X13_632 wMv_393 rfl (.inl rfl) rfl (Nat.le_trans (Nat.le_of_ble_eq_true rfl) hL) (Nat.le_of_ble_eq_true rfl) (Nat.le_of_ble_eq_true rfl) h (fun v4 w3 hle h => ?_) (fun _ _ _ h => kzx_no rfl h)
    have h := h hle
    refine kz_cv1 (M := kt_M459) (c := 12) (o := 0) (As := [.int x2, .int v4]) (rest := []) kX13_list_c1.2.2.2.2.2.1 wl_X13_598 wMv_368 rfl (.inl rfl) rfl (Nat.le_trans (Nat.le_of_ble_eq_true rfl) hL) (Nat.le_of_ble_eq_true rfl) (Nat.le_of_ble_eq_true rfl) h (fun v6 w5 hle h => ?_) (fun _ _ _ h => kzx_no rfl h)
    have h := h hle
    refine kz_sti_n (M := kt_M459) [(0, .ref (w_adr E.2.1 12 0)), (1, .int x1)] kX13_list_c1.2.2.2.2.2.2.1 (Nat.le_of_ble_eq_true rfl) ⟨⟨rfl, rfl, .inl rfl⟩, ⟨⟨rfl, rfl, .inr rfl⟩, trivial⟩⟩ rfl ?_
    refine kz_goto (M := kt_M459) kX13_list_c1.2.2.2.2.2.2.2.1 (t := 7) rfl ?_
    exact kz_weak [(0, .ref (w_adr E.2.1 12 0)), (1, .int x1), (2, .int v6)] ⟨rfl, ⟨rfl, ⟨rfl, trivial⟩⟩⟩ rfl h
def zb_X13_list_p0 (E : zE) (L : Nat) (Q : kx_Rs → wS → Prop) (w : wS) : Prop := zw E (L - 22) kt_M393 [.ref (w_adr E.2.1 12 0)] w (wk1 (fun v2 w1 => wle w w1 → zL_X13_list_p7 E L Q v2 v2 w1) (fun e w => Q (.inr e) w))
theorem zt_X13_list_p0 {E : zE} {L : Nat} {Q : kx_Rs → wS → Prop} {w : wS} (hL : 22 ≤ L) (h : zb_X13_list_p0 E L Q  w) : kzE E L kt_M459 0 [(0, .ref (w_adr E.2.1 12 0))] [] w Q := by
  unfold zb_X13_list_p0 at h
  refine kz_aload_n (M := kt_M459) kX13_list_c0.1 rfl ?_
  refine kz_cv1 (M := kt_M459) (c := 12) (o := 0) (As := []) (rest := []) kX13_list_c0.2.1 wl_X13_632 wMv_393 rfl (.inl rfl) rfl (Nat.le_trans (Nat.le_of_ble_eq_true rfl) hL) (Nat.le_of_ble_eq_true rfl) (Nat.le_of_ble_eq_true rfl) h (fun v2 w1 hle h => ?_) (fun _ _ _ h => kzx_no rfl h)
  have h := h hle
  refine kz_sti_n (M := kt_M459) [(0, .ref (w_adr E.2.1 12 0))] kX13_list_c0.2.2.1 (Nat.le_of_ble_eq_true rfl) ⟨⟨rfl, rfl, .inr rfl⟩, trivial⟩ rfl ?_
  refine kz_iload_n (M := kt_M459) kX13_list_c0.2.2.2.1 rfl ?_
  refine kz_sti_n (M := kt_M459) [(0, .ref (w_adr E.2.1 12 0)), (1, .int v2)] kX13_list_c0.2.2.2.2.1 (Nat.le_of_ble_eq_true rfl) ⟨⟨rfl, rfl, .inl rfl⟩, ⟨⟨rfl, rfl, .inr rfl⟩, trivial⟩⟩ rfl ?_
  exact kz_weak [(0, .ref (w_adr E.2.1 12 0)), (1, .int v2), (2, .int v2)] ⟨rfl, ⟨rfl, ⟨rfl, trivial⟩⟩⟩ rfl h
def zL_X13_eFrom_p110 (E : zE) (L : Nat) (Q : kx_Rs → wS → Prop) (x2 : Int32) (x3 : Int32) (x4 : Int32) (w : wS) : Prop := kzE E L kt_M394 110 [(0, .ref (w_adr E.2.1 12 0)), (2, .int x2), (3, .int x3), (4, .int x4)] [] w Q
def zb_X13_eFrom_p110 (E : zE) (L : Nat) (Q : kx_Rs → wS → Prop) (x2 : Int32) (x3 : Int32) (x4 : Int32) (w : wS) : Prop := zw E (L - 21) kt_M466 [.ref (w_adr E.2.1 12 0), .int x2] w (wk1 (fun v2 w1 => wle w w1 → (if v2 = 0 then Q (.inl (some (.int x3))) w1 else zw E (L - 24) kt_M498 [.ref (w_adr E.2.1 12 0)] w1 (wk1 (fun v4 w3 => wle w1 w3 → zw E (L - 22) kt_M368 [.ref (w_adr E.2.1 12 0), .int x4, .int v4] w3 (wk1 (fun v6 w5 => wle w3 w5 → zL_X13_eFrom_p110 E L Q x2 x3 v6 w5) (fun e w => Q (.inr e) w))) (fun e w => Q (.inr e) w)))) (fun e w => Q (.inr e) w))
theorem zt_X13_eFrom_p110 {E : zE} {L : Nat} {Q : kx_Rs → wS → Prop} {x2 : Int32} {x3 : Int32} {x4 : Int32} {w : wS} (hL : 24 ≤ L) (h : zb_X13_eFrom_p110 E L Q x2 x3 x4 w) : kzE E L kt_M394 110 [(0, .ref (w_adr E.2.1 12 0)), (2, .int x2), (3, .int x3), (4, .int x4)] [] w Q := by
  unfold zb_X13_eFrom_p110 at h
  refine kz_aload_n (M := kt_M394) kX13_eFrom_c8.2.2.2.2.1 rfl ?_
  refine kz_iload_n (M := kt_M394) kX13_eFrom_c8.2.2.2.2.2.1 rfl ?_
  refine kz_cv1 (M := kt_M394) (c := 12) (o := 0) (As := [.int x2]) (rest := []) kX13_eFrom_c8.2.2.2.2.2.2.1 wl_X13_642 wMv_466 rfl (.inl rfl) rfl (Nat.le_trans (Nat.le_of_ble_eq_true rfl) hL) (Nat.le_of_ble_eq_true rfl) (Nat.le_of_ble_eq_true rfl) h (fun v2 w1 hle h => ?_) (fun _ _ _ h => kzx_no rfl h)
  have h := h hle
  refine kz_if_eq (M := kt_M394) kX13_eFrom_c8.2.2.2.2.2.2.2.1 (t := 133) rfl h (fun h => ?_) (fun h => ?_)
  · skip
    refine kz_iload_n (M := kt_M394) kX13_eFrom_c9.2.2.2.2.2.2.2.1 rfl ?_
    exact kz_iret (M := kt_M394) kX13_eFrom_c10.1 rfl rfl h
  · skip
    refine kz_aload_n (M := kt_M394) kX13_eFrom_c9.1 rfl ?_
    refine kz_iload (M := kt_M394) kX13_eFrom_c9.2.1 rfl ?_
    refine kz_aload_n (M := kt_M394) kX13_eFrom_c9.2.2.1 rfl ?_
    refine kz_cv1 (M := kt_M394) (c := 12) (o := 0) (As := []) (rest := [.int x4, .ref (w_adr E.2.1 12 0)]) kX13_eFrom_c9.2.2.2.1 wl_X13_672 wMv_498 rfl (.inl rfl) rfl (Nat.le_trans (Nat.le_of_ble_eq_true rfl) hL) (Nat.le_of_ble_eq_true rfl) (Nat.le_of_ble_eq_true rfl) h (fun v4 w3 hle h => ?_) (fun _ _ _ h => kzx_no rfl h)
    have h := h hle
    refine kz_cv1 (M := kt_M394) (c := 12) (o := 0) (As := [.int x4, .int v4]) (rest := []) kX13_eFrom_c9.2.2.2.2.1 wl_X13_598 wMv_368 rfl (.inl rfl) rfl (Nat.le_trans (Nat.le_of_ble_eq_true rfl) hL) (Nat.le_of_ble_eq_true rfl) (Nat.le_of_ble_eq_true rfl) h (fun v6 w5 hle h => ?_) (fun _ _ _ h => kzx_no rfl h)
    have h := h hle
    refine kz_sti (M := kt_M394) [(0, .ref (w_adr E.2.1 12 0)), (2, .int x2), (3, .int x3)] kX13_eFrom_c9.2.2.2.2.2.1 (Nat.le_of_ble_eq_true rfl) ⟨⟨rfl, rfl, .inl rfl⟩, ⟨⟨rfl, rfl, .inl rfl⟩, ⟨⟨rfl, rfl, .inr rfl⟩, trivial⟩⟩⟩ rfl ?_
    refine kz_goto (M := kt_M394) kX13_eFrom_c9.2.2.2.2.2.2.1 (t := 110) rfl ?_
    exact kz_weak [(0, .ref (w_adr E.2.1 12 0)), (2, .int x2), (3, .int x3), (4, .int v6)] ⟨rfl, ⟨rfl, ⟨rfl, ⟨rfl, trivial⟩⟩⟩⟩ rfl h
def zb_X13_eFrom_p77 (E : zE) (L : Nat) (Q : kx_Rs → wS → Prop) (x1 : Int32) (x2 : Int32) (w : wS) : Prop := (kx_inb (w_i w 12 0 35) (w_n w 12 0 9) = true ∧ zw E (L - 22) kt_M494 [.ref (w_adr E.2.1 12 0), .int 64, .int (w_a w 12 0 9 (w_i w 12 0 35).toNatClampNeg)] w (wk1 (fun v2 w1 => wle w w1 → (kx_inb v2 (w_n w1 12 0 29) = true ∧ (kx_inb v2 (w_n w1 12 0 28) = true ∧ zL_X13_eFrom_p110 E L Q x2 v2 x1 (ws_a (ws_a w1 12 0 29 (v2).toNatClampNeg x2) 12 0 28 (v2).toNatClampNeg x1)))) (fun e w => Q (.inr e) w)))
theorem zt_X13_eFrom_p77 {E : zE} {L : Nat} {Q : kx_Rs → wS → Prop} {x1 : Int32} {x2 : Int32} {w : wS} (hL : 24 ≤ L) (h : zb_X13_eFrom_p77 E L Q x1 x2 w) : kzE E L kt_M394 77 [(0, .ref (w_adr E.2.1 12 0)), (1, .int x1), (2, .int x2)] [] w Q := by
  unfold zb_X13_eFrom_p77 at h
  refine kz_aload_n (M := kt_M394) kX13_eFrom_c5.2.2.2.2.2.2.2.1 rfl ?_
  refine kz_bi (M := kt_M394) 64 kX13_eFrom_c6.1 rfl ?_
  refine kz_aload_n (M := kt_M394) kX13_eFrom_c6.2.1 rfl ?_
  refine kz_gfc (M := kt_M394) (x := 4081) (c := 12) (o := 0) kX13_eFrom_c6.2.2.1 wf_X13_163 (.inl rfl) ?_
  refine kz_aload_n (M := kt_M394) kX13_eFrom_c6.2.2.2.1 rfl ?_
  refine kz_gfi (M := kt_M394) (c := 12) (o := 0) kX13_eFrom_c6.2.2.2.2.1 wf_X13_547 (.inl rfl) ?_
  refine kz_iald (M := kt_M394) (c := 12) (o := 0) (k := 9) (a := (E.2.1 4081)) kX13_eFrom_c6.2.2.2.2.2.1 ow_12_0_9 oa_12_0_9 ot_0 h (fun h => ?_)
  refine kz_cv1 (M := kt_M394) (c := 12) (o := 0) (As := [.int 64, .int (w_a w 12 0 9 (w_i w 12 0 35).toNatClampNeg)]) (rest := []) kX13_eFrom_c6.2.2.2.2.2.2.1 wl_X13_592 wMv_494 rfl (.inl rfl) rfl (Nat.le_trans (Nat.le_of_ble_eq_true rfl) hL) (Nat.le_of_ble_eq_true rfl) (Nat.le_of_ble_eq_true rfl) h (fun v2 w1 hle h => ?_) (fun _ _ _ h => kzx_no rfl h)
  have h := h hle
  refine kz_sti_n (M := kt_M394) [(0, .ref (w_adr E.2.1 12 0)), (1, .int x1), (2, .int x2)] kX13_eFrom_c6.2.2.2.2.2.2.2.1 (Nat.le_of_ble_eq_true rfl) ⟨⟨rfl, rfl, .inl rfl⟩, ⟨⟨rfl, rfl, .inl rfl⟩, ⟨⟨rfl, rfl, .inr rfl⟩, trivial⟩⟩⟩ rfl ?_
  refine kz_aload_n (M := kt_M394) kX13_eFrom_c7.1 rfl ?_
  refine kz_gfc (M := kt_M394) (x := 4101) (c := 12) (o := 0) kX13_eFrom_c7.2.1 wf_X13_196 (.inl rfl) ?_
  refine kz_iload_n (M := kt_M394) kX13_eFrom_c7.2.2.1 rfl ?_
  refine kz_iload_n (M := kt_M394) kX13_eFrom_c7.2.2.2.1 rfl ?_
  refine kz_iast (M := kt_M394) (c := 12) (o := 0) (k := 29) (a := (E.2.1 4101)) kX13_eFrom_c7.2.2.2.2.1 ow_12_0_29 oa_12_0_29 ot_0 h (fun h => ?_)
  refine kz_aload_n (M := kt_M394) kX13_eFrom_c7.2.2.2.2.2.1 rfl ?_
  refine kz_gfc (M := kt_M394) (x := 4100) (c := 12) (o := 0) kX13_eFrom_c7.2.2.2.2.2.2.1 wf_X13_193 (.inl rfl) ?_
  refine kz_iload_n (M := kt_M394) kX13_eFrom_c7.2.2.2.2.2.2.2.1 rfl ?_
  refine kz_iload_n (M := kt_M394) kX13_eFrom_c8.1 rfl ?_
  refine kz_iastR (M := kt_M394) (n := w_n w1 12 0 28) (c := 12) (o := 0) (k := 28) (a := (E.2.1 4100)) kX13_eFrom_c8.2.1 ow_12_0_28 oa_12_0_28 ot_0 rd_n_a h (fun h => ?_)
  refine kz_iload_n (M := kt_M394) kX13_eFrom_c8.2.2.1 rfl ?_
  refine kz_sti (M := kt_M394) [(0, .ref (w_adr E.2.1 12 0)), (2, .int x2), (3, .int v2)] kX13_eFrom_c8.2.2.2.1 (Nat.le_of_ble_eq_true rfl) ⟨⟨rfl, rfl, .inl rfl⟩, ⟨⟨rfl, rfl, .inl rfl⟩, ⟨⟨rfl, rfl, .inr rfl⟩, trivial⟩⟩⟩ rfl ?_
  exact kz_weak [(0, .ref (w_adr E.2.1 12 0)), (2, .int x2), (3, .int v2), (4, .int x1)] ⟨rfl, ⟨rfl, ⟨rfl, ⟨rfl, trivial⟩⟩⟩⟩ rfl h
def zb_X13_eFrom_p0 (E : zE) (L : Nat) (Q : kx_Rs → wS → Prop) (x1 : Int32) (w : wS) : Prop := zw E (L - 20) kt_M462 [.ref (w_adr E.2.1 12 0)] w (wk1 (fun v2 w1 => wle w w1 → zw E (L - 20) kt_M445 [.int v2] w1 (wk1 (fun v4 w3 => wle w1 w3 → (if v4 = 0 then (if v2 = 2 then zb_X13_eFrom_p77 E L Q x1 v2 w3 else (if v2 = 19 then zb_X13_eFrom_p77 E L Q x1 v2 w3 else Q (.inl (some (.int x1))) w3)) else (kx_inb (w_i w3 12 0 35) (w_n w3 12 0 9) = true ∧ zw E (L - 22) kt_M494 [.ref (w_adr E.2.1 12 0), .int 63, .int (w_a w3 12 0 9 (w_i w3 12 0 35).toNatClampNeg)] w3 (wk1 (fun v6 w5 => wle w3 w5 → (kx_inb v6 (w_n w5 12 0 29) = true ∧ (kx_inb v6 (w_n w5 12 0 28) = true ∧ zw E (L - 24) kt_M498 [.ref (w_adr E.2.1 12 0)] (ws_a (ws_a (ws_i w5 12 0 35 ((w_i w5 12 0 35) + 1)) 12 0 29 (v6).toNatClampNeg v2) 12 0 28 (v6).toNatClampNeg x1) (wk1 (fun v8 w7 => wle (ws_a (ws_a (ws_i w5 12 0 35 ((w_i w5 12 0 35) + 1)) 12 0 29 (v6).toNatClampNeg v2) 12 0 28 (v6).toNatClampNeg x1) w7 → (kx_inb v6 (w_n w7 12 0 30) = true ∧ Q (.inl (some (.int v6))) (ws_a w7 12 0 30 (v6).toNatClampNeg v8))) (fun e w => Q (.inr e) w))))) (fun e w => Q (.inr e) w))))) (fun e w => Q (.inr e) w))) (fun e w => Q (.inr e) w))
theorem zt_X13_eFrom_p0 {E : zE} {L : Nat} {Q : kx_Rs → wS → Prop} {x1 : Int32} {w : wS} (hL : 24 ≤ L) (h : zb_X13_eFrom_p0 E L Q x1 w) : kzE E L kt_M394 0 [(0, .ref (w_adr E.2.1 12 0)), (1, .int x1)] [] w Q := by
  unfold zb_X13_eFrom_p0 at h
  refine kz_aload_n (M := kt_M394) kX13_eFrom_c0.1 rfl ?_
  refine kz_cv1 (M := kt_M394) (c := 12) (o := 0) (As := []) (rest := []) kX13_eFrom_c0.2.1 wl_X13_560 wMv_462 rfl (.inl rfl) rfl (Nat.le_trans (Nat.le_of_ble_eq_true rfl) hL) (Nat.le_of_ble_eq_true rfl) (Nat.le_of_ble_eq_true rfl) h (fun v2 w1 hle h => ?_) (fun _ _ _ h => kzx_no rfl h)
  have h := h hle
  refine kz_sti_n (M := kt_M394) [(0, .ref (w_adr E.2.1 12 0)), (1, .int x1)] kX13_eFrom_c0.2.2.1 (Nat.le_of_ble_eq_true rfl) ⟨⟨rfl, rfl, .inl rfl⟩, ⟨⟨rfl, rfl, .inr rfl⟩, trivial⟩⟩ rfl ?_
  refine kz_iload_n (M := kt_M394) kX13_eFrom_c0.2.2.2.1 rfl ?_
  refine kz_cs1 (M := kt_M394) (As := [.int v2]) (rest := []) kX13_eFrom_c0.2.2.2.2.1 wl_X13_674 wMs_445 rfl (Nat.le_trans (Nat.le_of_ble_eq_true rfl) hL) (Nat.le_of_ble_eq_true rfl) (Nat.le_of_ble_eq_true rfl) h (fun v4 w3 hle h => ?_) (fun _ _ _ h => kzx_no rfl h)
  have h := h hle
  refine kz_if_eq (M := kt_M394) kX13_eFrom_c0.2.2.2.2.2.1 (t := 64) rfl h (fun h => ?_) (fun h => ?_)
  · skip
    refine kz_iload_n (M := kt_M394) kX13_eFrom_c4.2.2.2.2.2.2.2.1 rfl ?_
    refine kz_ic (M := kt_M394) 2 kX13_eFrom_c5.1 rfl ?_
    refine kz_icmp_eq (M := kt_M394) kX13_eFrom_c5.2.1 (t := 77) rfl h (fun h => ?_) (fun h => ?_)
    · skip
      exact kz_weak [(0, .ref (w_adr E.2.1 12 0)), (1, .int x1), (2, .int v2)] ⟨rfl, ⟨rfl, ⟨rfl, trivial⟩⟩⟩ rfl (zt_X13_eFrom_p77 hL  h)
    · skip
      refine kz_iload_n (M := kt_M394) kX13_eFrom_c5.2.2.1 rfl ?_
      refine kz_bi (M := kt_M394) 19 kX13_eFrom_c5.2.2.2.1 rfl ?_
      refine kz_icmp_eq (M := kt_M394) kX13_eFrom_c5.2.2.2.2.1 (t := 77) rfl h (fun h => ?_) (fun h => ?_)
      · skip
        exact kz_weak [(0, .ref (w_adr E.2.1 12 0)), (1, .int x1), (2, .int v2)] ⟨rfl, ⟨rfl, ⟨rfl, trivial⟩⟩⟩ rfl (zt_X13_eFrom_p77 hL  h)
      · skip
        refine kz_iload_n (M := kt_M394) kX13_eFrom_c5.2.2.2.2.2.1 rfl ?_
        exact kz_iret (M := kt_M394) kX13_eFrom_c5.2.2.2.2.2.2.1 rfl rfl h
  · skip
    refine kz_aload_n (M := kt_M394) kX13_eFrom_c0.2.2.2.2.2.2.1 rfl ?_
    refine kz_bi (M := kt_M394) 63 kX13_eFrom_c0.2.2.2.2.2.2.2.1 rfl ?_
    refine kz_aload_n (M := kt_M394) kX13_eFrom_c1.1 rfl ?_
    refine kz_gfc (M := kt_M394) (x := 4081) (c := 12) (o := 0) kX13_eFrom_c1.2.1 wf_X13_163 (.inl rfl) ?_
    refine kz_aload_n (M := kt_M394) kX13_eFrom_c1.2.2.1 rfl ?_
    refine kz_gfi (M := kt_M394) (c := 12) (o := 0) kX13_eFrom_c1.2.2.2.1 wf_X13_547 (.inl rfl) ?_
    refine kz_iald (M := kt_M394) (c := 12) (o := 0) (k := 9) (a := (E.2.1 4081)) kX13_eFrom_c1.2.2.2.2.1 ow_12_0_9 oa_12_0_9 ot_0 h (fun h => ?_)
    refine kz_cv1 (M := kt_M394) (c := 12) (o := 0) (As := [.int 63, .int (w_a w3 12 0 9 (w_i w3 12 0 35).toNatClampNeg)]) (rest := []) kX13_eFrom_c1.2.2.2.2.2.1 wl_X13_592 wMv_494 rfl (.inl rfl) rfl (Nat.le_trans (Nat.le_of_ble_eq_true rfl) hL) (Nat.le_of_ble_eq_true rfl) (Nat.le_of_ble_eq_true rfl) h (fun v6 w5 hle h => ?_) (fun _ _ _ h => kzx_no rfl h)
    have h := h hle
    refine kz_sti_n (M := kt_M394) [(0, .ref (w_adr E.2.1 12 0)), (1, .int x1), (2, .int v2)] kX13_eFrom_c1.2.2.2.2.2.2.1 (Nat.le_of_ble_eq_true rfl) ⟨⟨rfl, rfl, .inl rfl⟩, ⟨⟨rfl, rfl, .inl rfl⟩, ⟨⟨rfl, rfl, .inr rfl⟩, trivial⟩⟩⟩ rfl ?_
    refine kz_aload_n (M := kt_M394) kX13_eFrom_c1.2.2.2.2.2.2.2.1 rfl ?_
    refine kz_dup (M := kt_M394) kX13_eFrom_c2.1 rfl ?_
    refine kz_gfi (M := kt_M394) (c := 12) (o := 0) kX13_eFrom_c2.2.1 wf_X13_547 (.inl rfl) ?_
    refine kz_ic (M := kt_M394) 1 kX13_eFrom_c2.2.2.1 rfl ?_
    refine kz_iadd (M := kt_M394) kX13_eFrom_c2.2.2.2.1 ?_
    refine kz_pfi (M := kt_M394) (c := 12) (o := 0) kX13_eFrom_c2.2.2.2.2.1 wq_X13_547 (.inl rfl) ?_
    refine kz_aload_n (M := kt_M394) kX13_eFrom_c2.2.2.2.2.2.1 rfl ?_
    refine kz_gfc (M := kt_M394) (x := 4101) (c := 12) (o := 0) kX13_eFrom_c2.2.2.2.2.2.2.1 wf_X13_196 (.inl rfl) ?_
    refine kz_iload_n (M := kt_M394) kX13_eFrom_c2.2.2.2.2.2.2.2.1 rfl ?_
    refine kz_iload_n (M := kt_M394) kX13_eFrom_c3.1 rfl ?_
    refine kz_iastR (M := kt_M394) (n := w_n w5 12 0 29) (c := 12) (o := 0) (k := 29) (a := (E.2.1 4101)) kX13_eFrom_c3.2.1 ow_12_0_29 oa_12_0_29 ot_0 rd_n_i h (fun h => ?_)
    refine kz_aload_n (M := kt_M394) kX13_eFrom_c3.2.2.1 rfl ?_
    refine kz_gfc (M := kt_M394) (x := 4100) (c := 12) (o := 0) kX13_eFrom_c3.2.2.2.1 wf_X13_193 (.inl rfl) ?_
    refine kz_iload_n (M := kt_M394) kX13_eFrom_c3.2.2.2.2.1 rfl ?_
    refine kz_iload_n (M := kt_M394) kX13_eFrom_c3.2.2.2.2.2.1 rfl ?_
    refine kz_iastR (M := kt_M394) (n := w_n w5 12 0 28) (c := 12) (o := 0) (k := 28) (a := (E.2.1 4100)) kX13_eFrom_c3.2.2.2.2.2.2.1 ow_12_0_28 oa_12_0_28 ot_0 (rd_n_a.trans rd_n_i) h (fun h => ?_)
    refine kz_aload_n (M := kt_M394) kX13_eFrom_c3.2.2.2.2.2.2.2.1 rfl ?_
    refine kz_gfc (M := kt_M394) (x := 4102) (c := 12) (o := 0) kX13_eFrom_c4.1 wf_X13_199 (.inl rfl) ?_
    refine kz_iload_n (M := kt_M394) kX13_eFrom_c4.2.1 rfl ?_
    refine kz_aload_n (M := kt_M394) kX13_eFrom_c4.2.2.1 rfl ?_
    refine kz_cv1 (M := kt_M394) (c := 12) (o := 0) (As := []) (rest := [.int v6, .ref (E.2.1 4102)]) kX13_eFrom_c4.2.2.2.1 wl_X13_672 wMv_498 rfl (.inl rfl) rfl (Nat.le_trans (Nat.le_of_ble_eq_true rfl) hL) (Nat.le_of_ble_eq_true rfl) (Nat.le_of_ble_eq_true rfl) h (fun v8 w7 hle h => ?_) (fun _ _ _ h => kzx_no rfl h)
    have h := h hle
    refine kz_iast (M := kt_M394) (c := 12) (o := 0) (k := 30) (a := (E.2.1 4102)) kX13_eFrom_c4.2.2.2.2.1 ow_12_0_30 oa_12_0_30 ot_0 h (fun h => ?_)
    refine kz_iload_n (M := kt_M394) kX13_eFrom_c4.2.2.2.2.2.1 rfl ?_
    exact kz_iret (M := kt_M394) kX13_eFrom_c4.2.2.2.2.2.2.1 rfl rfl h
def zb_X13_isOperator_p39 (E : zE) (L : Nat) (Q : kx_Rs → wS → Prop) (y0 : Int32) (w : wS) : Prop := ((y0 = 0 ∨ y0 = 1) ∧ Q (.inl (some (.int y0))) w)
theorem zt_X13_isOperator_p39 {E : zE} {L : Nat} {Q : kx_Rs → wS → Prop} {y0 : Int32} {w : wS} (hL : 19 ≤ L) (h : zb_X13_isOperator_p39 E L Q y0 w) : kzE E L kt_M445 39 [] [.int y0] w Q := by
  unfold zb_X13_isOperator_p39 at h
  exact kz_iretz (M := kt_M445) kX13_isOperator_c2.2.2.2.2.1 rfl h.1 h.2
def zb_X13_isOperator_p34 (E : zE) (L : Nat) (Q : kx_Rs → wS → Prop) (w : wS) : Prop := zb_X13_isOperator_p39 E L Q 1 w
theorem zt_X13_isOperator_p34 {E : zE} {L : Nat} {Q : kx_Rs → wS → Prop} {w : wS} (hL : 19 ≤ L) (h : zb_X13_isOperator_p34 E L Q  w) : kzE E L kt_M445 34 [] [] w Q := by
  unfold zb_X13_isOperator_p34 at h
  refine kz_ic (M := kt_M445) 1 kX13_isOperator_c2.2.1 rfl ?_
  refine kz_goto (M := kt_M445) kX13_isOperator_c2.2.2.1 (t := 39) rfl ?_
  exact kz_weak [] trivial rfl (zt_X13_isOperator_p39 hL  h)
def zb_X13_isOperator_p12 (E : zE) (L : Nat) (Q : kx_Rs → wS → Prop) (x0 : Int32) (w : wS) : Prop := (if x0 = 21 then zb_X13_isOperator_p34 E L Q w else (if x0 = 14 then zb_X13_isOperator_p34 E L Q w else (if x0 = 31 then zb_X13_isOperator_p34 E L Q w else (if ¬ x0 = 0 then zb_X13_isOperator_p39 E L Q 0 w else zb_X13_isOperator_p34 E L Q w))))
theorem zt_X13_isOperator_p12 {E : zE} {L : Nat} {Q : kx_Rs → wS → Prop} {x0 : Int32} {w : wS} (hL : 19 ≤ L) (h : zb_X13_isOperator_p12 E L Q x0 w) : kzE E L kt_M445 12 [(0, .int x0)] [] w Q := by
  unfold zb_X13_isOperator_p12 at h
  refine kz_iload_n (M := kt_M445) kX13_isOperator_c0.2.2.2.2.2.2.1 rfl ?_
  refine kz_bi (M := kt_M445) 21 kX13_isOperator_c0.2.2.2.2.2.2.2.1 rfl ?_
  refine kz_icmp_eq (M := kt_M445) kX13_isOperator_c1.1 (t := 34) rfl h (fun h => ?_) (fun h => ?_)
  · skip
    exact kz_weak [] trivial rfl (zt_X13_isOperator_p34 hL  h)
  · skip
    refine kz_iload_n (M := kt_M445) kX13_isOperator_c1.2.1 rfl ?_
    refine kz_bi (M := kt_M445) 14 kX13_isOperator_c1.2.2.1 rfl ?_
    refine kz_icmp_eq (M := kt_M445) kX13_isOperator_c1.2.2.2.1 (t := 34) rfl h (fun h => ?_) (fun h => ?_)
    · skip
      exact kz_weak [] trivial rfl (zt_X13_isOperator_p34 hL  h)
    · skip
      refine kz_iload_n (M := kt_M445) kX13_isOperator_c1.2.2.2.2.1 rfl ?_
      refine kz_bi (M := kt_M445) 31 kX13_isOperator_c1.2.2.2.2.2.1 rfl ?_
      refine kz_icmp_eq (M := kt_M445) kX13_isOperator_c1.2.2.2.2.2.2.1 (t := 34) rfl h (fun h => ?_) (fun h => ?_)
      · skip
        exact kz_weak [] trivial rfl (zt_X13_isOperator_p34 hL  h)
      · skip
        refine kz_iload_n (M := kt_M445) kX13_isOperator_c1.2.2.2.2.2.2.2.1 rfl ?_
        refine kz_if_ne (M := kt_M445) kX13_isOperator_c2.1 (t := 38) rfl h (fun h => ?_) (fun h => ?_)
        · skip
          refine kz_ic (M := kt_M445) 0 kX13_isOperator_c2.2.2.2.1 rfl ?_
          exact kz_weak [] trivial rfl (zt_X13_isOperator_p39 hL  h)
        · skip
          exact kz_weak [] trivial rfl (zt_X13_isOperator_p34 hL  h)
def zb_X13_isOperator_p0 (E : zE) (L : Nat) (Q : kx_Rs → wS → Prop) (x0 : Int32) (w : wS) : Prop := (if x0 < 51 then zb_X13_isOperator_p12 E L Q x0 w else (if x0 ≤ 66 then zb_X13_isOperator_p34 E L Q w else zb_X13_isOperator_p12 E L Q x0 w))
theorem zt_X13_isOperator_p0 {E : zE} {L : Nat} {Q : kx_Rs → wS → Prop} {x0 : Int32} {w : wS} (hL : 19 ≤ L) (h : zb_X13_isOperator_p0 E L Q x0 w) : kzE E L kt_M445 0 [(0, .int x0)] [] w Q := by
  unfold zb_X13_isOperator_p0 at h
  refine kz_iload_n (M := kt_M445) kX13_isOperator_c0.1 rfl ?_
  refine kz_bi (M := kt_M445) 51 kX13_isOperator_c0.2.1 rfl ?_
  refine kz_icmp_lt (M := kt_M445) kX13_isOperator_c0.2.2.1 (t := 12) rfl h (fun h => ?_) (fun h => ?_)
  · skip
    exact kz_weak [(0, .int x0)] ⟨rfl, trivial⟩ rfl (zt_X13_isOperator_p12 hL  h)
  · skip
    refine kz_iload_n (M := kt_M445) kX13_isOperator_c0.2.2.2.1 rfl ?_
    refine kz_bi (M := kt_M445) 66 kX13_isOperator_c0.2.2.2.2.1 rfl ?_
    refine kz_icmp_le (M := kt_M445) kX13_isOperator_c0.2.2.2.2.2.1 (t := 34) rfl h (fun h => ?_) (fun h => ?_)
    · skip
      exact kz_weak [] trivial rfl (zt_X13_isOperator_p34 hL  h)
    · skip
      exact kz_weak [(0, .int x0)] ⟨rfl, trivial⟩ rfl (zt_X13_isOperator_p12 hL  h)
def zb_X13_endOfLine_p0 (E : zE) (L : Nat) (Q : kx_Rs → wS → Prop) (w : wS) : Prop := zw E (L - 21) kt_M600 [.ref (w_adr E.2.1 12 0), .int 74] w (wk0 (fun w1 => wle w w1 → Q (.inl none) w1) (fun e w => Q (.inr e) w))
theorem zt_X13_endOfLine_p0 {E : zE} {L : Nat} {Q : kx_Rs → wS → Prop} {w : wS} (hL : 21 ≤ L) (h : zb_X13_endOfLine_p0 E L Q  w) : kzE E L kt_M400 0 [(0, .ref (w_adr E.2.1 12 0))] [] w Q := by
  unfold zb_X13_endOfLine_p0 at h
  refine kz_aload_n (M := kt_M400) kX13_endOfLine_c0.1 rfl ?_
  refine kz_bi (M := kt_M400) 74 kX13_endOfLine_c0.2.1 rfl ?_
  refine kz_cv0 (M := kt_M400) (c := 12) (o := 0) (As := [.int 74]) (rest := []) kX13_endOfLine_c0.2.2.1 wl_X13_585 wMv_600 rfl (.inl rfl) rfl (Nat.le_trans (Nat.le_of_ble_eq_true rfl) hL) (Nat.le_of_ble_eq_true rfl) (Nat.le_of_ble_eq_true rfl) h (fun w1 hle h => ?_) (fun _ _ _ h => kzx_no rfl h)
  have h := h hle
  exact kz_ret (M := kt_M400) kX13_endOfLine_c0.2.2.2.1 rfl h
def zb_X13_colon_p0 (E : zE) (L : Nat) (Q : kx_Rs → wS → Prop) (x1 : Int32) (w : wS) : Prop := zw E (L - 22) kt_M458 [.ref (w_adr E.2.1 12 0), .int x1, .int 6] w (wk0 (fun w1 => wle w w1 → zw E (L - 20) kt_M400 [.ref (w_adr E.2.1 12 0)] (ws_i w1 12 0 35 ((w_i w1 12 0 35) + 1)) (wk0 (fun w3 => wle (ws_i w1 12 0 35 ((w_i w1 12 0 35) + 1)) w3 → Q (.inl none) w3) (fun e w => Q (.inr e) w))) (fun e w => Q (.inr e) w))
theorem zt_X13_colon_p0 {E : zE} {L : Nat} {Q : kx_Rs → wS → Prop} {x1 : Int32} {w : wS} (hL : 22 ≤ L) (h : zb_X13_colon_p0 E L Q x1 w) : kzE E L kt_M375 0 [(0, .ref (w_adr E.2.1 12 0)), (1, .int x1)] [] w Q := by
  unfold zb_X13_colon_p0 at h
  refine kz_aload_n (M := kt_M375) kX13_colon_c0.1 rfl ?_
  refine kz_iload_n (M := kt_M375) kX13_colon_c0.2.1 rfl ?_
  refine kz_bi (M := kt_M375) 6 kX13_colon_c0.2.2.1 rfl ?_
  refine kz_cv0 (M := kt_M375) (c := 12) (o := 0) (As := [.int x1, .int 6]) (rest := []) kX13_colon_c0.2.2.2.1 wl_X13_588 wMv_458 rfl (.inl rfl) rfl (Nat.le_trans (Nat.le_of_ble_eq_true rfl) hL) (Nat.le_of_ble_eq_true rfl) (Nat.le_of_ble_eq_true rfl) h (fun w1 hle h => ?_) (fun _ _ _ h => kzx_no rfl h)
  have h := h hle
  refine kz_aload_n (M := kt_M375) kX13_colon_c0.2.2.2.2.1 rfl ?_
  refine kz_dup (M := kt_M375) kX13_colon_c0.2.2.2.2.2.1 rfl ?_
  refine kz_gfi (M := kt_M375) (c := 12) (o := 0) kX13_colon_c0.2.2.2.2.2.2.1 wf_X13_547 (.inl rfl) ?_
  refine kz_ic (M := kt_M375) 1 kX13_colon_c0.2.2.2.2.2.2.2.1 rfl ?_
  refine kz_iadd (M := kt_M375) kX13_colon_c1.1 ?_
  refine kz_pfi (M := kt_M375) (c := 12) (o := 0) kX13_colon_c1.2.1 wq_X13_547 (.inl rfl) ?_
  refine kz_aload_n (M := kt_M375) kX13_colon_c1.2.2.1 rfl ?_
  refine kz_cv0 (M := kt_M375) (c := 12) (o := 0) (As := []) (rest := []) kX13_colon_c1.2.2.2.1 wl_X13_616 wMv_400 rfl (.inl rfl) rfl (Nat.le_trans (Nat.le_of_ble_eq_true rfl) hL) (Nat.le_of_ble_eq_true rfl) (Nat.le_of_ble_eq_true rfl) h (fun w3 hle h => ?_) (fun _ _ _ h => kzx_no rfl h)
  have h := h hle
  exact kz_ret (M := kt_M375) kX13_colon_c1.2.2.2.2.1 rfl h
def zb_X13_abbreviation_p0 (E : zE) (L : Nat) (Q : kx_Rs → wS → Prop) (x1 : Int32) (x2 : Int32) (w : wS) : Prop := (kx_inb x1 (w_n w 12 0 26) = true ∧ (kx_inb x1 (w_n w 12 0 30) = true ∧ zw E (L - 21) kt_M600 [.ref (w_adr E.2.1 12 0), .int 13] (ws_a (ws_a w 12 0 26 (x1).toNatClampNeg 34) 12 0 30 (x1).toNatClampNeg x2) (wk0 (fun w1 => wle (ws_a (ws_a w 12 0 26 (x1).toNatClampNeg 34) 12 0 30 (x1).toNatClampNeg x2) w1 → zw E (L - 23) kt_M396 [.ref (w_adr E.2.1 12 0)] w1 (wk1 (fun v4 w3 => wle w1 w3 → (kx_inb x1 (w_n w3 12 0 28) = true ∧ zw E (L - 21) kt_M600 [.ref (w_adr E.2.1 12 0), .int 46] (ws_a w3 12 0 28 (x1).toNatClampNeg v4) (wk0 (fun w5 => wle (ws_a w3 12 0 28 (x1).toNatClampNeg v4) w5 → zw E (L - 20) kt_M400 [.ref (w_adr E.2.1 12 0)] w5 (wk0 (fun w7 => wle w5 w7 → Q (.inl (some (.int x1))) w7) (fun e w => Q (.inr e) w))) (fun e w => Q (.inr e) w)))) (fun e w => Q (.inr e) w))) (fun e w => Q (.inr e) w))))
theorem zt_X13_abbreviation_p0 {E : zE} {L : Nat} {Q : kx_Rs → wS → Prop} {x1 : Int32} {x2 : Int32} {w : wS} (hL : 23 ≤ L) (h : zb_X13_abbreviation_p0 E L Q x1 x2 w) : kzE E L kt_M339 0 [(0, .ref (w_adr E.2.1 12 0)), (1, .int x1), (2, .int x2)] [] w Q := by
  unfold zb_X13_abbreviation_p0 at h
  refine kz_aload_n (M := kt_M339) kX13_abbreviation_c0.1 rfl ?_
  refine kz_gfc (M := kt_M339) (x := 4098) (c := 12) (o := 0) kX13_abbreviation_c0.2.1 wf_X13_187 (.inl rfl) ?_
  refine kz_iload_n (M := kt_M339) kX13_abbreviation_c0.2.2.1 rfl ?_
  refine kz_bi (M := kt_M339) 34 kX13_abbreviation_c0.2.2.2.1 rfl ?_
  refine kz_iast (M := kt_M339) (c := 12) (o := 0) (k := 26) (a := (E.2.1 4098)) kX13_abbreviation_c0.2.2.2.2.1 ow_12_0_26 oa_12_0_26 ot_0 h (fun h => ?_)
  refine kz_aload_n (M := kt_M339) kX13_abbreviation_c0.2.2.2.2.2.1 rfl ?_
  refine kz_gfc (M := kt_M339) (x := 4102) (c := 12) (o := 0) kX13_abbreviation_c0.2.2.2.2.2.2.1 wf_X13_199 (.inl rfl) ?_
  refine kz_iload_n (M := kt_M339) kX13_abbreviation_c0.2.2.2.2.2.2.2.1 rfl ?_
  refine kz_iload_n (M := kt_M339) kX13_abbreviation_c1.1 rfl ?_
  refine kz_iastR (M := kt_M339) (n := w_n w 12 0 30) (c := 12) (o := 0) (k := 30) (a := (E.2.1 4102)) kX13_abbreviation_c1.2.1 ow_12_0_30 oa_12_0_30 ot_0 rd_n_a h (fun h => ?_)
  refine kz_aload_n (M := kt_M339) kX13_abbreviation_c1.2.2.1 rfl ?_
  refine kz_bi (M := kt_M339) 13 kX13_abbreviation_c1.2.2.2.1 rfl ?_
  refine kz_cv0 (M := kt_M339) (c := 12) (o := 0) (As := [.int 13]) (rest := []) kX13_abbreviation_c1.2.2.2.2.1 wl_X13_585 wMv_600 rfl (.inl rfl) rfl (Nat.le_trans (Nat.le_of_ble_eq_true rfl) hL) (Nat.le_of_ble_eq_true rfl) (Nat.le_of_ble_eq_true rfl) h (fun w1 hle h => ?_) (fun _ _ _ h => kzx_no rfl h)
  have h := h hle
  refine kz_aload_n (M := kt_M339) kX13_abbreviation_c1.2.2.2.2.2.1 rfl ?_
  refine kz_gfc (M := kt_M339) (x := 4100) (c := 12) (o := 0) kX13_abbreviation_c1.2.2.2.2.2.2.1 wf_X13_193 (.inl rfl) ?_
  refine kz_iload_n (M := kt_M339) kX13_abbreviation_c1.2.2.2.2.2.2.2.1 rfl ?_
  refine kz_aload_n (M := kt_M339) kX13_abbreviation_c2.1 rfl ?_
  refine kz_cv1 (M := kt_M339) (c := 12) (o := 0) (As := []) (rest := [.int x1, .ref (E.2.1 4100)]) kX13_abbreviation_c2.2.1 wl_X13_651 wMv_396 rfl (.inl rfl) rfl (Nat.le_trans (Nat.le_of_ble_eq_true rfl) hL) (Nat.le_of_ble_eq_true rfl) (Nat.le_of_ble_eq_true rfl) h (fun v4 w3 hle h => ?_) (fun _ _ _ h => kzx_no rfl h)
  have h := h hle
  refine kz_iast (M := kt_M339) (c := 12) (o := 0) (k := 28) (a := (E.2.1 4100)) kX13_abbreviation_c2.2.2.1 ow_12_0_28 oa_12_0_28 ot_0 h (fun h => ?_)
  refine kz_aload_n (M := kt_M339) kX13_abbreviation_c2.2.2.2.1 rfl ?_
  refine kz_bi (M := kt_M339) 46 kX13_abbreviation_c2.2.2.2.2.1 rfl ?_
  refine kz_cv0 (M := kt_M339) (c := 12) (o := 0) (As := [.int 46]) (rest := []) kX13_abbreviation_c2.2.2.2.2.2.1 wl_X13_585 wMv_600 rfl (.inl rfl) rfl (Nat.le_trans (Nat.le_of_ble_eq_true rfl) hL) (Nat.le_of_ble_eq_true rfl) (Nat.le_of_ble_eq_true rfl) h (fun w5 hle h => ?_) (fun _ _ _ h => kzx_no rfl h)
  have h := h hle
  refine kz_aload_n (M := kt_M339) kX13_abbreviation_c2.2.2.2.2.2.2.1 rfl ?_
  refine kz_cv0 (M := kt_M339) (c := 12) (o := 0) (As := []) (rest := []) kX13_abbreviation_c2.2.2.2.2.2.2.2.1 wl_X13_616 wMv_400 rfl (.inl rfl) rfl (Nat.le_trans (Nat.le_of_ble_eq_true rfl) hL) (Nat.le_of_ble_eq_true rfl) (Nat.le_of_ble_eq_true rfl) h (fun w7 hle h => ?_) (fun _ _ _ h => kzx_no rfl h)
  have h := h hle
  refine kz_iload_n (M := kt_M339) kX13_abbreviation_c3.1 rfl ?_
  exact kz_iret (M := kt_M339) kX13_abbreviation_c3.2.1 rfl rfl h
def zL_X13_items_p27 (E : zE) (L : Nat) (Q : kx_Rs → wS → Prop) (x1 : Int32) (x3 : Int32) (w : wS) : Prop := kzE E L kt_M451 27 [(0, .ref (w_adr E.2.1 12 0)), (1, .int x1), (3, .int x3)] [] w Q
def zb_X13_items_p27 (E : zE) (L : Nat) (Q : kx_Rs → wS → Prop) (x1 : Int32) (x3 : Int32) (w : wS) : Prop := zw E (L - 21) kt_M466 [.ref (w_adr E.2.1 12 0), .int 44] w (wk1 (fun v2 w1 => wle w w1 → (if v2 = 0 then zw E (L - 21) kt_M600 [.ref (w_adr E.2.1 12 0), .int 46] w1 (wk0 (fun w3 => wle w1 w3 → zw E (L - 20) kt_M400 [.ref (w_adr E.2.1 12 0)] w3 (wk0 (fun w5 => wle w3 w5 → Q (.inl none) w5) (fun e w => Q (.inr e) w))) (fun e w => Q (.inr e) w)) else (kx_inb x1 (w_n w1 12 0 27) = true ∧ zw E (L - 22) kt_M494 [.ref (w_adr E.2.1 12 0), .int 39, .int (w_a w1 12 0 27 (x1).toNatClampNeg)] w1 (wk1 (fun v8 w7 => wle w1 w7 → zw E (L - 20) kt_M601 [.ref (w_adr E.2.1 12 0)] w7 (wk1 (fun v10 w9 => wle w7 w9 → (kx_inb v8 (w_n w9 12 0 30) = true ∧ (kx_inb x3 (w_n w9 12 0 32) = true ∧ zL_X13_items_p27 E L Q x1 v8 (ws_a (ws_a w9 12 0 30 (v8).toNatClampNeg v10) 12 0 32 (x3).toNatClampNeg v8)))) (fun e w => Q (.inr e) w))) (fun e w => Q (.inr e) w))))) (fun e w => Q (.inr e) w))
theorem zt_X13_items_p27 {E : zE} {L : Nat} {Q : kx_Rs → wS → Prop} {x1 : Int32} {x3 : Int32} {w : wS} (hL : 22 ≤ L) (h : zb_X13_items_p27 E L Q x1 x3 w) : kzE E L kt_M451 27 [(0, .ref (w_adr E.2.1 12 0)), (1, .int x1), (3, .int x3)] [] w Q := by
  unfold zb_X13_items_p27 at h
  refine kz_aload_n (M := kt_M451) kX13_items_c2.2.2.1 rfl ?_
  refine kz_bi (M := kt_M451) 44 kX13_items_c2.2.2.2.1 rfl ?_
  refine kz_cv1 (M := kt_M451) (c := 12) (o := 0) (As := [.int 44]) (rest := []) kX13_items_c2.2.2.2.2.1 wl_X13_642 wMv_466 rfl (.inl rfl) rfl (Nat.le_trans (Nat.le_of_ble_eq_true rfl) hL) (Nat.le_of_ble_eq_true rfl) (Nat.le_of_ble_eq_true rfl) h (fun v2 w1 hle h => ?_) (fun _ _ _ h => kzx_no rfl h)
  have h := h hle
  refine kz_if_eq (M := kt_M451) kX13_items_c2.2.2.2.2.2.1 (t := 75) rfl h (fun h => ?_) (fun h => ?_)
  · skip
    refine kz_aload_n (M := kt_M451) kX13_items_c5.2.2.2.2.1 rfl ?_
    refine kz_bi (M := kt_M451) 46 kX13_items_c5.2.2.2.2.2.1 rfl ?_
    refine kz_cv0 (M := kt_M451) (c := 12) (o := 0) (As := [.int 46]) (rest := []) kX13_items_c5.2.2.2.2.2.2.1 wl_X13_585 wMv_600 rfl (.inl rfl) rfl (Nat.le_trans (Nat.le_of_ble_eq_true rfl) hL) (Nat.le_of_ble_eq_true rfl) (Nat.le_of_ble_eq_true rfl) h (fun w3 hle h => ?_) (fun _ _ _ h => kzx_no rfl h)
    have h := h hle
    refine kz_aload_n (M := kt_M451) kX13_items_c5.2.2.2.2.2.2.2.1 rfl ?_
    refine kz_cv0 (M := kt_M451) (c := 12) (o := 0) (As := []) (rest := []) kX13_items_c6.1 wl_X13_616 wMv_400 rfl (.inl rfl) rfl (Nat.le_trans (Nat.le_of_ble_eq_true rfl) hL) (Nat.le_of_ble_eq_true rfl) (Nat.le_of_ble_eq_true rfl) h (fun w5 hle h => ?_) (fun _ _ _ h => kzx_no rfl h)
    have h := h hle
    exact kz_ret (M := kt_M451) kX13_items_c6.2.1 rfl h
  · skip
    refine kz_aload_n (M := kt_M451) kX13_items_c2.2.2.2.2.2.2.1 rfl ?_
    refine kz_bi (M := kt_M451) 39 kX13_items_c2.2.2.2.2.2.2.2.1 rfl ?_
    refine kz_aload_n (M := kt_M451) kX13_items_c3.1 rfl ?_
    refine kz_gfc (M := kt_M451) (x := 4099) (c := 12) (o := 0) kX13_items_c3.2.1 wf_X13_190 (.inl rfl) ?_
    refine kz_iload_n (M := kt_M451) kX13_items_c3.2.2.1 rfl ?_
    refine kz_iald (M := kt_M451) (c := 12) (o := 0) (k := 27) (a := (E.2.1 4099)) kX13_items_c3.2.2.2.1 ow_12_0_27 oa_12_0_27 ot_0 h (fun h => ?_)
    refine kz_cv1 (M := kt_M451) (c := 12) (o := 0) (As := [.int 39, .int (w_a w1 12 0 27 (x1).toNatClampNeg)]) (rest := []) kX13_items_c3.2.2.2.2.1 wl_X13_592 wMv_494 rfl (.inl rfl) rfl (Nat.le_trans (Nat.le_of_ble_eq_true rfl) hL) (Nat.le_of_ble_eq_true rfl) (Nat.le_of_ble_eq_true rfl) h (fun v8 w7 hle h => ?_) (fun _ _ _ h => kzx_no rfl h)
    have h := h hle
    refine kz_sti (M := kt_M451) [(0, .ref (w_adr E.2.1 12 0)), (1, .int x1), (3, .int x3)] kX13_items_c3.2.2.2.2.2.1 (Nat.le_of_ble_eq_true rfl) ⟨⟨rfl, rfl, .inl rfl⟩, ⟨⟨rfl, rfl, .inl rfl⟩, ⟨⟨rfl, rfl, .inr rfl⟩, trivial⟩⟩⟩ rfl ?_
    refine kz_aload_n (M := kt_M451) kX13_items_c3.2.2.2.2.2.2.1 rfl ?_
    refine kz_gfc (M := kt_M451) (x := 4102) (c := 12) (o := 0) kX13_items_c3.2.2.2.2.2.2.2.1 wf_X13_199 (.inl rfl) ?_
    refine kz_iload (M := kt_M451) kX13_items_c4.1 rfl ?_
    refine kz_aload_n (M := kt_M451) kX13_items_c4.2.1 rfl ?_
    refine kz_cv1 (M := kt_M451) (c := 12) (o := 0) (As := []) (rest := [.int v8, .ref (E.2.1 4102)]) kX13_items_c4.2.2.1 wl_X13_639 wMv_601 rfl (.inl rfl) rfl (Nat.le_trans (Nat.le_of_ble_eq_true rfl) hL) (Nat.le_of_ble_eq_true rfl) (Nat.le_of_ble_eq_true rfl) h (fun v10 w9 hle h => ?_) (fun _ _ _ h => kzx_no rfl h)
    have h := h hle
    refine kz_iast (M := kt_M451) (c := 12) (o := 0) (k := 30) (a := (E.2.1 4102)) kX13_items_c4.2.2.2.1 ow_12_0_30 oa_12_0_30 ot_0 h (fun h => ?_)
    refine kz_aload_n (M := kt_M451) kX13_items_c4.2.2.2.2.1 rfl ?_
    refine kz_gfc (M := kt_M451) (x := 4104) (c := 12) (o := 0) kX13_items_c4.2.2.2.2.2.1 wf_X13_205 (.inl rfl) ?_
    refine kz_iload_n (M := kt_M451) kX13_items_c4.2.2.2.2.2.2.1 rfl ?_
    refine kz_iload (M := kt_M451) kX13_items_c4.2.2.2.2.2.2.2.1 rfl ?_
    refine kz_iastR (M := kt_M451) (n := w_n w9 12 0 32) (c := 12) (o := 0) (k := 32) (a := (E.2.1 4104)) kX13_items_c5.1 ow_12_0_32 oa_12_0_32 ot_0 rd_n_a h (fun h => ?_)
    refine kz_iload (M := kt_M451) kX13_items_c5.2.1 rfl ?_
    refine kz_sti_n (M := kt_M451) [(0, .ref (w_adr E.2.1 12 0)), (1, .int x1)] kX13_items_c5.2.2.1 (Nat.le_of_ble_eq_true rfl) ⟨⟨rfl, rfl, .inl rfl⟩, ⟨⟨rfl, rfl, .inl rfl⟩, trivial⟩⟩ rfl ?_
    refine kz_goto (M := kt_M451) kX13_items_c5.2.2.2.1 (t := 27) rfl ?_
    exact kz_weak [(0, .ref (w_adr E.2.1 12 0)), (1, .int x1), (3, .int v8)] ⟨rfl, ⟨rfl, ⟨rfl, trivial⟩⟩⟩ rfl h
def zb_X13_items_p0 (E : zE) (L : Nat) (Q : kx_Rs → wS → Prop) (x1 : Int32) (x2 : Int32) (w : wS) : Prop := (kx_inb x1 (w_n w 12 0 27) = true ∧ zw E (L - 22) kt_M494 [.ref (w_adr E.2.1 12 0), .int 39, .int (w_a w 12 0 27 (x1).toNatClampNeg)] w (wk1 (fun v2 w1 => wle w w1 → (kx_inb v2 (w_n w1 12 0 30) = true ∧ (kx_inb x1 (w_n w1 12 0 29) = true ∧ zL_X13_items_p27 E L Q x1 v2 (ws_a (ws_a w1 12 0 30 (v2).toNatClampNeg x2) 12 0 29 (x1).toNatClampNeg v2)))) (fun e w => Q (.inr e) w)))
theorem zt_X13_items_p0 {E : zE} {L : Nat} {Q : kx_Rs → wS → Prop} {x1 : Int32} {x2 : Int32} {w : wS} (hL : 22 ≤ L) (h : zb_X13_items_p0 E L Q x1 x2 w) : kzE E L kt_M451 0 [(0, .ref (w_adr E.2.1 12 0)), (1, .int x1), (2, .int x2)] [] w Q := by
  unfold zb_X13_items_p0 at h
  refine kz_aload_n (M := kt_M451) kX13_items_c0.1 rfl ?_
  refine kz_bi (M := kt_M451) 39 kX13_items_c0.2.1 rfl ?_
  refine kz_aload_n (M := kt_M451) kX13_items_c0.2.2.1 rfl ?_
  refine kz_gfc (M := kt_M451) (x := 4099) (c := 12) (o := 0) kX13_items_c0.2.2.2.1 wf_X13_190 (.inl rfl) ?_
  refine kz_iload_n (M := kt_M451) kX13_items_c0.2.2.2.2.1 rfl ?_
  refine kz_iald (M := kt_M451) (c := 12) (o := 0) (k := 27) (a := (E.2.1 4099)) kX13_items_c0.2.2.2.2.2.1 ow_12_0_27 oa_12_0_27 ot_0 h (fun h => ?_)
  refine kz_cv1 (M := kt_M451) (c := 12) (o := 0) (As := [.int 39, .int (w_a w 12 0 27 (x1).toNatClampNeg)]) (rest := []) kX13_items_c0.2.2.2.2.2.2.1 wl_X13_592 wMv_494 rfl (.inl rfl) rfl (Nat.le_trans (Nat.le_of_ble_eq_true rfl) hL) (Nat.le_of_ble_eq_true rfl) (Nat.le_of_ble_eq_true rfl) h (fun v2 w1 hle h => ?_) (fun _ _ _ h => kzx_no rfl h)
  have h := h hle
  refine kz_sti_n (M := kt_M451) [(0, .ref (w_adr E.2.1 12 0)), (1, .int x1), (2, .int x2)] kX13_items_c0.2.2.2.2.2.2.2.1 (Nat.le_of_ble_eq_true rfl) ⟨⟨rfl, rfl, .inl rfl⟩, ⟨⟨rfl, rfl, .inl rfl⟩, ⟨⟨rfl, rfl, .inr rfl⟩, trivial⟩⟩⟩ rfl ?_
  refine kz_aload_n (M := kt_M451) kX13_items_c1.1 rfl ?_
  refine kz_gfc (M := kt_M451) (x := 4102) (c := 12) (o := 0) kX13_items_c1.2.1 wf_X13_199 (.inl rfl) ?_
  refine kz_iload_n (M := kt_M451) kX13_items_c1.2.2.1 rfl ?_
  refine kz_iload_n (M := kt_M451) kX13_items_c1.2.2.2.1 rfl ?_
  refine kz_iast (M := kt_M451) (c := 12) (o := 0) (k := 30) (a := (E.2.1 4102)) kX13_items_c1.2.2.2.2.1 ow_12_0_30 oa_12_0_30 ot_0 h (fun h => ?_)
  refine kz_aload_n (M := kt_M451) kX13_items_c1.2.2.2.2.2.1 rfl ?_
  refine kz_gfc (M := kt_M451) (x := 4101) (c := 12) (o := 0) kX13_items_c1.2.2.2.2.2.2.1 wf_X13_196 (.inl rfl) ?_
  refine kz_iload_n (M := kt_M451) kX13_items_c1.2.2.2.2.2.2.2.1 rfl ?_
  refine kz_iload_n (M := kt_M451) kX13_items_c2.1 rfl ?_
  refine kz_iastR (M := kt_M451) (n := w_n w1 12 0 29) (c := 12) (o := 0) (k := 29) (a := (E.2.1 4101)) kX13_items_c2.2.1 ow_12_0_29 oa_12_0_29 ot_0 rd_n_a h (fun h => ?_)
  exact kz_weak [(0, .ref (w_adr E.2.1 12 0)), (1, .int x1), (3, .int v2)] ⟨rfl, ⟨rfl, ⟨rfl, trivial⟩⟩⟩ rfl h
def zL_X13_protocol_p96 (E : zE) (L : Nat) (Q : kx_Rs → wS → Prop) (x1 : Int32) (x2 : Int32) (x3 : Int32) (w : wS) : Prop := kzE E L kt_M517 96 [(0, .ref (w_adr E.2.1 12 0)), (1, .int x1), (2, .int x2), (3, .int x3)] [] w Q
def zb_X13_protocol_p182 (E : zE) (L : Nat) (Q : kx_Rs → wS → Prop) (x1 : Int32) (x2 : Int32) (x3 : Int32) (w : wS) : Prop := zw E (L - 21) kt_M438 [.ref (w_adr E.2.1 12 0), .int (x2 + 2)] w (wk1 (fun v2 w1 => wle w w1 → (if ¬ v2 = 0 then zL_X13_protocol_p96 E L Q x1 x2 x3 w1 else zw E (L - 21) kt_M375 [.ref (w_adr E.2.1 12 0), .int x2] w1 (wk0 (fun w3 => wle w1 w3 → Q (.inl (some (.int x1))) w3) (fun e w => Q (.inr e) w)))) (fun e w => Q (.inr e) w))
theorem zt_X13_protocol_p182 {E : zE} {L : Nat} {Q : kx_Rs → wS → Prop} {x1 : Int32} {x2 : Int32} {x3 : Int32} {w : wS} (hL : 23 ≤ L) (h : zb_X13_protocol_p182 E L Q x1 x2 x3 w) : kzE E L kt_M517 182 [(0, .ref (w_adr E.2.1 12 0)), (1, .int x1), (2, .int x2), (3, .int x3)] [] w Q := by
  unfold zb_X13_protocol_p182 at h
  refine kz_aload_n (M := kt_M517) kX13_protocol_c13.2.2.1 rfl ?_
  refine kz_iload_n (M := kt_M517) kX13_protocol_c13.2.2.2.1 rfl ?_
  refine kz_ic (M := kt_M517) 2 kX13_protocol_c13.2.2.2.2.1 rfl ?_
  refine kz_iadd (M := kt_M517) kX13_protocol_c13.2.2.2.2.2.1 ?_
  refine kz_cv1 (M := kt_M517) (c := 12) (o := 0) (As := [.int (x2 + 2)]) (rest := []) kX13_protocol_c13.2.2.2.2.2.2.1 wl_X13_578 wMv_438 rfl (.inl rfl) rfl (Nat.le_trans (Nat.le_of_ble_eq_true rfl) hL) (Nat.le_of_ble_eq_true rfl) (Nat.le_of_ble_eq_true rfl) h (fun v2 w1 hle h => ?_) (fun _ _ _ h => kzx_no rfl h)
  have h := h hle
  refine kz_if_ne (M := kt_M517) kX13_protocol_c13.2.2.2.2.2.2.2.1 (t := 96) rfl h (fun h => ?_) (fun h => ?_)
  · skip
    exact kz_weak [(0, .ref (w_adr E.2.1 12 0)), (1, .int x1), (2, .int x2), (3, .int x3)] ⟨rfl, ⟨rfl, ⟨rfl, ⟨rfl, trivial⟩⟩⟩⟩ rfl h
  · skip
    refine kz_aload_n (M := kt_M517) kX13_protocol_c14.1 rfl ?_
    refine kz_iload_n (M := kt_M517) kX13_protocol_c14.2.1 rfl ?_
    refine kz_cv0 (M := kt_M517) (c := 12) (o := 0) (As := [.int x2]) (rest := []) kX13_protocol_c14.2.2.1 wl_X13_707 wMv_375 rfl (.inl rfl) rfl (Nat.le_trans (Nat.le_of_ble_eq_true rfl) hL) (Nat.le_of_ble_eq_true rfl) (Nat.le_of_ble_eq_true rfl) h (fun w3 hle h => ?_) (fun _ _ _ h => kzx_no rfl h)
    have h := h hle
    refine kz_iload_n (M := kt_M517) kX13_protocol_c14.2.2.2.1 rfl ?_
    exact kz_iret (M := kt_M517) kX13_protocol_c14.2.2.2.2.1 rfl rfl h
def zb_X13_protocol_p152 (E : zE) (L : Nat) (Q : kx_Rs → wS → Prop) (x1 : Int32) (x2 : Int32) (x3 : Int32) (x4 : Int32) (w : wS) : Prop := zw E (L - 20) kt_M400 [.ref (w_adr E.2.1 12 0)] w (wk0 (fun w1 => wle w w1 → zw E (L - 22) kt_M368 [.ref (w_adr E.2.1 12 0), .int x3, .int x4] w1 (wk1 (fun v4 w3 => wle w1 w3 → (kx_inb x1 (w_n w3 12 0 29) = true ∧ (if ¬ w_a w3 12 0 29 (x1).toNatClampNeg = (-1) then zb_X13_protocol_p182 E L Q x1 x2 v4 w3 else (kx_inb x1 (w_n w3 12 0 29) = true ∧ zb_X13_protocol_p182 E L Q x1 x2 v4 (ws_a w3 12 0 29 (x1).toNatClampNeg x4))))) (fun e w => Q (.inr e) w))) (fun e w => Q (.inr e) w))
theorem zt_X13_protocol_p152 {E : zE} {L : Nat} {Q : kx_Rs → wS → Prop} {x1 : Int32} {x2 : Int32} {x3 : Int32} {x4 : Int32} {w : wS} (hL : 23 ≤ L) (h : zb_X13_protocol_p152 E L Q x1 x2 x3 x4 w) : kzE E L kt_M517 152 [(0, .ref (w_adr E.2.1 12 0)), (1, .int x1), (2, .int x2), (3, .int x3), (4, .int x4)] [] w Q := by
  unfold zb_X13_protocol_p152 at h
  refine kz_aload_n (M := kt_M517) kX13_protocol_c11.1 rfl ?_
  refine kz_cv0 (M := kt_M517) (c := 12) (o := 0) (As := []) (rest := []) kX13_protocol_c11.2.1 wl_X13_616 wMv_400 rfl (.inl rfl) rfl (Nat.le_trans (Nat.le_of_ble_eq_true rfl) hL) (Nat.le_of_ble_eq_true rfl) (Nat.le_of_ble_eq_true rfl) h (fun w1 hle h => ?_) (fun _ _ _ h => kzx_no rfl h)
  have h := h hle
  refine kz_aload_n (M := kt_M517) kX13_protocol_c11.2.2.1 rfl ?_
  refine kz_iload_n (M := kt_M517) kX13_protocol_c11.2.2.2.1 rfl ?_
  refine kz_iload (M := kt_M517) kX13_protocol_c11.2.2.2.2.1 rfl ?_
  refine kz_cv1 (M := kt_M517) (c := 12) (o := 0) (As := [.int x3, .int x4]) (rest := []) kX13_protocol_c11.2.2.2.2.2.1 wl_X13_598 wMv_368 rfl (.inl rfl) rfl (Nat.le_trans (Nat.le_of_ble_eq_true rfl) hL) (Nat.le_of_ble_eq_true rfl) (Nat.le_of_ble_eq_true rfl) h (fun v4 w3 hle h => ?_) (fun _ _ _ h => kzx_no rfl h)
  have h := h hle
  refine kz_sti_n (M := kt_M517) [(0, .ref (w_adr E.2.1 12 0)), (1, .int x1), (2, .int x2), (4, .int x4)] kX13_protocol_c11.2.2.2.2.2.2.1 (Nat.le_of_ble_eq_true rfl) ⟨⟨rfl, rfl, .inl rfl⟩, ⟨⟨rfl, rfl, .inl rfl⟩, ⟨⟨rfl, rfl, .inr rfl⟩, ⟨⟨rfl, rfl, .inl rfl⟩, trivial⟩⟩⟩⟩ rfl ?_
  refine kz_aload_n (M := kt_M517) kX13_protocol_c11.2.2.2.2.2.2.2.1 rfl ?_
  refine kz_gfc (M := kt_M517) (x := 4101) (c := 12) (o := 0) kX13_protocol_c12.1 wf_X13_196 (.inl rfl) ?_
  refine kz_iload_n (M := kt_M517) kX13_protocol_c12.2.1 rfl ?_
  refine kz_iald (M := kt_M517) (c := 12) (o := 0) (k := 29) (a := (E.2.1 4101)) kX13_protocol_c12.2.2.1 ow_12_0_29 oa_12_0_29 ot_0 h (fun h => ?_)
  refine kz_ic (M := kt_M517) (-1) kX13_protocol_c12.2.2.2.1 rfl ?_
  refine kz_icmp_ne (M := kt_M517) kX13_protocol_c12.2.2.2.2.1 (t := 182) rfl h (fun h => ?_) (fun h => ?_)
  · skip
    exact kz_weak [(0, .ref (w_adr E.2.1 12 0)), (1, .int x1), (2, .int x2), (3, .int v4)] ⟨rfl, ⟨rfl, ⟨rfl, ⟨rfl, trivial⟩⟩⟩⟩ rfl (zt_X13_protocol_p182 hL  h)
  · skip
    refine kz_aload_n (M := kt_M517) kX13_protocol_c12.2.2.2.2.2.1 rfl ?_
    refine kz_gfc (M := kt_M517) (x := 4101) (c := 12) (o := 0) kX13_protocol_c12.2.2.2.2.2.2.1 wf_X13_196 (.inl rfl) ?_
    refine kz_iload_n (M := kt_M517) kX13_protocol_c12.2.2.2.2.2.2.2.1 rfl ?_
    refine kz_iload (M := kt_M517) kX13_protocol_c13.1 rfl ?_
    refine kz_iast (M := kt_M517) (c := 12) (o := 0) (k := 29) (a := (E.2.1 4101)) kX13_protocol_c13.2.1 ow_12_0_29 oa_12_0_29 ot_0 h (fun h => ?_)
    exact kz_weak [(0, .ref (w_adr E.2.1 12 0)), (1, .int x1), (2, .int x2), (3, .int v4)] ⟨rfl, ⟨rfl, ⟨rfl, ⟨rfl, trivial⟩⟩⟩⟩ rfl (zt_X13_protocol_p182 hL  h)
def zb_X13_protocol_p96 (E : zE) (L : Nat) (Q : kx_Rs → wS → Prop) (x1 : Int32) (x2 : Int32) (x3 : Int32) (w : wS) : Prop := zw E (L - 22) kt_M458 [.ref (w_adr E.2.1 12 0), .int (x2 + 2), .int 5] w (wk0 (fun w1 => wle w w1 → (kx_inb (w_i w1 12 0 35) (w_n w1 12 0 9) = true ∧ zw E (L - 22) kt_M494 [.ref (w_adr E.2.1 12 0), .int 41, .int (w_a w1 12 0 9 (w_i w1 12 0 35).toNatClampNeg)] w1 (wk1 (fun v4 w3 => wle w1 w3 → zw E (L - 20) kt_M601 [.ref (w_adr E.2.1 12 0)] w3 (wk1 (fun v6 w5 => wle w3 w5 → (kx_inb v4 (w_n w5 12 0 30) = true ∧ zw E (L - 21) kt_M466 [.ref (w_adr E.2.1 12 0), .int 45] (ws_a w5 12 0 30 (v4).toNatClampNeg v6) (wk1 (fun v8 w7 => wle (ws_a w5 12 0 30 (v4).toNatClampNeg v6) w7 → (if v8 = 0 then zb_X13_protocol_p152 E L Q x1 x2 x3 v4 w7 else zw E (L - 23) kt_M507 [.ref (w_adr E.2.1 12 0)] w7 (wk1 (fun v10 w9 => wle w7 w9 → (kx_inb v4 (w_n w9 12 0 29) = true ∧ zb_X13_protocol_p152 E L Q x1 x2 x3 v4 (ws_a w9 12 0 29 (v4).toNatClampNeg v10))) (fun e w => Q (.inr e) w)))) (fun e w => Q (.inr e) w)))) (fun e w => Q (.inr e) w))) (fun e w => Q (.inr e) w)))) (fun e w => Q (.inr e) w))
theorem zt_X13_protocol_p96 {E : zE} {L : Nat} {Q : kx_Rs → wS → Prop} {x1 : Int32} {x2 : Int32} {x3 : Int32} {w : wS} (hL : 23 ≤ L) (h : zb_X13_protocol_p96 E L Q x1 x2 x3 w) : kzE E L kt_M517 96 [(0, .ref (w_adr E.2.1 12 0)), (1, .int x1), (2, .int x2), (3, .int x3)] [] w Q := by
  unfold zb_X13_protocol_p96 at h
  refine kz_aload_n (M := kt_M517) kX13_protocol_c7.2.1 rfl ?_
  refine kz_iload_n (M := kt_M517) kX13_protocol_c7.2.2.1 rfl ?_
  refine kz_ic (M := kt_M517) 2 kX13_protocol_c7.2.2.2.1 rfl ?_
  refine kz_iadd (M := kt_M517) kX13_protocol_c7.2.2.2.2.1 ?_
  refine kz_ic (M := kt_M517) 5 kX13_protocol_c7.2.2.2.2.2.1 rfl ?_
  refine kz_cv0 (M := kt_M517) (c := 12) (o := 0) (As := [.int (x2 + 2), .int 5]) (rest := []) kX13_protocol_c7.2.2.2.2.2.2.1 wl_X13_588 wMv_458 rfl (.inl rfl) rfl (Nat.le_trans (Nat.le_of_ble_eq_true rfl) hL) (Nat.le_of_ble_eq_true rfl) (Nat.le_of_ble_eq_true rfl) h (fun w1 hle h => ?_) (fun _ _ _ h => kzx_no rfl h)
  have h := h hle
  refine kz_aload_n (M := kt_M517) kX13_protocol_c7.2.2.2.2.2.2.2.1 rfl ?_
  refine kz_bi (M := kt_M517) 41 kX13_protocol_c8.1 rfl ?_
  refine kz_aload_n (M := kt_M517) kX13_protocol_c8.2.1 rfl ?_
  refine kz_gfc (M := kt_M517) (x := 4081) (c := 12) (o := 0) kX13_protocol_c8.2.2.1 wf_X13_163 (.inl rfl) ?_
  refine kz_aload_n (M := kt_M517) kX13_protocol_c8.2.2.2.1 rfl ?_
  refine kz_gfi (M := kt_M517) (c := 12) (o := 0) kX13_protocol_c8.2.2.2.2.1 wf_X13_547 (.inl rfl) ?_
  refine kz_iald (M := kt_M517) (c := 12) (o := 0) (k := 9) (a := (E.2.1 4081)) kX13_protocol_c8.2.2.2.2.2.1 ow_12_0_9 oa_12_0_9 ot_0 h (fun h => ?_)
  refine kz_cv1 (M := kt_M517) (c := 12) (o := 0) (As := [.int 41, .int (w_a w1 12 0 9 (w_i w1 12 0 35).toNatClampNeg)]) (rest := []) kX13_protocol_c8.2.2.2.2.2.2.1 wl_X13_592 wMv_494 rfl (.inl rfl) rfl (Nat.le_trans (Nat.le_of_ble_eq_true rfl) hL) (Nat.le_of_ble_eq_true rfl) (Nat.le_of_ble_eq_true rfl) h (fun v4 w3 hle h => ?_) (fun _ _ _ h => kzx_no rfl h)
  have h := h hle
  refine kz_sti (M := kt_M517) [(0, .ref (w_adr E.2.1 12 0)), (1, .int x1), (2, .int x2), (3, .int x3)] kX13_protocol_c8.2.2.2.2.2.2.2.1 (Nat.le_of_ble_eq_true rfl) ⟨⟨rfl, rfl, .inl rfl⟩, ⟨⟨rfl, rfl, .inl rfl⟩, ⟨⟨rfl, rfl, .inl rfl⟩, ⟨⟨rfl, rfl, .inr rfl⟩, trivial⟩⟩⟩⟩ rfl ?_
  refine kz_aload_n (M := kt_M517) kX13_protocol_c9.1 rfl ?_
  refine kz_gfc (M := kt_M517) (x := 4102) (c := 12) (o := 0) kX13_protocol_c9.2.1 wf_X13_199 (.inl rfl) ?_
  refine kz_iload (M := kt_M517) kX13_protocol_c9.2.2.1 rfl ?_
  refine kz_aload_n (M := kt_M517) kX13_protocol_c9.2.2.2.1 rfl ?_
  refine kz_cv1 (M := kt_M517) (c := 12) (o := 0) (As := []) (rest := [.int v4, .ref (E.2.1 4102)]) kX13_protocol_c9.2.2.2.2.1 wl_X13_639 wMv_601 rfl (.inl rfl) rfl (Nat.le_trans (Nat.le_of_ble_eq_true rfl) hL) (Nat.le_of_ble_eq_true rfl) (Nat.le_of_ble_eq_true rfl) h (fun v6 w5 hle h => ?_) (fun _ _ _ h => kzx_no rfl h)
  have h := h hle
  refine kz_iast (M := kt_M517) (c := 12) (o := 0) (k := 30) (a := (E.2.1 4102)) kX13_protocol_c9.2.2.2.2.2.1 ow_12_0_30 oa_12_0_30 ot_0 h (fun h => ?_)
  refine kz_aload_n (M := kt_M517) kX13_protocol_c9.2.2.2.2.2.2.1 rfl ?_
  refine kz_bi (M := kt_M517) 45 kX13_protocol_c9.2.2.2.2.2.2.2.1 rfl ?_
  refine kz_cv1 (M := kt_M517) (c := 12) (o := 0) (As := [.int 45]) (rest := []) kX13_protocol_c10.1 wl_X13_642 wMv_466 rfl (.inl rfl) rfl (Nat.le_trans (Nat.le_of_ble_eq_true rfl) hL) (Nat.le_of_ble_eq_true rfl) (Nat.le_of_ble_eq_true rfl) h (fun v8 w7 hle h => ?_) (fun _ _ _ h => kzx_no rfl h)
  have h := h hle
  refine kz_if_eq (M := kt_M517) kX13_protocol_c10.2.1 (t := 152) rfl h (fun h => ?_) (fun h => ?_)
  · skip
    exact kz_weak [(0, .ref (w_adr E.2.1 12 0)), (1, .int x1), (2, .int x2), (3, .int x3), (4, .int v4)] ⟨rfl, ⟨rfl, ⟨rfl, ⟨rfl, ⟨rfl, trivial⟩⟩⟩⟩⟩ rfl (zt_X13_protocol_p152 hL  h)
  · skip
    refine kz_aload_n (M := kt_M517) kX13_protocol_c10.2.2.1 rfl ?_
    refine kz_gfc (M := kt_M517) (x := 4101) (c := 12) (o := 0) kX13_protocol_c10.2.2.2.1 wf_X13_196 (.inl rfl) ?_
    refine kz_iload (M := kt_M517) kX13_protocol_c10.2.2.2.2.1 rfl ?_
    refine kz_aload_n (M := kt_M517) kX13_protocol_c10.2.2.2.2.2.1 rfl ?_
    refine kz_cv1 (M := kt_M517) (c := 12) (o := 0) (As := []) (rest := [.int v4, .ref (E.2.1 4101)]) kX13_protocol_c10.2.2.2.2.2.2.1 wl_X13_704 wMv_507 rfl (.inl rfl) rfl (Nat.le_trans (Nat.le_of_ble_eq_true rfl) hL) (Nat.le_of_ble_eq_true rfl) (Nat.le_of_ble_eq_true rfl) h (fun v10 w9 hle h => ?_) (fun _ _ _ h => kzx_no rfl h)
    have h := h hle
    refine kz_iast (M := kt_M517) (c := 12) (o := 0) (k := 29) (a := (E.2.1 4101)) kX13_protocol_c10.2.2.2.2.2.2.2.1 ow_12_0_29 oa_12_0_29 ot_0 h (fun h => ?_)
    exact kz_weak [(0, .ref (w_adr E.2.1 12 0)), (1, .int x1), (2, .int x2), (3, .int x3), (4, .int v4)] ⟨rfl, ⟨rfl, ⟨rfl, ⟨rfl, ⟨rfl, trivial⟩⟩⟩⟩⟩ rfl (zt_X13_protocol_p152 hL  h)
def zb_X13_protocol_p0 (E : zE) (L : Nat) (Q : kx_Rs → wS → Prop) (x1 : Int32) (x2 : Int32) (w : wS) : Prop := zw E (L - 20) kt_M601 [.ref (w_adr E.2.1 12 0)] (ws_i w 12 0 35 ((w_i w 12 0 35) + 1)) (wk1 (fun v2 w1 => wle (ws_i w 12 0 35 ((w_i w 12 0 35) + 1)) w1 → (kx_inb x1 (w_n w1 12 0 30) = true ∧ zw E (L - 21) kt_M466 [.ref (w_adr E.2.1 12 0), .int 13] (ws_a w1 12 0 30 (x1).toNatClampNeg v2) (wk1 (fun v4 w3 => wle (ws_a w1 12 0 30 (x1).toNatClampNeg v2) w3 → (if v4 = 0 then (kx_inb x1 (w_n w3 12 0 26) = true ∧ zw E (L - 20) kt_M400 [.ref (w_adr E.2.1 12 0)] (ws_a w3 12 0 26 (x1).toNatClampNeg 36) (wk0 (fun w5 => wle (ws_a w3 12 0 26 (x1).toNatClampNeg 36) w5 → zw E (L - 22) kt_M458 [.ref (w_adr E.2.1 12 0), .int (x2 + 1), .int 7] w5 (wk0 (fun w7 => wle w5 w7 → zw E (L - 20) kt_M400 [.ref (w_adr E.2.1 12 0)] (ws_i w7 12 0 35 ((w_i w7 12 0 35) + 1)) (wk0 (fun w9 => wle (ws_i w7 12 0 35 ((w_i w7 12 0 35) + 1)) w9 → zL_X13_protocol_p96 E L Q x1 x2 (-1) w9) (fun e w => Q (.inr e) w))) (fun e w => Q (.inr e) w))) (fun e w => Q (.inr e) w))) else (kx_inb x1 (w_n w3 12 0 26) = true ∧ zw E (L - 23) kt_M507 [.ref (w_adr E.2.1 12 0)] (ws_a w3 12 0 26 (x1).toNatClampNeg 35) (wk1 (fun v12 w11 => wle (ws_a w3 12 0 26 (x1).toNatClampNeg 35) w11 → (kx_inb x1 (w_n w11 12 0 29) = true ∧ zw E (L - 21) kt_M600 [.ref (w_adr E.2.1 12 0), .int 46] (ws_a w11 12 0 29 (x1).toNatClampNeg v12) (wk0 (fun w13 => wle (ws_a w11 12 0 29 (x1).toNatClampNeg v12) w13 → zw E (L - 20) kt_M400 [.ref (w_adr E.2.1 12 0)] w13 (wk0 (fun w15 => wle w13 w15 → Q (.inl (some (.int x1))) w15) (fun e w => Q (.inr e) w))) (fun e w => Q (.inr e) w)))) (fun e w => Q (.inr e) w))))) (fun e w => Q (.inr e) w)))) (fun e w => Q (.inr e) w))
theorem zt_X13_protocol_p0 {E : zE} {L : Nat} {Q : kx_Rs → wS → Prop} {x1 : Int32} {x2 : Int32} {w : wS} (hL : 23 ≤ L) (h : zb_X13_protocol_p0 E L Q x1 x2 w) : kzE E L kt_M517 0 [(0, .ref (w_adr E.2.1 12 0)), (1, .int x1), (2, .int x2)] [] w Q := by
  unfold zb_X13_protocol_p0 at h
  refine kz_aload_n (M := kt_M517) kX13_protocol_c0.1 rfl ?_
  refine kz_dup (M := kt_M517) kX13_protocol_c0.2.1 rfl ?_
  refine kz_gfi (M := kt_M517) (c := 12) (o := 0) kX13_protocol_c0.2.2.1 wf_X13_547 (.inl rfl) ?_
  refine kz_ic (M := kt_M517) 1 kX13_protocol_c0.2.2.2.1 rfl ?_
  refine kz_iadd (M := kt_M517) kX13_protocol_c0.2.2.2.2.1 ?_
  refine kz_pfi (M := kt_M517) (c := 12) (o := 0) kX13_protocol_c0.2.2.2.2.2.1 wq_X13_547 (.inl rfl) ?_
  refine kz_aload_n (M := kt_M517) kX13_protocol_c0.2.2.2.2.2.2.1 rfl ?_
  refine kz_gfc (M := kt_M517) (x := 4102) (c := 12) (o := 0) kX13_protocol_c0.2.2.2.2.2.2.2.1 wf_X13_199 (.inl rfl) ?_
  refine kz_iload_n (M := kt_M517) kX13_protocol_c1.1 rfl ?_
  refine kz_aload_n (M := kt_M517) kX13_protocol_c1.2.1 rfl ?_
  refine kz_cv1 (M := kt_M517) (c := 12) (o := 0) (As := []) (rest := [.int x1, .ref (E.2.1 4102)]) kX13_protocol_c1.2.2.1 wl_X13_639 wMv_601 rfl (.inl rfl) rfl (Nat.le_trans (Nat.le_of_ble_eq_true rfl) hL) (Nat.le_of_ble_eq_true rfl) (Nat.le_of_ble_eq_true rfl) h (fun v2 w1 hle h => ?_) (fun _ _ _ h => kzx_no rfl h)
  have h := h hle
  refine kz_iast (M := kt_M517) (c := 12) (o := 0) (k := 30) (a := (E.2.1 4102)) kX13_protocol_c1.2.2.2.1 ow_12_0_30 oa_12_0_30 ot_0 h (fun h => ?_)
  refine kz_aload_n (M := kt_M517) kX13_protocol_c1.2.2.2.2.1 rfl ?_
  refine kz_bi (M := kt_M517) 13 kX13_protocol_c1.2.2.2.2.2.1 rfl ?_
  refine kz_cv1 (M := kt_M517) (c := 12) (o := 0) (As := [.int 13]) (rest := []) kX13_protocol_c1.2.2.2.2.2.2.1 wl_X13_642 wMv_466 rfl (.inl rfl) rfl (Nat.le_trans (Nat.le_of_ble_eq_true rfl) hL) (Nat.le_of_ble_eq_true rfl) (Nat.le_of_ble_eq_true rfl) h (fun v4 w3 hle h => ?_) (fun _ _ _ h => kzx_no rfl h)
  have h := h hle
  refine kz_if_eq (M := kt_M517) kX13_protocol_c1.2.2.2.2.2.2.2.1 (t := 59) rfl h (fun h => ?_) (fun h => ?_)
  · skip
    refine kz_aload_n (M := kt_M517) kX13_protocol_c4.2.2.1 rfl ?_
    refine kz_gfc (M := kt_M517) (x := 4098) (c := 12) (o := 0) kX13_protocol_c4.2.2.2.1 wf_X13_187 (.inl rfl) ?_
    refine kz_iload_n (M := kt_M517) kX13_protocol_c4.2.2.2.2.1 rfl ?_
    refine kz_bi (M := kt_M517) 36 kX13_protocol_c4.2.2.2.2.2.1 rfl ?_
    refine kz_iast (M := kt_M517) (c := 12) (o := 0) (k := 26) (a := (E.2.1 4098)) kX13_protocol_c4.2.2.2.2.2.2.1 ow_12_0_26 oa_12_0_26 ot_0 h (fun h => ?_)
    refine kz_aload_n (M := kt_M517) kX13_protocol_c4.2.2.2.2.2.2.2.1 rfl ?_
    refine kz_cv0 (M := kt_M517) (c := 12) (o := 0) (As := []) (rest := []) kX13_protocol_c5.1 wl_X13_616 wMv_400 rfl (.inl rfl) rfl (Nat.le_trans (Nat.le_of_ble_eq_true rfl) hL) (Nat.le_of_ble_eq_true rfl) (Nat.le_of_ble_eq_true rfl) h (fun w5 hle h => ?_) (fun _ _ _ h => kzx_no rfl h)
    have h := h hle
    refine kz_aload_n (M := kt_M517) kX13_protocol_c5.2.1 rfl ?_
    refine kz_iload_n (M := kt_M517) kX13_protocol_c5.2.2.1 rfl ?_
    refine kz_ic (M := kt_M517) 1 kX13_protocol_c5.2.2.2.1 rfl ?_
    refine kz_iadd (M := kt_M517) kX13_protocol_c5.2.2.2.2.1 ?_
    refine kz_bi (M := kt_M517) 7 kX13_protocol_c5.2.2.2.2.2.1 rfl ?_
    refine kz_cv0 (M := kt_M517) (c := 12) (o := 0) (As := [.int (x2 + 1), .int 7]) (rest := []) kX13_protocol_c5.2.2.2.2.2.2.1 wl_X13_588 wMv_458 rfl (.inl rfl) rfl (Nat.le_trans (Nat.le_of_ble_eq_true rfl) hL) (Nat.le_of_ble_eq_true rfl) (Nat.le_of_ble_eq_true rfl) h (fun w7 hle h => ?_) (fun _ _ _ h => kzx_no rfl h)
    have h := h hle
    refine kz_aload_n (M := kt_M517) kX13_protocol_c5.2.2.2.2.2.2.2.1 rfl ?_
    refine kz_dup (M := kt_M517) kX13_protocol_c6.1 rfl ?_
    refine kz_gfi (M := kt_M517) (c := 12) (o := 0) kX13_protocol_c6.2.1 wf_X13_547 (.inl rfl) ?_
    refine kz_ic (M := kt_M517) 1 kX13_protocol_c6.2.2.1 rfl ?_
    refine kz_iadd (M := kt_M517) kX13_protocol_c6.2.2.2.1 ?_
    refine kz_pfi (M := kt_M517) (c := 12) (o := 0) kX13_protocol_c6.2.2.2.2.1 wq_X13_547 (.inl rfl) ?_
    refine kz_aload_n (M := kt_M517) kX13_protocol_c6.2.2.2.2.2.1 rfl ?_
    refine kz_cv0 (M := kt_M517) (c := 12) (o := 0) (As := []) (rest := []) kX13_protocol_c6.2.2.2.2.2.2.1 wl_X13_616 wMv_400 rfl (.inl rfl) rfl (Nat.le_trans (Nat.le_of_ble_eq_true rfl) hL) (Nat.le_of_ble_eq_true rfl) (Nat.le_of_ble_eq_true rfl) h (fun w9 hle h => ?_) (fun _ _ _ h => kzx_no rfl h)
    have h := h hle
    refine kz_ic (M := kt_M517) (-1) kX13_protocol_c6.2.2.2.2.2.2.2.1 rfl ?_
    refine kz_sti_n (M := kt_M517) [(0, .ref (w_adr E.2.1 12 0)), (1, .int x1), (2, .int x2)] kX13_protocol_c7.1 (Nat.le_of_ble_eq_true rfl) ⟨⟨rfl, rfl, .inl rfl⟩, ⟨⟨rfl, rfl, .inl rfl⟩, ⟨⟨rfl, rfl, .inr rfl⟩, trivial⟩⟩⟩ rfl ?_
    exact kz_weak [(0, .ref (w_adr E.2.1 12 0)), (1, .int x1), (2, .int x2), (3, .int (-1))] ⟨rfl, ⟨rfl, ⟨rfl, ⟨rfl, trivial⟩⟩⟩⟩ rfl h
  · skip
    refine kz_aload_n (M := kt_M517) kX13_protocol_c2.1 rfl ?_
    refine kz_gfc (M := kt_M517) (x := 4098) (c := 12) (o := 0) kX13_protocol_c2.2.1 wf_X13_187 (.inl rfl) ?_
    refine kz_iload_n (M := kt_M517) kX13_protocol_c2.2.2.1 rfl ?_
    refine kz_bi (M := kt_M517) 35 kX13_protocol_c2.2.2.2.1 rfl ?_
    refine kz_iast (M := kt_M517) (c := 12) (o := 0) (k := 26) (a := (E.2.1 4098)) kX13_protocol_c2.2.2.2.2.1 ow_12_0_26 oa_12_0_26 ot_0 h (fun h => ?_)
    refine kz_aload_n (M := kt_M517) kX13_protocol_c2.2.2.2.2.2.1 rfl ?_
    refine kz_gfc (M := kt_M517) (x := 4101) (c := 12) (o := 0) kX13_protocol_c2.2.2.2.2.2.2.1 wf_X13_196 (.inl rfl) ?_
    refine kz_iload_n (M := kt_M517) kX13_protocol_c2.2.2.2.2.2.2.2.1 rfl ?_
    refine kz_aload_n (M := kt_M517) kX13_protocol_c3.1 rfl ?_
    refine kz_cv1 (M := kt_M517) (c := 12) (o := 0) (As := []) (rest := [.int x1, .ref (E.2.1 4101)]) kX13_protocol_c3.2.1 wl_X13_704 wMv_507 rfl (.inl rfl) rfl (Nat.le_trans (Nat.le_of_ble_eq_true rfl) hL) (Nat.le_of_ble_eq_true rfl) (Nat.le_of_ble_eq_true rfl) h (fun v12 w11 hle h => ?_) (fun _ _ _ h => kzx_no rfl h)
    have h := h hle
    refine kz_iast (M := kt_M517) (c := 12) (o := 0) (k := 29) (a := (E.2.1 4101)) kX13_protocol_c3.2.2.1 ow_12_0_29 oa_12_0_29 ot_0 h (fun h => ?_)
    refine kz_aload_n (M := kt_M517) kX13_protocol_c3.2.2.2.1 rfl ?_
    refine kz_bi (M := kt_M517) 46 kX13_protocol_c3.2.2.2.2.1 rfl ?_
    refine kz_cv0 (M := kt_M517) (c := 12) (o := 0) (As := [.int 46]) (rest := []) kX13_protocol_c3.2.2.2.2.2.1 wl_X13_585 wMv_600 rfl (.inl rfl) rfl (Nat.le_trans (Nat.le_of_ble_eq_true rfl) hL) (Nat.le_of_ble_eq_true rfl) (Nat.le_of_ble_eq_true rfl) h (fun w13 hle h => ?_) (fun _ _ _ h => kzx_no rfl h)
    have h := h hle
    refine kz_aload_n (M := kt_M517) kX13_protocol_c3.2.2.2.2.2.2.1 rfl ?_
    refine kz_cv0 (M := kt_M517) (c := 12) (o := 0) (As := []) (rest := []) kX13_protocol_c3.2.2.2.2.2.2.2.1 wl_X13_616 wMv_400 rfl (.inl rfl) rfl (Nat.le_trans (Nat.le_of_ble_eq_true rfl) hL) (Nat.le_of_ble_eq_true rfl) (Nat.le_of_ble_eq_true rfl) h (fun w15 hle h => ?_) (fun _ _ _ h => kzx_no rfl h)
    have h := h hle
    refine kz_iload_n (M := kt_M517) kX13_protocol_c4.1 rfl ?_
    exact kz_iret (M := kt_M517) kX13_protocol_c4.2.1 rfl rfl h
def zL_X13_partsOf_p9 (E : zE) (L : Nat) (Q : kx_Rs → wS → Prop) (x1 : Int32) (x2 : Int32) (x3 : Int32) (w : wS) : Prop := kzE E L kt_M507 9 [(0, .ref (w_adr E.2.1 12 0)), (1, .int x1), (2, .int x2), (3, .int x3)] [] w Q
def zb_X13_partsOf_p9 (E : zE) (L : Nat) (Q : kx_Rs → wS → Prop) (x1 : Int32) (x2 : Int32) (x3 : Int32) (w : wS) : Prop := zw E (L - 21) kt_M466 [.ref (w_adr E.2.1 12 0), .int 45] w (wk1 (fun v2 w1 => wle w w1 → (if v2 = 0 then Q (.inl (some (.int x1))) w1 else (if ¬ x3 = 16 then zw E (L - 21) kt_M503 [.ref (w_adr E.2.1 12 0)] w1 (wk1 (fun v4 w3 => wle w1 w3 → zw E (L - 22) kt_M368 [.ref (w_adr E.2.1 12 0), .int x2, .int v4] w3 (wk1 (fun v6 w5 => wle w3 w5 → zL_X13_partsOf_p9 E L Q x1 v6 (x3 + 1) w5) (fun e w => Q (.inr e) w))) (fun e w => Q (.inr e) w)) else zw E (L - 22) kt_M545 [.ref (w_adr E.2.1 12 0), .int 2] w1 (wkr (fun v8 w7 => wle w1 w7 → (v8 = some (w_adr E.2.1 13 0) ∧ Q (.inr "MeetingHouseModel$Halt") w7)) (fun e w => Q (.inr e) w))))) (fun e w => Q (.inr e) w))
theorem zt_X13_partsOf_p9 {E : zE} {L : Nat} {Q : kx_Rs → wS → Prop} {x1 : Int32} {x2 : Int32} {x3 : Int32} {w : wS} (hL : 22 ≤ L) (h : zb_X13_partsOf_p9 E L Q x1 x2 x3 w) : kzE E L kt_M507 9 [(0, .ref (w_adr E.2.1 12 0)), (1, .int x1), (2, .int x2), (3, .int x3)] [] w Q := by
  unfold zb_X13_partsOf_p9 at h
  refine kz_aload_n (M := kt_M507) kX13_partsOf_c0.2.2.2.2.2.2.2.1 rfl ?_
  refine kz_bi (M := kt_M507) 45 kX13_partsOf_c1.1 rfl ?_
  refine kz_cv1 (M := kt_M507) (c := 12) (o := 0) (As := [.int 45]) (rest := []) kX13_partsOf_c1.2.1 wl_X13_642 wMv_466 rfl (.inl rfl) rfl (Nat.le_trans (Nat.le_of_ble_eq_true rfl) hL) (Nat.le_of_ble_eq_true rfl) (Nat.le_of_ble_eq_true rfl) h (fun v2 w1 hle h => ?_) (fun _ _ _ h => kzx_no rfl h)
  have h := h hle
  refine kz_if_eq (M := kt_M507) kX13_partsOf_c1.2.2.1 (t := 46) rfl h (fun h => ?_) (fun h => ?_)
  · skip
    refine kz_iload_n (M := kt_M507) kX13_partsOf_c3.2.2.1 rfl ?_
    exact kz_iret (M := kt_M507) kX13_partsOf_c3.2.2.2.1 rfl rfl h
  · skip
    refine kz_iload_n (M := kt_M507) kX13_partsOf_c1.2.2.2.1 rfl ?_
    refine kz_bi (M := kt_M507) 16 kX13_partsOf_c1.2.2.2.2.1 rfl ?_
    refine kz_icmp_ne (M := kt_M507) kX13_partsOf_c1.2.2.2.2.2.1 (t := 30) rfl h (fun h => ?_) (fun h => ?_)
    · skip
      refine kz_aload_n (M := kt_M507) kX13_partsOf_c2.2.2.1 rfl ?_
      refine kz_iload_n (M := kt_M507) kX13_partsOf_c2.2.2.2.1 rfl ?_
      refine kz_aload_n (M := kt_M507) kX13_partsOf_c2.2.2.2.2.1 rfl ?_
      refine kz_cv1 (M := kt_M507) (c := 12) (o := 0) (As := []) (rest := [.int x2, .ref (w_adr E.2.1 12 0)]) kX13_partsOf_c2.2.2.2.2.2.1 wl_X13_701 wMv_503 rfl (.inl rfl) rfl (Nat.le_trans (Nat.le_of_ble_eq_true rfl) hL) (Nat.le_of_ble_eq_true rfl) (Nat.le_of_ble_eq_true rfl) h (fun v4 w3 hle h => ?_) (fun _ _ _ h => kzx_no rfl h)
      have h := h hle
      refine kz_cv1 (M := kt_M507) (c := 12) (o := 0) (As := [.int x2, .int v4]) (rest := []) kX13_partsOf_c2.2.2.2.2.2.2.1 wl_X13_598 wMv_368 rfl (.inl rfl) rfl (Nat.le_trans (Nat.le_of_ble_eq_true rfl) hL) (Nat.le_of_ble_eq_true rfl) (Nat.le_of_ble_eq_true rfl) h (fun v6 w5 hle h => ?_) (fun _ _ _ h => kzx_no rfl h)
      have h := h hle
      refine kz_sti_n (M := kt_M507) [(0, .ref (w_adr E.2.1 12 0)), (1, .int x1), (3, .int x3)] kX13_partsOf_c2.2.2.2.2.2.2.2.1 (Nat.le_of_ble_eq_true rfl) ⟨⟨rfl, rfl, .inl rfl⟩, ⟨⟨rfl, rfl, .inr rfl⟩, ⟨⟨rfl, rfl, .inl rfl⟩, trivial⟩⟩⟩ rfl ?_
      refine kz_inc (M := kt_M507) [(0, .ref (w_adr E.2.1 12 0)), (1, .int x1), (2, .int v6)] kX13_partsOf_c3.1 rfl (Nat.le_of_ble_eq_true rfl) ⟨⟨rfl, rfl, .inl rfl⟩, ⟨⟨rfl, rfl, .inl rfl⟩, ⟨⟨rfl, rfl, .inr rfl⟩, trivial⟩⟩⟩ rfl ?_
      refine kz_goto (M := kt_M507) kX13_partsOf_c3.2.1 (t := 9) rfl ?_
      exact kz_weak [(0, .ref (w_adr E.2.1 12 0)), (1, .int x1), (2, .int v6), (3, .int (x3 + 1))] ⟨rfl, ⟨rfl, ⟨rfl, ⟨rfl, trivial⟩⟩⟩⟩ rfl h
    · skip
      refine kz_aload_n (M := kt_M507) kX13_partsOf_c1.2.2.2.2.2.2.1 rfl ?_
      refine kz_ic (M := kt_M507) 2 kX13_partsOf_c1.2.2.2.2.2.2.2.1 rfl ?_
      refine kz_cvr (M := kt_M507) (c := 12) (o := 0) (As := [.int 2]) (rest := []) kX13_partsOf_c2.1 wl_X13_556 wMv_545 rfl (.inl rfl) rfl (Nat.le_trans (Nat.le_of_ble_eq_true rfl) hL) (Nat.le_of_ble_eq_true rfl) (Nat.le_of_ble_eq_true rfl) h (fun v8 w7 hle h => ?_) (fun _ _ _ h => kzx_no rfl h)
      have h := h hle
      exact kz_throw (M := kt_M507) (c := 13) (o := 0) kX13_partsOf_c2.2.1 rfl (.inl rfl) h (fun h => kzx_no rfl h)
def zb_X13_partsOf_p0 (E : zE) (L : Nat) (Q : kx_Rs → wS → Prop) (w : wS) : Prop := zw E (L - 21) kt_M503 [.ref (w_adr E.2.1 12 0)] w (wk1 (fun v2 w1 => wle w w1 → zL_X13_partsOf_p9 E L Q v2 v2 1 w1) (fun e w => Q (.inr e) w))
theorem zt_X13_partsOf_p0 {E : zE} {L : Nat} {Q : kx_Rs → wS → Prop} {w : wS} (hL : 22 ≤ L) (h : zb_X13_partsOf_p0 E L Q  w) : kzE E L kt_M507 0 [(0, .ref (w_adr E.2.1 12 0))] [] w Q := by
  unfold zb_X13_partsOf_p0 at h
  refine kz_aload_n (M := kt_M507) kX13_partsOf_c0.1 rfl ?_
  refine kz_cv1 (M := kt_M507) (c := 12) (o := 0) (As := []) (rest := []) kX13_partsOf_c0.2.1 wl_X13_701 wMv_503 rfl (.inl rfl) rfl (Nat.le_trans (Nat.le_of_ble_eq_true rfl) hL) (Nat.le_of_ble_eq_true rfl) (Nat.le_of_ble_eq_true rfl) h (fun v2 w1 hle h => ?_) (fun _ _ _ h => kzx_no rfl h)
  have h := h hle
  refine kz_sti_n (M := kt_M507) [(0, .ref (w_adr E.2.1 12 0))] kX13_partsOf_c0.2.2.1 (Nat.le_of_ble_eq_true rfl) ⟨⟨rfl, rfl, .inr rfl⟩, trivial⟩ rfl ?_
  refine kz_iload_n (M := kt_M507) kX13_partsOf_c0.2.2.2.1 rfl ?_
  refine kz_sti_n (M := kt_M507) [(0, .ref (w_adr E.2.1 12 0)), (1, .int v2)] kX13_partsOf_c0.2.2.2.2.1 (Nat.le_of_ble_eq_true rfl) ⟨⟨rfl, rfl, .inl rfl⟩, ⟨⟨rfl, rfl, .inr rfl⟩, trivial⟩⟩ rfl ?_
  refine kz_ic (M := kt_M507) 1 kX13_partsOf_c0.2.2.2.2.2.1 rfl ?_
  refine kz_sti_n (M := kt_M507) [(0, .ref (w_adr E.2.1 12 0)), (1, .int v2), (2, .int v2)] kX13_partsOf_c0.2.2.2.2.2.2.1 (Nat.le_of_ble_eq_true rfl) ⟨⟨rfl, rfl, .inl rfl⟩, ⟨⟨rfl, rfl, .inl rfl⟩, ⟨⟨rfl, rfl, .inr rfl⟩, trivial⟩⟩⟩ rfl ?_
  exact kz_weak [(0, .ref (w_adr E.2.1 12 0)), (1, .int v2), (2, .int v2), (3, .int 1)] ⟨rfl, ⟨rfl, ⟨rfl, ⟨rfl, trivial⟩⟩⟩⟩ rfl h
def zb_X13_part_p62 (E : zE) (L : Nat) (Q : kx_Rs → wS → Prop) (x1 : Int32) (w : wS) : Prop := zw E (L - 22) kt_M554 [.ref (w_adr E.2.1 12 0), .int x1] w (wk0 (fun w1 => wle w w1 → Q (.inl (some (.int x1))) w1) (fun e w => Q (.inr e) w))
theorem zt_X13_part_p62 {E : zE} {L : Nat} {Q : kx_Rs → wS → Prop} {x1 : Int32} {w : wS} (hL : 22 ≤ L) (h : zb_X13_part_p62 E L Q x1 w) : kzE E L kt_M503 62 [(0, .ref (w_adr E.2.1 12 0)), (1, .int x1)] [] w Q := by
  unfold zb_X13_part_p62 at h
  refine kz_aload_n (M := kt_M503) kX13_part_c4.2.2.2.1 rfl ?_
  refine kz_iload_n (M := kt_M503) kX13_part_c4.2.2.2.2.1 rfl ?_
  refine kz_cv0 (M := kt_M503) (c := 12) (o := 0) (As := [.int x1]) (rest := []) kX13_part_c4.2.2.2.2.2.1 wl_X13_677 wMv_554 rfl (.inl rfl) rfl (Nat.le_trans (Nat.le_of_ble_eq_true rfl) hL) (Nat.le_of_ble_eq_true rfl) (Nat.le_of_ble_eq_true rfl) h (fun w1 hle h => ?_) (fun _ _ _ h => kzx_no rfl h)
  have h := h hle
  refine kz_iload_n (M := kt_M503) kX13_part_c4.2.2.2.2.2.2.1 rfl ?_
  exact kz_iret (M := kt_M503) kX13_part_c4.2.2.2.2.2.2.2.1 rfl rfl h
def zb_X13_part_p0 (E : zE) (L : Nat) (Q : kx_Rs → wS → Prop) (w : wS) : Prop := (kx_inb (w_i w 12 0 35) (w_n w 12 0 9) = true ∧ zw E (L - 22) kt_M494 [.ref (w_adr E.2.1 12 0), .int 40, .int (w_a w 12 0 9 (w_i w 12 0 35).toNatClampNeg)] w (wk1 (fun v2 w1 => wle w w1 → zw E (L - 20) kt_M462 [.ref (w_adr E.2.1 12 0)] w1 (wk1 (fun v4 w3 => wle w1 w3 → (if ¬ v4 = 42 then zb_X13_part_p62 E L Q v2 w3 else zw E (L - 20) kt_M497 [.ref (w_adr E.2.1 12 0)] w3 (wk0 (fun w5 => wle w3 w5 → (kx_inb v2 (w_n w5 12 0 34) = true ∧ zw E (L - 22) kt_M393 [.ref (w_adr E.2.1 12 0)] (ws_a w5 12 0 34 (v2).toNatClampNeg 1) (wk1 (fun v8 w7 => wle (ws_a w5 12 0 34 (v2).toNatClampNeg 1) w7 → (kx_inb v2 (w_n w7 12 0 28) = true ∧ zw E (L - 21) kt_M600 [.ref (w_adr E.2.1 12 0), .int 43] (ws_a w7 12 0 28 (v2).toNatClampNeg v8) (wk0 (fun w9 => wle (ws_a w7 12 0 28 (v2).toNatClampNeg v8) w9 → zb_X13_part_p62 E L Q v2 (ws_i w9 12 0 38 ((w_i w9 12 0 38) - 1))) (fun e w => Q (.inr e) w)))) (fun e w => Q (.inr e) w)))) (fun e w => Q (.inr e) w)))) (fun e w => Q (.inr e) w))) (fun e w => Q (.inr e) w)))
theorem zt_X13_part_p0 {E : zE} {L : Nat} {Q : kx_Rs → wS → Prop} {w : wS} (hL : 22 ≤ L) (h : zb_X13_part_p0 E L Q  w) : kzE E L kt_M503 0 [(0, .ref (w_adr E.2.1 12 0))] [] w Q := by
  unfold zb_X13_part_p0 at h
  refine kz_aload_n (M := kt_M503) kX13_part_c0.1 rfl ?_
  refine kz_bi (M := kt_M503) 40 kX13_part_c0.2.1 rfl ?_
  refine kz_aload_n (M := kt_M503) kX13_part_c0.2.2.1 rfl ?_
  refine kz_gfc (M := kt_M503) (x := 4081) (c := 12) (o := 0) kX13_part_c0.2.2.2.1 wf_X13_163 (.inl rfl) ?_
  refine kz_aload_n (M := kt_M503) kX13_part_c0.2.2.2.2.1 rfl ?_
  refine kz_gfi (M := kt_M503) (c := 12) (o := 0) kX13_part_c0.2.2.2.2.2.1 wf_X13_547 (.inl rfl) ?_
  refine kz_iald (M := kt_M503) (c := 12) (o := 0) (k := 9) (a := (E.2.1 4081)) kX13_part_c0.2.2.2.2.2.2.1 ow_12_0_9 oa_12_0_9 ot_0 h (fun h => ?_)
  refine kz_cv1 (M := kt_M503) (c := 12) (o := 0) (As := [.int 40, .int (w_a w 12 0 9 (w_i w 12 0 35).toNatClampNeg)]) (rest := []) kX13_part_c0.2.2.2.2.2.2.2.1 wl_X13_592 wMv_494 rfl (.inl rfl) rfl (Nat.le_trans (Nat.le_of_ble_eq_true rfl) hL) (Nat.le_of_ble_eq_true rfl) (Nat.le_of_ble_eq_true rfl) h (fun v2 w1 hle h => ?_) (fun _ _ _ h => kzx_no rfl h)
  have h := h hle
  refine kz_sti_n (M := kt_M503) [(0, .ref (w_adr E.2.1 12 0))] kX13_part_c1.1 (Nat.le_of_ble_eq_true rfl) ⟨⟨rfl, rfl, .inr rfl⟩, trivial⟩ rfl ?_
  refine kz_aload_n (M := kt_M503) kX13_part_c1.2.1 rfl ?_
  refine kz_cv1 (M := kt_M503) (c := 12) (o := 0) (As := []) (rest := []) kX13_part_c1.2.2.1 wl_X13_560 wMv_462 rfl (.inl rfl) rfl (Nat.le_trans (Nat.le_of_ble_eq_true rfl) hL) (Nat.le_of_ble_eq_true rfl) (Nat.le_of_ble_eq_true rfl) h (fun v4 w3 hle h => ?_) (fun _ _ _ h => kzx_no rfl h)
  have h := h hle
  refine kz_bi (M := kt_M503) 42 kX13_part_c1.2.2.2.1 rfl ?_
  refine kz_icmp_ne (M := kt_M503) kX13_part_c1.2.2.2.2.1 (t := 62) rfl h (fun h => ?_) (fun h => ?_)
  · skip
    exact kz_weak [(0, .ref (w_adr E.2.1 12 0)), (1, .int v2)] ⟨rfl, ⟨rfl, trivial⟩⟩ rfl (zt_X13_part_p62 hL  h)
  · skip
    refine kz_aload_n (M := kt_M503) kX13_part_c1.2.2.2.2.2.1 rfl ?_
    refine kz_cv0 (M := kt_M503) (c := 12) (o := 0) (As := []) (rest := []) kX13_part_c1.2.2.2.2.2.2.1 wl_X13_666 wMv_497 rfl (.inl rfl) rfl (Nat.le_trans (Nat.le_of_ble_eq_true rfl) hL) (Nat.le_of_ble_eq_true rfl) (Nat.le_of_ble_eq_true rfl) h (fun w5 hle h => ?_) (fun _ _ _ h => kzx_no rfl h)
    have h := h hle
    refine kz_aload_n (M := kt_M503) kX13_part_c1.2.2.2.2.2.2.2.1 rfl ?_
    refine kz_gfc (M := kt_M503) (x := 4106) (c := 12) (o := 0) kX13_part_c2.1 wf_X13_211 (.inl rfl) ?_
    refine kz_iload_n (M := kt_M503) kX13_part_c2.2.1 rfl ?_
    refine kz_ic (M := kt_M503) 1 kX13_part_c2.2.2.1 rfl ?_
    refine kz_iast (M := kt_M503) (c := 12) (o := 0) (k := 34) (a := (E.2.1 4106)) kX13_part_c2.2.2.2.1 ow_12_0_34 oa_12_0_34 ot_0 h (fun h => ?_)
    refine kz_aload_n (M := kt_M503) kX13_part_c2.2.2.2.2.1 rfl ?_
    refine kz_gfc (M := kt_M503) (x := 4100) (c := 12) (o := 0) kX13_part_c2.2.2.2.2.2.1 wf_X13_193 (.inl rfl) ?_
    refine kz_iload_n (M := kt_M503) kX13_part_c2.2.2.2.2.2.2.1 rfl ?_
    refine kz_aload_n (M := kt_M503) kX13_part_c2.2.2.2.2.2.2.2.1 rfl ?_
    refine kz_cv1 (M := kt_M503) (c := 12) (o := 0) (As := []) (rest := [.int v2, .ref (E.2.1 4100)]) kX13_part_c3.1 wl_X13_632 wMv_393 rfl (.inl rfl) rfl (Nat.le_trans (Nat.le_of_ble_eq_true rfl) hL) (Nat.le_of_ble_eq_true rfl) (Nat.le_of_ble_eq_true rfl) h (fun v8 w7 hle h => ?_) (fun _ _ _ h => kzx_no rfl h)
    have h := h hle
    refine kz_iast (M := kt_M503) (c := 12) (o := 0) (k := 28) (a := (E.2.1 4100)) kX13_part_c3.2.1 ow_12_0_28 oa_12_0_28 ot_0 h (fun h => ?_)
    refine kz_aload_n (M := kt_M503) kX13_part_c3.2.2.1 rfl ?_
    refine kz_bi (M := kt_M503) 43 kX13_part_c3.2.2.2.1 rfl ?_
    refine kz_cv0 (M := kt_M503) (c := 12) (o := 0) (As := [.int 43]) (rest := []) kX13_part_c3.2.2.2.2.1 wl_X13_585 wMv_600 rfl (.inl rfl) rfl (Nat.le_trans (Nat.le_of_ble_eq_true rfl) hL) (Nat.le_of_ble_eq_true rfl) (Nat.le_of_ble_eq_true rfl) h (fun w9 hle h => ?_) (fun _ _ _ h => kzx_no rfl h)
    have h := h hle
    refine kz_aload_n (M := kt_M503) kX13_part_c3.2.2.2.2.2.1 rfl ?_
    refine kz_dup (M := kt_M503) kX13_part_c3.2.2.2.2.2.2.1 rfl ?_
    refine kz_gfi (M := kt_M503) (c := 12) (o := 0) kX13_part_c3.2.2.2.2.2.2.2.1 wf_X13_669 (.inl rfl) ?_
    refine kz_ic (M := kt_M503) 1 kX13_part_c4.1 rfl ?_
    refine kz_isub (M := kt_M503) kX13_part_c4.2.1 ?_
    refine kz_pfi (M := kt_M503) (c := 12) (o := 0) kX13_part_c4.2.2.1 wq_X13_669 (.inl rfl) ?_
    exact kz_weak [(0, .ref (w_adr E.2.1 12 0)), (1, .int v2)] ⟨rfl, ⟨rfl, trivial⟩⟩ rfl (zt_X13_part_p62 hL  h)
def zb_X13_procedure_p0 (E : zE) (L : Nat) (Q : kx_Rs → wS → Prop) (x1 : Int32) (x2 : Int32) (w : wS) : Prop := zw E (L - 21) kt_M600 [.ref (w_adr E.2.1 12 0), .int 23] w (wk0 (fun w1 => wle w w1 → (kx_inb x1 (w_n w1 12 0 26) = true ∧ zw E (L - 20) kt_M601 [.ref (w_adr E.2.1 12 0)] (ws_a w1 12 0 26 (x1).toNatClampNeg 37) (wk1 (fun v4 w3 => wle (ws_a w1 12 0 26 (x1).toNatClampNeg 37) w3 → (kx_inb x1 (w_n w3 12 0 30) = true ∧ zw E (L - 20) kt_M462 [.ref (w_adr E.2.1 12 0)] (ws_a w3 12 0 30 (x1).toNatClampNeg v4) (wk1 (fun v6 w5 => wle (ws_a w3 12 0 30 (x1).toNatClampNeg v4) w5 → (if v6 = 40 then zw E (L - 24) kt_M414 [.ref (w_adr E.2.1 12 0)] w5 (wk1 (fun v8 w7 => wle w5 w7 → (kx_inb x1 (w_n w7 12 0 28) = true ∧ zw E (L - 20) kt_M400 [.ref (w_adr E.2.1 12 0)] (ws_a w7 12 0 28 (x1).toNatClampNeg v8) (wk0 (fun w9 => wle (ws_a w7 12 0 28 (x1).toNatClampNeg v8) w9 → zw E (L - 24) kt_M514 [.ref (w_adr E.2.1 12 0), .int (x2 + 1)] w9 (wk1 (fun v12 w11 => wle w9 w11 → (kx_inb x1 (w_n w11 12 0 29) = true ∧ zw E (L - 21) kt_M375 [.ref (w_adr E.2.1 12 0), .int x2] (ws_a w11 12 0 29 (x1).toNatClampNeg v12) (wk0 (fun w13 => wle (ws_a w11 12 0 29 (x1).toNatClampNeg v12) w13 → Q (.inl (some (.int x1))) w13) (fun e w => Q (.inr e) w)))) (fun e w => Q (.inr e) w))) (fun e w => Q (.inr e) w)))) (fun e w => Q (.inr e) w)) else zw E (L - 22) kt_M545 [.ref (w_adr E.2.1 12 0), .int 2] w5 (wkr (fun v16 w15 => wle w5 w15 → (v16 = some (w_adr E.2.1 13 0) ∧ Q (.inr "MeetingHouseModel$Halt") w15)) (fun e w => Q (.inr e) w)))) (fun e w => Q (.inr e) w)))) (fun e w => Q (.inr e) w)))) (fun e w => Q (.inr e) w))
theorem zt_X13_procedure_p0 {E : zE} {L : Nat} {Q : kx_Rs → wS → Prop} {x1 : Int32} {x2 : Int32} {w : wS} (hL : 24 ≤ L) (h : zb_X13_procedure_p0 E L Q x1 x2 w) : kzE E L kt_M512 0 [(0, .ref (w_adr E.2.1 12 0)), (1, .int x1), (2, .int x2)] [] w Q := by
  unfold zb_X13_procedure_p0 at h
  refine kz_aload_n (M := kt_M512) kX13_procedure_c0.1 rfl ?_
  refine kz_bi (M := kt_M512) 23 kX13_procedure_c0.2.1 rfl ?_
  refine kz_cv0 (M := kt_M512) (c := 12) (o := 0) (As := [.int 23]) (rest := []) kX13_procedure_c0.2.2.1 wl_X13_585 wMv_600 rfl (.inl rfl) rfl (Nat.le_trans (Nat.le_of_ble_eq_true rfl) hL) (Nat.le_of_ble_eq_true rfl) (Nat.le_of_ble_eq_true rfl) h (fun w1 hle h => ?_) (fun _ _ _ h => kzx_no rfl h)
  have h := h hle
  refine kz_aload_n (M := kt_M512) kX13_procedure_c0.2.2.2.1 rfl ?_
  refine kz_gfc (M := kt_M512) (x := 4098) (c := 12) (o := 0) kX13_procedure_c0.2.2.2.2.1 wf_X13_187 (.inl rfl) ?_
  refine kz_iload_n (M := kt_M512) kX13_procedure_c0.2.2.2.2.2.1 rfl ?_
  refine kz_bi (M := kt_M512) 37 kX13_procedure_c0.2.2.2.2.2.2.1 rfl ?_
  refine kz_iast (M := kt_M512) (c := 12) (o := 0) (k := 26) (a := (E.2.1 4098)) kX13_procedure_c0.2.2.2.2.2.2.2.1 ow_12_0_26 oa_12_0_26 ot_0 h (fun h => ?_)
  refine kz_aload_n (M := kt_M512) kX13_procedure_c1.1 rfl ?_
  refine kz_gfc (M := kt_M512) (x := 4102) (c := 12) (o := 0) kX13_procedure_c1.2.1 wf_X13_199 (.inl rfl) ?_
  refine kz_iload_n (M := kt_M512) kX13_procedure_c1.2.2.1 rfl ?_
  refine kz_aload_n (M := kt_M512) kX13_procedure_c1.2.2.2.1 rfl ?_
  refine kz_cv1 (M := kt_M512) (c := 12) (o := 0) (As := []) (rest := [.int x1, .ref (E.2.1 4102)]) kX13_procedure_c1.2.2.2.2.1 wl_X13_639 wMv_601 rfl (.inl rfl) rfl (Nat.le_trans (Nat.le_of_ble_eq_true rfl) hL) (Nat.le_of_ble_eq_true rfl) (Nat.le_of_ble_eq_true rfl) h (fun v4 w3 hle h => ?_) (fun _ _ _ h => kzx_no rfl h)
  have h := h hle
  refine kz_iast (M := kt_M512) (c := 12) (o := 0) (k := 30) (a := (E.2.1 4102)) kX13_procedure_c1.2.2.2.2.2.1 ow_12_0_30 oa_12_0_30 ot_0 h (fun h => ?_)
  refine kz_aload_n (M := kt_M512) kX13_procedure_c1.2.2.2.2.2.2.1 rfl ?_
  refine kz_cv1 (M := kt_M512) (c := 12) (o := 0) (As := []) (rest := []) kX13_procedure_c1.2.2.2.2.2.2.2.1 wl_X13_560 wMv_462 rfl (.inl rfl) rfl (Nat.le_trans (Nat.le_of_ble_eq_true rfl) hL) (Nat.le_of_ble_eq_true rfl) (Nat.le_of_ble_eq_true rfl) h (fun v6 w5 hle h => ?_) (fun _ _ _ h => kzx_no rfl h)
  have h := h hle
  refine kz_bi (M := kt_M512) 40 kX13_procedure_c2.1 rfl ?_
  refine kz_icmp_eq (M := kt_M512) kX13_procedure_c2.2.1 (t := 39) rfl h (fun h => ?_) (fun h => ?_)
  · skip
    refine kz_aload_n (M := kt_M512) kX13_procedure_c2.2.2.2.2.2.2.1 rfl ?_
    refine kz_gfc (M := kt_M512) (x := 4100) (c := 12) (o := 0) kX13_procedure_c2.2.2.2.2.2.2.2.1 wf_X13_193 (.inl rfl) ?_
    refine kz_iload_n (M := kt_M512) kX13_procedure_c3.1 rfl ?_
    refine kz_aload_n (M := kt_M512) kX13_procedure_c3.2.1 rfl ?_
    refine kz_cv1 (M := kt_M512) (c := 12) (o := 0) (As := []) (rest := [.int x1, .ref (E.2.1 4100)]) kX13_procedure_c3.2.2.1 wl_X13_710 wMv_414 rfl (.inl rfl) rfl (Nat.le_trans (Nat.le_of_ble_eq_true rfl) hL) (Nat.le_of_ble_eq_true rfl) (Nat.le_of_ble_eq_true rfl) h (fun v8 w7 hle h => ?_) (fun _ _ _ h => kzx_no rfl h)
    have h := h hle
    refine kz_iast (M := kt_M512) (c := 12) (o := 0) (k := 28) (a := (E.2.1 4100)) kX13_procedure_c3.2.2.2.1 ow_12_0_28 oa_12_0_28 ot_0 h (fun h => ?_)
    refine kz_aload_n (M := kt_M512) kX13_procedure_c3.2.2.2.2.1 rfl ?_
    refine kz_cv0 (M := kt_M512) (c := 12) (o := 0) (As := []) (rest := []) kX13_procedure_c3.2.2.2.2.2.1 wl_X13_616 wMv_400 rfl (.inl rfl) rfl (Nat.le_trans (Nat.le_of_ble_eq_true rfl) hL) (Nat.le_of_ble_eq_true rfl) (Nat.le_of_ble_eq_true rfl) h (fun w9 hle h => ?_) (fun _ _ _ h => kzx_no rfl h)
    have h := h hle
    refine kz_aload_n (M := kt_M512) kX13_procedure_c3.2.2.2.2.2.2.1 rfl ?_
    refine kz_gfc (M := kt_M512) (x := 4101) (c := 12) (o := 0) kX13_procedure_c3.2.2.2.2.2.2.2.1 wf_X13_196 (.inl rfl) ?_
    refine kz_iload_n (M := kt_M512) kX13_procedure_c4.1 rfl ?_
    refine kz_aload_n (M := kt_M512) kX13_procedure_c4.2.1 rfl ?_
    refine kz_iload_n (M := kt_M512) kX13_procedure_c4.2.2.1 rfl ?_
    refine kz_ic (M := kt_M512) 1 kX13_procedure_c4.2.2.2.1 rfl ?_
    refine kz_iadd (M := kt_M512) kX13_procedure_c4.2.2.2.2.1 ?_
    refine kz_cv1 (M := kt_M512) (c := 12) (o := 0) (As := [.int (x2 + 1)]) (rest := [.int x1, .ref (E.2.1 4101)]) kX13_procedure_c4.2.2.2.2.2.1 wl_X13_604 wMv_514 rfl (.inl rfl) rfl (Nat.le_trans (Nat.le_of_ble_eq_true rfl) hL) (Nat.le_of_ble_eq_true rfl) (Nat.le_of_ble_eq_true rfl) h (fun v12 w11 hle h => ?_) (fun _ _ _ h => kzx_no rfl h)
    have h := h hle
    refine kz_iast (M := kt_M512) (c := 12) (o := 0) (k := 29) (a := (E.2.1 4101)) kX13_procedure_c4.2.2.2.2.2.2.1 ow_12_0_29 oa_12_0_29 ot_0 h (fun h => ?_)
    refine kz_aload_n (M := kt_M512) kX13_procedure_c4.2.2.2.2.2.2.2.1 rfl ?_
    refine kz_iload_n (M := kt_M512) kX13_procedure_c5.1 rfl ?_
    refine kz_cv0 (M := kt_M512) (c := 12) (o := 0) (As := [.int x2]) (rest := []) kX13_procedure_c5.2.1 wl_X13_707 wMv_375 rfl (.inl rfl) rfl (Nat.le_trans (Nat.le_of_ble_eq_true rfl) hL) (Nat.le_of_ble_eq_true rfl) (Nat.le_of_ble_eq_true rfl) h (fun w13 hle h => ?_) (fun _ _ _ h => kzx_no rfl h)
    have h := h hle
    refine kz_iload_n (M := kt_M512) kX13_procedure_c5.2.2.1 rfl ?_
    exact kz_iret (M := kt_M512) kX13_procedure_c5.2.2.2.1 rfl rfl h
  · skip
    refine kz_aload_n (M := kt_M512) kX13_procedure_c2.2.2.1 rfl ?_
    refine kz_ic (M := kt_M512) 2 kX13_procedure_c2.2.2.2.1 rfl ?_
    refine kz_cvr (M := kt_M512) (c := 12) (o := 0) (As := [.int 2]) (rest := []) kX13_procedure_c2.2.2.2.2.1 wl_X13_556 wMv_545 rfl (.inl rfl) rfl (Nat.le_trans (Nat.le_of_ble_eq_true rfl) hL) (Nat.le_of_ble_eq_true rfl) (Nat.le_of_ble_eq_true rfl) h (fun v16 w15 hle h => ?_) (fun _ _ _ h => kzx_no rfl h)
    have h := h hle
    exact kz_throw (M := kt_M512) (c := 13) (o := 0) kX13_procedure_c2.2.2.2.2.2.1 rfl (.inl rfl) h (fun h => kzx_no rfl h)
def zb_X13_action_p222 (E : zE) (L : Nat) (Q : kx_Rs → wS → Prop) (x4 : Int32) (y0 : Int32) (y1 : Int32) (y3 : Int32) (w : wS) : Prop := zw E (L - 25) kt_M516 [.ref (w_adr E.2.1 12 0), .int y1, .int y0] w (wk1 (fun v2 w1 => wle w w1 → (kx_inb y3 (w_n w1 12 0 29) = true ∧ Q (.inl (some (.int x4))) (ws_a w1 12 0 29 (y3).toNatClampNeg v2))) (fun e w => Q (.inr e) w))
theorem zt_X13_action_p222 {E : zE} {L : Nat} {Q : kx_Rs → wS → Prop} {x4 : Int32} {y0 : Int32} {y1 : Int32} {y3 : Int32} {w : wS} (hL : 26 ≤ L) (h : zb_X13_action_p222 E L Q x4 y0 y1 y3 w) : kzE E L kt_M346 222 [(0, .ref (w_adr E.2.1 12 0)), (4, .int x4)] [.int y0, .int y1, .ref (w_adr E.2.1 12 0), .int y3, .ref (E.2.1 4101)] w Q := by
  unfold zb_X13_action_p222 at h
  refine kz_cv1 (M := kt_M346) (c := 12) (o := 0) (As := [.int y1, .int y0]) (rest := [.int y3, .ref (E.2.1 4101)]) kX13_action_c10.2.2.2.1 wl_X13_622 wMv_516 rfl (.inl rfl) rfl (Nat.le_trans (Nat.le_of_ble_eq_true rfl) hL) (Nat.le_of_ble_eq_true rfl) (Nat.le_of_ble_eq_true rfl) h (fun v2 w1 hle h => ?_) (fun _ _ _ h => kzx_no rfl h)
  have h := h hle
  refine kz_iast (M := kt_M346) (c := 12) (o := 0) (k := 29) (a := (E.2.1 4101)) kX13_action_c10.2.2.2.2.1 ow_12_0_29 oa_12_0_29 ot_0 h (fun h => ?_)
  refine kz_iload (M := kt_M346) kX13_action_c10.2.2.2.2.2.1 rfl ?_
  exact kz_iret (M := kt_M346) kX13_action_c10.2.2.2.2.2.2.1 rfl rfl h
def zb_X13_action_p193 (E : zE) (L : Nat) (Q : kx_Rs → wS → Prop) (x1 : Int32) (x4 : Int32) (w : wS) : Prop := zw E (L - 20) kt_M400 [.ref (w_adr E.2.1 12 0)] w (wk0 (fun w1 => wle w w1 → (kx_inb x4 (w_n w1 12 0 28) = true ∧ (if w_a w1 12 0 28 (x4).toNatClampNeg < 0 then zb_X13_action_p222 E L Q x4 0 (x1 + 1) x4 w1 else zb_X13_action_p222 E L Q x4 1 (x1 + 1) x4 w1))) (fun e w => Q (.inr e) w))
theorem zt_X13_action_p193 {E : zE} {L : Nat} {Q : kx_Rs → wS → Prop} {x1 : Int32} {x4 : Int32} {w : wS} (hL : 26 ≤ L) (h : zb_X13_action_p193 E L Q x1 x4 w) : kzE E L kt_M346 193 [(0, .ref (w_adr E.2.1 12 0)), (1, .int x1), (4, .int x4)] [] w Q := by
  unfold zb_X13_action_p193 at h
  refine kz_aload_n (M := kt_M346) kX13_action_c8.2.2.1 rfl ?_
  refine kz_cv0 (M := kt_M346) (c := 12) (o := 0) (As := []) (rest := []) kX13_action_c8.2.2.2.1 wl_X13_616 wMv_400 rfl (.inl rfl) rfl (Nat.le_trans (Nat.le_of_ble_eq_true rfl) hL) (Nat.le_of_ble_eq_true rfl) (Nat.le_of_ble_eq_true rfl) h (fun w1 hle h => ?_) (fun _ _ _ h => kzx_no rfl h)
  have h := h hle
  refine kz_aload_n (M := kt_M346) kX13_action_c8.2.2.2.2.1 rfl ?_
  refine kz_gfc (M := kt_M346) (x := 4101) (c := 12) (o := 0) kX13_action_c8.2.2.2.2.2.1 wf_X13_196 (.inl rfl) ?_
  refine kz_iload (M := kt_M346) kX13_action_c8.2.2.2.2.2.2.1 rfl ?_
  refine kz_aload_n (M := kt_M346) kX13_action_c8.2.2.2.2.2.2.2.1 rfl ?_
  refine kz_iload_n (M := kt_M346) kX13_action_c9.1 rfl ?_
  refine kz_ic (M := kt_M346) 1 kX13_action_c9.2.1 rfl ?_
  refine kz_iadd (M := kt_M346) kX13_action_c9.2.2.1 ?_
  refine kz_aload_n (M := kt_M346) kX13_action_c9.2.2.2.1 rfl ?_
  refine kz_gfc (M := kt_M346) (x := 4100) (c := 12) (o := 0) kX13_action_c9.2.2.2.2.1 wf_X13_193 (.inl rfl) ?_
  refine kz_iload (M := kt_M346) kX13_action_c9.2.2.2.2.2.1 rfl ?_
  refine kz_iald (M := kt_M346) (c := 12) (o := 0) (k := 28) (a := (E.2.1 4100)) kX13_action_c9.2.2.2.2.2.2.1 ow_12_0_28 oa_12_0_28 ot_0 h (fun h => ?_)
  refine kz_if_lt (M := kt_M346) kX13_action_c9.2.2.2.2.2.2.2.1 (t := 221) rfl h (fun h => ?_) (fun h => ?_)
  · skip
    refine kz_ic (M := kt_M346) 0 kX13_action_c10.2.2.1 rfl ?_
    exact kz_weak [(0, .ref (w_adr E.2.1 12 0)), (4, .int x4)] ⟨rfl, ⟨rfl, trivial⟩⟩ rfl (zt_X13_action_p222 hL  h)
  · skip
    refine kz_ic (M := kt_M346) 1 kX13_action_c10.1 rfl ?_
    refine kz_goto (M := kt_M346) kX13_action_c10.2.1 (t := 222) rfl ?_
    exact kz_weak [(0, .ref (w_adr E.2.1 12 0)), (4, .int x4)] ⟨rfl, ⟨rfl, trivial⟩⟩ rfl (zt_X13_action_p222 hL  h)
def zb_X13_action_p167 (E : zE) (L : Nat) (Q : kx_Rs → wS → Prop) (x1 : Int32) (x2 : Int32) (y0 : Int32) (w : wS) : Prop := zw E (L - 22) kt_M494 [.ref (w_adr E.2.1 12 0), .int y0, .int x2] w (wk1 (fun v2 w1 => wle w w1 → zw E (L - 20) kt_M462 [.ref (w_adr E.2.1 12 0)] w1 (wk1 (fun v4 w3 => wle w1 w3 → (if v4 = 74 then zb_X13_action_p193 E L Q x1 v2 w3 else zw E (L - 21) kt_M525 [.ref (w_adr E.2.1 12 0)] w3 (wk1 (fun v6 w5 => wle w3 w5 → (kx_inb v2 (w_n w5 12 0 28) = true ∧ zb_X13_action_p193 E L Q x1 v2 (ws_a w5 12 0 28 (v2).toNatClampNeg v6))) (fun e w => Q (.inr e) w)))) (fun e w => Q (.inr e) w))) (fun e w => Q (.inr e) w))
theorem zt_X13_action_p167 {E : zE} {L : Nat} {Q : kx_Rs → wS → Prop} {x1 : Int32} {x2 : Int32} {y0 : Int32} {w : wS} (hL : 26 ≤ L) (h : zb_X13_action_p167 E L Q x1 x2 y0 w) : kzE E L kt_M346 167 [(0, .ref (w_adr E.2.1 12 0)), (1, .int x1), (2, .int x2)] [.int y0, .ref (w_adr E.2.1 12 0)] w Q := by
  unfold zb_X13_action_p167 at h
  refine kz_iload_n (M := kt_M346) kX13_action_c6.2.2.2.2.2.1 rfl ?_
  refine kz_cv1 (M := kt_M346) (c := 12) (o := 0) (As := [.int y0, .int x2]) (rest := []) kX13_action_c6.2.2.2.2.2.2.1 wl_X13_592 wMv_494 rfl (.inl rfl) rfl (Nat.le_trans (Nat.le_of_ble_eq_true rfl) hL) (Nat.le_of_ble_eq_true rfl) (Nat.le_of_ble_eq_true rfl) h (fun v2 w1 hle h => ?_) (fun _ _ _ h => kzx_no rfl h)
  have h := h hle
  refine kz_sti (M := kt_M346) [(0, .ref (w_adr E.2.1 12 0)), (1, .int x1)] kX13_action_c6.2.2.2.2.2.2.2.1 (Nat.le_of_ble_eq_true rfl) ⟨⟨rfl, rfl, .inl rfl⟩, ⟨⟨rfl, rfl, .inl rfl⟩, trivial⟩⟩ rfl ?_
  refine kz_aload_n (M := kt_M346) kX13_action_c7.1 rfl ?_
  refine kz_cv1 (M := kt_M346) (c := 12) (o := 0) (As := []) (rest := []) kX13_action_c7.2.1 wl_X13_560 wMv_462 rfl (.inl rfl) rfl (Nat.le_trans (Nat.le_of_ble_eq_true rfl) hL) (Nat.le_of_ble_eq_true rfl) (Nat.le_of_ble_eq_true rfl) h (fun v4 w3 hle h => ?_) (fun _ _ _ h => kzx_no rfl h)
  have h := h hle
  refine kz_bi (M := kt_M346) 74 kX13_action_c7.2.2.1 rfl ?_
  refine kz_icmp_eq (M := kt_M346) kX13_action_c7.2.2.2.1 (t := 193) rfl h (fun h => ?_) (fun h => ?_)
  · skip
    exact kz_weak [(0, .ref (w_adr E.2.1 12 0)), (1, .int x1), (4, .int v2)] ⟨rfl, ⟨rfl, ⟨rfl, trivial⟩⟩⟩ rfl (zt_X13_action_p193 hL  h)
  · skip
    refine kz_aload_n (M := kt_M346) kX13_action_c7.2.2.2.2.1 rfl ?_
    refine kz_gfc (M := kt_M346) (x := 4100) (c := 12) (o := 0) kX13_action_c7.2.2.2.2.2.1 wf_X13_193 (.inl rfl) ?_
    refine kz_iload (M := kt_M346) kX13_action_c7.2.2.2.2.2.2.1 rfl ?_
    refine kz_aload_n (M := kt_M346) kX13_action_c7.2.2.2.2.2.2.2.1 rfl ?_
    refine kz_cv1 (M := kt_M346) (c := 12) (o := 0) (As := []) (rest := [.int v2, .ref (E.2.1 4100)]) kX13_action_c8.1 wl_X13_619 wMv_525 rfl (.inl rfl) rfl (Nat.le_trans (Nat.le_of_ble_eq_true rfl) hL) (Nat.le_of_ble_eq_true rfl) (Nat.le_of_ble_eq_true rfl) h (fun v6 w5 hle h => ?_) (fun _ _ _ h => kzx_no rfl h)
    have h := h hle
    refine kz_iast (M := kt_M346) (c := 12) (o := 0) (k := 28) (a := (E.2.1 4100)) kX13_action_c8.2.1 ow_12_0_28 oa_12_0_28 ot_0 h (fun h => ?_)
    exact kz_weak [(0, .ref (w_adr E.2.1 12 0)), (1, .int x1), (4, .int v2)] ⟨rfl, ⟨rfl, ⟨rfl, trivial⟩⟩⟩ rfl (zt_X13_action_p193 hL  h)
def zb_X13_action_p148 (E : zE) (L : Nat) (Q : kx_Rs → wS → Prop) (x2 : Int32) (y0 : Int32) (w : wS) : Prop := zw E (L - 22) kt_M494 [.ref (w_adr E.2.1 12 0), .int y0, .int x2] w (wk1 (fun v2 w1 => wle w w1 → Q (.inl (some (.int v2))) w1) (fun e w => Q (.inr e) w))
theorem zt_X13_action_p148 {E : zE} {L : Nat} {Q : kx_Rs → wS → Prop} {x2 : Int32} {y0 : Int32} {w : wS} (hL : 26 ≤ L) (h : zb_X13_action_p148 E L Q x2 y0 w) : kzE E L kt_M346 148 [(0, .ref (w_adr E.2.1 12 0)), (2, .int x2)] [.int y0, .ref (w_adr E.2.1 12 0)] w Q := by
  unfold zb_X13_action_p148 at h
  refine kz_iload_n (M := kt_M346) kX13_action_c5.2.2.2.1 rfl ?_
  refine kz_cv1 (M := kt_M346) (c := 12) (o := 0) (As := [.int y0, .int x2]) (rest := []) kX13_action_c5.2.2.2.2.1 wl_X13_592 wMv_494 rfl (.inl rfl) rfl (Nat.le_trans (Nat.le_of_ble_eq_true rfl) hL) (Nat.le_of_ble_eq_true rfl) (Nat.le_of_ble_eq_true rfl) h (fun v2 w1 hle h => ?_) (fun _ _ _ h => kzx_no rfl h)
  have h := h hle
  exact kz_iret (M := kt_M346) kX13_action_c5.2.2.2.2.2.1 rfl rfl h
def zb_X13_action_p45 (E : zE) (L : Nat) (Q : kx_Rs → wS → Prop) (y0 : Int32) (w : wS) : Prop := Q (.inl (some (.int y0))) w
theorem zt_X13_action_p45 {E : zE} {L : Nat} {Q : kx_Rs → wS → Prop} {y0 : Int32} {w : wS} (hL : 26 ≤ L) (h : zb_X13_action_p45 E L Q y0 w) : kzE E L kt_M346 45 [(0, .ref (w_adr E.2.1 12 0))] [.int y0] w Q := by
  unfold zb_X13_action_p45 at h
  exact kz_iret (M := kt_M346) kX13_action_c3.2.1 rfl rfl h
def zb_X13_action_p0 (E : zE) (L : Nat) (Q : kx_Rs → wS → Prop) (x1 : Int32) (w : wS) : Prop := (kx_inb (w_i w 12 0 35) (w_n w 12 0 9) = true ∧ zw E (L - 20) kt_M462 [.ref (w_adr E.2.1 12 0)] w (wk1 (fun v2 w1 => wle w w1 → (if ¬ v2 = 70 then (if v2 = 5 then zw E (L - 26) kt_M365 [.ref (w_adr E.2.1 12 0), .int x1, .int (w_a w 12 0 9 (w_i w 12 0 35).toNatClampNeg)] (ws_i w1 12 0 35 ((w_i w1 12 0 35) + 1)) (wk1 (fun v4 w3 => wle (ws_i w1 12 0 35 ((w_i w1 12 0 35) + 1)) w3 → Q (.inl (some (.int v4))) w3) (fun e w => Q (.inr e) w)) else (if v2 = 11 then zw E (L - 25) kt_M371 [.ref (w_adr E.2.1 12 0), .int x1, .int (w_a w 12 0 9 (w_i w 12 0 35).toNatClampNeg)] (ws_i w1 12 0 35 ((w_i w1 12 0 35) + 1)) (wk1 (fun v6 w5 => wle (ws_i w1 12 0 35 ((w_i w1 12 0 35) + 1)) w5 → Q (.inl (some (.int v6))) w5) (fun e w => Q (.inr e) w)) else (if v2 = 20 then (if ¬ v2 = 26 then zb_X13_action_p167 E L Q x1 (w_a w 12 0 9 (w_i w 12 0 35).toNatClampNeg) 11 (ws_i w1 12 0 35 ((w_i w1 12 0 35) + 1)) else zb_X13_action_p167 E L Q x1 (w_a w 12 0 9 (w_i w 12 0 35).toNatClampNeg) 10 (ws_i w1 12 0 35 ((w_i w1 12 0 35) + 1))) else (if v2 = 22 then zw E (L - 21) kt_M600 [.ref (w_adr E.2.1 12 0), .int 1] (ws_i w1 12 0 35 ((w_i w1 12 0 35) + 1)) (wk0 (fun w7 => wle (ws_i w1 12 0 35 ((w_i w1 12 0 35) + 1)) w7 → zw E (L - 26) kt_M350 [.ref (w_adr E.2.1 12 0), .int x1, .int (w_a w 12 0 9 (w_i w 12 0 35).toNatClampNeg), .int 1] w7 (wk1 (fun v10 w9 => wle w7 w9 → Q (.inl (some (.int v10))) w9) (fun e w => Q (.inr e) w))) (fun e w => Q (.inr e) w)) else (if v2 = 26 then (if ¬ v2 = 26 then zb_X13_action_p167 E L Q x1 (w_a w 12 0 9 (w_i w 12 0 35).toNatClampNeg) 11 (ws_i w1 12 0 35 ((w_i w1 12 0 35) + 1)) else zb_X13_action_p167 E L Q x1 (w_a w 12 0 9 (w_i w 12 0 35).toNatClampNeg) 10 (ws_i w1 12 0 35 ((w_i w1 12 0 35) + 1))) else (if v2 = 28 then zw E (L - 20) kt_M400 [.ref (w_adr E.2.1 12 0)] (ws_i w1 12 0 35 ((w_i w1 12 0 35) + 1)) (wk0 (fun w11 => wle (ws_i w1 12 0 35 ((w_i w1 12 0 35) + 1)) w11 → (if ¬ v2 = 28 then zb_X13_action_p148 E L Q (w_a w 12 0 9 (w_i w 12 0 35).toNatClampNeg) 3 w11 else zb_X13_action_p148 E L Q (w_a w 12 0 9 (w_i w 12 0 35).toNatClampNeg) 2 w11)) (fun e w => Q (.inr e) w)) else (if v2 = 29 then zw E (L - 20) kt_M400 [.ref (w_adr E.2.1 12 0)] (ws_i w1 12 0 35 ((w_i w1 12 0 35) + 1)) (wk0 (fun w13 => wle (ws_i w1 12 0 35 ((w_i w1 12 0 35) + 1)) w13 → (if ¬ v2 = 28 then zb_X13_action_p148 E L Q (w_a w 12 0 9 (w_i w 12 0 35).toNatClampNeg) 3 w13 else zb_X13_action_p148 E L Q (w_a w 12 0 9 (w_i w 12 0 35).toNatClampNeg) 2 w13)) (fun e w => Q (.inr e) w)) else (if v2 = 35 then zw E (L - 22) kt_M494 [.ref (w_adr E.2.1 12 0), .int 16, .int (w_a w 12 0 9 (w_i w 12 0 35).toNatClampNeg)] (ws_i w1 12 0 35 ((w_i w1 12 0 35) + 1)) (wk1 (fun v16 w15 => wle (ws_i w1 12 0 35 ((w_i w1 12 0 35) + 1)) w15 → zw E (L - 22) kt_M393 [.ref (w_adr E.2.1 12 0)] w15 (wk1 (fun v18 w17 => wle w15 w17 → (kx_inb v16 (w_n w17 12 0 28) = true ∧ zw E (L - 20) kt_M400 [.ref (w_adr E.2.1 12 0)] (ws_a w17 12 0 28 (v16).toNatClampNeg v18) (wk0 (fun w19 => wle (ws_a w17 12 0 28 (v16).toNatClampNeg v18) w19 → zw E (L - 24) kt_M514 [.ref (w_adr E.2.1 12 0), .int (x1 + 1)] w19 (wk1 (fun v22 w21 => wle w19 w21 → (kx_inb v16 (w_n w21 12 0 29) = true ∧ Q (.inl (some (.int v16))) (ws_a w21 12 0 29 (v16).toNatClampNeg v22))) (fun e w => Q (.inr e) w))) (fun e w => Q (.inr e) w)))) (fun e w => Q (.inr e) w))) (fun e w => Q (.inr e) w)) else zw E (L - 26) kt_M350 [.ref (w_adr E.2.1 12 0), .int x1, .int (w_a w 12 0 9 (w_i w 12 0 35).toNatClampNeg), .int 0] (ws_i w1 12 0 35 ((w_i w1 12 0 35) + 1)) (wk1 (fun v24 w23 => wle (ws_i w1 12 0 35 ((w_i w1 12 0 35) + 1)) w23 → Q (.inl (some (.int v24))) w23) (fun e w => Q (.inr e) w)))))))))) else zw E (L - 21) kt_M349 [.ref (w_adr E.2.1 12 0), .int 1] w1 (wk1 (fun v26 w25 => wle w1 w25 → (if ¬ v26 = 40 then zw E (L - 26) kt_M397 [.ref (w_adr E.2.1 12 0), .int x1, .int (w_a w 12 0 9 (w_i w 12 0 35).toNatClampNeg)] w25 (wk1 (fun v28 w27 => wle w25 w27 → zb_X13_action_p45 E L Q v28 w27) (fun e w => Q (.inr e) w)) else zw E (L - 22) kt_M362 [.ref (w_adr E.2.1 12 0), .int (w_a w 12 0 9 (w_i w 12 0 35).toNatClampNeg)] w25 (wk1 (fun v30 w29 => wle w25 w29 → zb_X13_action_p45 E L Q v30 w29) (fun e w => Q (.inr e) w)))) (fun e w => Q (.inr e) w)))) (fun e w => Q (.inr e) w)))
theorem zt_X13_action_p0 {E : zE} {L : Nat} {Q : kx_Rs → wS → Prop} {x1 : Int32} {w : wS} (hL : 26 ≤ L) (h : zb_X13_action_p0 E L Q x1 w) : kzE E L kt_M346 0 [(0, .ref (w_adr E.2.1 12 0)), (1, .int x1)] [] w Q := by
  unfold zb_X13_action_p0 at h
  refine kz_aload_n (M := kt_M346) kX13_action_c0.1 rfl ?_
  refine kz_gfc (M := kt_M346) (x := 4081) (c := 12) (o := 0) kX13_action_c0.2.1 wf_X13_163 (.inl rfl) ?_
  refine kz_aload_n (M := kt_M346) kX13_action_c0.2.2.1 rfl ?_
  refine kz_gfi (M := kt_M346) (c := 12) (o := 0) kX13_action_c0.2.2.2.1 wf_X13_547 (.inl rfl) ?_
  refine kz_iald (M := kt_M346) (c := 12) (o := 0) (k := 9) (a := (E.2.1 4081)) kX13_action_c0.2.2.2.2.1 ow_12_0_9 oa_12_0_9 ot_0 h (fun h => ?_)
  refine kz_sti_n (M := kt_M346) [(0, .ref (w_adr E.2.1 12 0)), (1, .int x1)] kX13_action_c0.2.2.2.2.2.1 (Nat.le_of_ble_eq_true rfl) ⟨⟨rfl, rfl, .inl rfl⟩, ⟨⟨rfl, rfl, .inr rfl⟩, trivial⟩⟩ rfl ?_
  refine kz_aload_n (M := kt_M346) kX13_action_c0.2.2.2.2.2.2.1 rfl ?_
  refine kz_cv1 (M := kt_M346) (c := 12) (o := 0) (As := []) (rest := []) kX13_action_c0.2.2.2.2.2.2.2.1 wl_X13_560 wMv_462 rfl (.inl rfl) rfl (Nat.le_trans (Nat.le_of_ble_eq_true rfl) hL) (Nat.le_of_ble_eq_true rfl) (Nat.le_of_ble_eq_true rfl) h (fun v2 w1 hle h => ?_) (fun _ _ _ h => kzx_no rfl h)
  have h := h hle
  refine kz_sti_n (M := kt_M346) [(0, .ref (w_adr E.2.1 12 0)), (1, .int x1), (2, .int (w_a w 12 0 9 (w_i w 12 0 35).toNatClampNeg))] kX13_action_c1.1 (Nat.le_of_ble_eq_true rfl) ⟨⟨rfl, rfl, .inl rfl⟩, ⟨⟨rfl, rfl, .inl rfl⟩, ⟨⟨rfl, rfl, .inr rfl⟩, trivial⟩⟩⟩ rfl ?_
  refine kz_iload_n (M := kt_M346) kX13_action_c1.2.1 rfl ?_
  refine kz_bi (M := kt_M346) 70 kX13_action_c1.2.2.1 rfl ?_
  refine kz_icmp_ne (M := kt_M346) kX13_action_c1.2.2.2.1 (t := 46) rfl h (fun h => ?_) (fun h => ?_)
  · skip
    refine kz_aload_n (M := kt_M346) kX13_action_c3.2.2.1 rfl ?_
    refine kz_dup (M := kt_M346) kX13_action_c3.2.2.2.1 rfl ?_
    refine kz_gfi (M := kt_M346) (c := 12) (o := 0) kX13_action_c3.2.2.2.2.1 wf_X13_547 (.inl rfl) ?_
    refine kz_ic (M := kt_M346) 1 kX13_action_c3.2.2.2.2.2.1 rfl ?_
    refine kz_iadd (M := kt_M346) kX13_action_c3.2.2.2.2.2.2.1 ?_
    refine kz_pfi (M := kt_M346) (c := 12) (o := 0) kX13_action_c3.2.2.2.2.2.2.2.1 wq_X13_547 (.inl rfl) ?_
    refine kz_iload_n (M := kt_M346) kX13_action_c4.1 rfl ?_
    refine kz_lsw (M := kt_M346) [(5, 236), (11, 229), (20, 153), (22, 284), (26, 153), (28, 132), (29, 132), (35, 243)] [_, _, _, _, _, _, _, _] 297 dX13_action_p57 (by decide +kernel) (by decide +kernel) h ⟨fun h => ?_, fun h => ?_, fun h => ?_, fun h => ?_, fun h => ?_, fun h => ?_, fun h => ?_, fun h => ?_, trivial⟩ (fun h => ?_)
    · skip
      refine kz_aload_n (M := kt_M346) kX13_action_c11.2.2.2.2.1 rfl ?_
      refine kz_iload_n (M := kt_M346) kX13_action_c11.2.2.2.2.2.1 rfl ?_
      refine kz_iload_n (M := kt_M346) kX13_action_c11.2.2.2.2.2.2.1 rfl ?_
      refine kz_cv1 (M := kt_M346) (c := 12) (o := 0) (As := [.int x1, .int (w_a w 12 0 9 (w_i w 12 0 35).toNatClampNeg)]) (rest := []) kX13_action_c11.2.2.2.2.2.2.2.1 wl_X13_629 wMv_365 rfl (.inl rfl) rfl (Nat.le_trans (Nat.le_of_ble_eq_true rfl) hL) (Nat.le_of_ble_eq_true rfl) (Nat.le_of_ble_eq_true rfl) h (fun v4 w3 hle h => ?_) (fun _ _ _ h => kzx_no rfl h)
      have h := h hle
      exact kz_iret (M := kt_M346) kX13_action_c12.1 rfl rfl h
    · skip
      refine kz_aload_n (M := kt_M346) kX13_action_c10.2.2.2.2.2.2.2.1 rfl ?_
      refine kz_iload_n (M := kt_M346) kX13_action_c11.1 rfl ?_
      refine kz_iload_n (M := kt_M346) kX13_action_c11.2.1 rfl ?_
      refine kz_cv1 (M := kt_M346) (c := 12) (o := 0) (As := [.int x1, .int (w_a w 12 0 9 (w_i w 12 0 35).toNatClampNeg)]) (rest := []) kX13_action_c11.2.2.1 wl_X13_626 wMv_371 rfl (.inl rfl) rfl (Nat.le_trans (Nat.le_of_ble_eq_true rfl) hL) (Nat.le_of_ble_eq_true rfl) (Nat.le_of_ble_eq_true rfl) h (fun v6 w5 hle h => ?_) (fun _ _ _ h => kzx_no rfl h)
      have h := h hle
      exact kz_iret (M := kt_M346) kX13_action_c11.2.2.2.1 rfl rfl h
    · skip
      refine kz_aload_n (M := kt_M346) kX13_action_c5.2.2.2.2.2.2.1 rfl ?_
      refine kz_iload_n (M := kt_M346) kX13_action_c5.2.2.2.2.2.2.2.1 rfl ?_
      refine kz_bi (M := kt_M346) 26 kX13_action_c6.1 rfl ?_
      refine kz_icmp_ne (M := kt_M346) kX13_action_c6.2.1 (t := 165) rfl h (fun h => ?_) (fun h => ?_)
      · skip
        refine kz_bi (M := kt_M346) 11 kX13_action_c6.2.2.2.2.1 rfl ?_
        exact kz_weak [(0, .ref (w_adr E.2.1 12 0)), (1, .int x1), (2, .int (w_a w 12 0 9 (w_i w 12 0 35).toNatClampNeg))] ⟨rfl, ⟨rfl, ⟨rfl, trivial⟩⟩⟩ rfl (zt_X13_action_p167 hL  h)
      · skip
        refine kz_bi (M := kt_M346) 10 kX13_action_c6.2.2.1 rfl ?_
        refine kz_goto (M := kt_M346) kX13_action_c6.2.2.2.1 (t := 167) rfl ?_
        exact kz_weak [(0, .ref (w_adr E.2.1 12 0)), (1, .int x1), (2, .int (w_a w 12 0 9 (w_i w 12 0 35).toNatClampNeg))] ⟨rfl, ⟨rfl, ⟨rfl, trivial⟩⟩⟩ rfl (zt_X13_action_p167 hL  h)
    · skip
      refine kz_aload_n (M := kt_M346) kX13_action_c15.2.1 rfl ?_
      refine kz_ic (M := kt_M346) 1 kX13_action_c15.2.2.1 rfl ?_
      refine kz_cv0 (M := kt_M346) (c := 12) (o := 0) (As := [.int 1]) (rest := []) kX13_action_c15.2.2.2.1 wl_X13_585 wMv_600 rfl (.inl rfl) rfl (Nat.le_trans (Nat.le_of_ble_eq_true rfl) hL) (Nat.le_of_ble_eq_true rfl) (Nat.le_of_ble_eq_true rfl) h (fun w7 hle h => ?_) (fun _ _ _ h => kzx_no rfl h)
      have h := h hle
      refine kz_aload_n (M := kt_M346) kX13_action_c15.2.2.2.2.1 rfl ?_
      refine kz_iload_n (M := kt_M346) kX13_action_c15.2.2.2.2.2.1 rfl ?_
      refine kz_iload_n (M := kt_M346) kX13_action_c15.2.2.2.2.2.2.1 rfl ?_
      refine kz_ic (M := kt_M346) 1 kX13_action_c15.2.2.2.2.2.2.2.1 rfl ?_
      refine kz_cv1 (M := kt_M346) (c := 12) (o := 0) (As := [.int x1, .int (w_a w 12 0 9 (w_i w 12 0 35).toNatClampNeg), .int 1]) (rest := []) kX13_action_c16.1 wl_X13_635 wMv_350 rfl (.inl rfl) rfl (Nat.le_trans (Nat.le_of_ble_eq_true rfl) hL) (Nat.le_of_ble_eq_true rfl) (Nat.le_of_ble_eq_true rfl) h (fun v10 w9 hle h => ?_) (fun _ _ _ h => kzx_no rfl h)
      have h := h hle
      exact kz_iret (M := kt_M346) kX13_action_c16.2.1 rfl rfl h
    · skip
      refine kz_aload_n (M := kt_M346) kX13_action_c5.2.2.2.2.2.2.1 rfl ?_
      refine kz_iload_n (M := kt_M346) kX13_action_c5.2.2.2.2.2.2.2.1 rfl ?_
      refine kz_bi (M := kt_M346) 26 kX13_action_c6.1 rfl ?_
      refine kz_icmp_ne (M := kt_M346) kX13_action_c6.2.1 (t := 165) rfl h (fun h => ?_) (fun h => ?_)
      · skip
        refine kz_bi (M := kt_M346) 11 kX13_action_c6.2.2.2.2.1 rfl ?_
        exact kz_weak [(0, .ref (w_adr E.2.1 12 0)), (1, .int x1), (2, .int (w_a w 12 0 9 (w_i w 12 0 35).toNatClampNeg))] ⟨rfl, ⟨rfl, ⟨rfl, trivial⟩⟩⟩ rfl (zt_X13_action_p167 hL  h)
      · skip
        refine kz_bi (M := kt_M346) 10 kX13_action_c6.2.2.1 rfl ?_
        refine kz_goto (M := kt_M346) kX13_action_c6.2.2.2.1 (t := 167) rfl ?_
        exact kz_weak [(0, .ref (w_adr E.2.1 12 0)), (1, .int x1), (2, .int (w_a w 12 0 9 (w_i w 12 0 35).toNatClampNeg))] ⟨rfl, ⟨rfl, ⟨rfl, trivial⟩⟩⟩ rfl (zt_X13_action_p167 hL  h)
    · skip
      refine kz_aload_n (M := kt_M346) kX13_action_c4.2.2.1 rfl ?_
      refine kz_cv0 (M := kt_M346) (c := 12) (o := 0) (As := []) (rest := []) kX13_action_c4.2.2.2.1 wl_X13_616 wMv_400 rfl (.inl rfl) rfl (Nat.le_trans (Nat.le_of_ble_eq_true rfl) hL) (Nat.le_of_ble_eq_true rfl) (Nat.le_of_ble_eq_true rfl) h (fun w11 hle h => ?_) (fun _ _ _ h => kzx_no rfl h)
      have h := h hle
      refine kz_aload_n (M := kt_M346) kX13_action_c4.2.2.2.2.1 rfl ?_
      refine kz_iload_n (M := kt_M346) kX13_action_c4.2.2.2.2.2.1 rfl ?_
      refine kz_bi (M := kt_M346) 28 kX13_action_c4.2.2.2.2.2.2.1 rfl ?_
      refine kz_icmp_ne (M := kt_M346) kX13_action_c4.2.2.2.2.2.2.2.1 (t := 147) rfl h (fun h => ?_) (fun h => ?_)
      · skip
        refine kz_ic (M := kt_M346) 3 kX13_action_c5.2.2.1 rfl ?_
        exact kz_weak [(0, .ref (w_adr E.2.1 12 0)), (2, .int (w_a w 12 0 9 (w_i w 12 0 35).toNatClampNeg))] ⟨rfl, ⟨rfl, trivial⟩⟩ rfl (zt_X13_action_p148 hL  h)
      · skip
        refine kz_ic (M := kt_M346) 2 kX13_action_c5.1 rfl ?_
        refine kz_goto (M := kt_M346) kX13_action_c5.2.1 (t := 148) rfl ?_
        exact kz_weak [(0, .ref (w_adr E.2.1 12 0)), (2, .int (w_a w 12 0 9 (w_i w 12 0 35).toNatClampNeg))] ⟨rfl, ⟨rfl, trivial⟩⟩ rfl (zt_X13_action_p148 hL  h)
    · skip
      refine kz_aload_n (M := kt_M346) kX13_action_c4.2.2.1 rfl ?_
      refine kz_cv0 (M := kt_M346) (c := 12) (o := 0) (As := []) (rest := []) kX13_action_c4.2.2.2.1 wl_X13_616 wMv_400 rfl (.inl rfl) rfl (Nat.le_trans (Nat.le_of_ble_eq_true rfl) hL) (Nat.le_of_ble_eq_true rfl) (Nat.le_of_ble_eq_true rfl) h (fun w13 hle h => ?_) (fun _ _ _ h => kzx_no rfl h)
      have h := h hle
      refine kz_aload_n (M := kt_M346) kX13_action_c4.2.2.2.2.1 rfl ?_
      refine kz_iload_n (M := kt_M346) kX13_action_c4.2.2.2.2.2.1 rfl ?_
      refine kz_bi (M := kt_M346) 28 kX13_action_c4.2.2.2.2.2.2.1 rfl ?_
      refine kz_icmp_ne (M := kt_M346) kX13_action_c4.2.2.2.2.2.2.2.1 (t := 147) rfl h (fun h => ?_) (fun h => ?_)
      · skip
        refine kz_ic (M := kt_M346) 3 kX13_action_c5.2.2.1 rfl ?_
        exact kz_weak [(0, .ref (w_adr E.2.1 12 0)), (2, .int (w_a w 12 0 9 (w_i w 12 0 35).toNatClampNeg))] ⟨rfl, ⟨rfl, trivial⟩⟩ rfl (zt_X13_action_p148 hL  h)
      · skip
        refine kz_ic (M := kt_M346) 2 kX13_action_c5.1 rfl ?_
        refine kz_goto (M := kt_M346) kX13_action_c5.2.1 (t := 148) rfl ?_
        exact kz_weak [(0, .ref (w_adr E.2.1 12 0)), (2, .int (w_a w 12 0 9 (w_i w 12 0 35).toNatClampNeg))] ⟨rfl, ⟨rfl, trivial⟩⟩ rfl (zt_X13_action_p148 hL  h)
    · skip
      refine kz_aload_n (M := kt_M346) kX13_action_c12.2.1 rfl ?_
      refine kz_bi (M := kt_M346) 16 kX13_action_c12.2.2.1 rfl ?_
      refine kz_iload_n (M := kt_M346) kX13_action_c12.2.2.2.1 rfl ?_
      refine kz_cv1 (M := kt_M346) (c := 12) (o := 0) (As := [.int 16, .int (w_a w 12 0 9 (w_i w 12 0 35).toNatClampNeg)]) (rest := []) kX13_action_c12.2.2.2.2.1 wl_X13_592 wMv_494 rfl (.inl rfl) rfl (Nat.le_trans (Nat.le_of_ble_eq_true rfl) hL) (Nat.le_of_ble_eq_true rfl) (Nat.le_of_ble_eq_true rfl) h (fun v16 w15 hle h => ?_) (fun _ _ _ h => kzx_no rfl h)
      have h := h hle
      refine kz_sti (M := kt_M346) [(0, .ref (w_adr E.2.1 12 0)), (1, .int x1)] kX13_action_c12.2.2.2.2.2.1 (Nat.le_of_ble_eq_true rfl) ⟨⟨rfl, rfl, .inl rfl⟩, ⟨⟨rfl, rfl, .inl rfl⟩, trivial⟩⟩ rfl ?_
      refine kz_aload_n (M := kt_M346) kX13_action_c12.2.2.2.2.2.2.1 rfl ?_
      refine kz_gfc (M := kt_M346) (x := 4100) (c := 12) (o := 0) kX13_action_c12.2.2.2.2.2.2.2.1 wf_X13_193 (.inl rfl) ?_
      refine kz_iload (M := kt_M346) kX13_action_c13.1 rfl ?_
      refine kz_aload_n (M := kt_M346) kX13_action_c13.2.1 rfl ?_
      refine kz_cv1 (M := kt_M346) (c := 12) (o := 0) (As := []) (rest := [.int v16, .ref (E.2.1 4100)]) kX13_action_c13.2.2.1 wl_X13_632 wMv_393 rfl (.inl rfl) rfl (Nat.le_trans (Nat.le_of_ble_eq_true rfl) hL) (Nat.le_of_ble_eq_true rfl) (Nat.le_of_ble_eq_true rfl) h (fun v18 w17 hle h => ?_) (fun _ _ _ h => kzx_no rfl h)
      have h := h hle
      refine kz_iast (M := kt_M346) (c := 12) (o := 0) (k := 28) (a := (E.2.1 4100)) kX13_action_c13.2.2.2.1 ow_12_0_28 oa_12_0_28 ot_0 h (fun h => ?_)
      refine kz_aload_n (M := kt_M346) kX13_action_c13.2.2.2.2.1 rfl ?_
      refine kz_cv0 (M := kt_M346) (c := 12) (o := 0) (As := []) (rest := []) kX13_action_c13.2.2.2.2.2.1 wl_X13_616 wMv_400 rfl (.inl rfl) rfl (Nat.le_trans (Nat.le_of_ble_eq_true rfl) hL) (Nat.le_of_ble_eq_true rfl) (Nat.le_of_ble_eq_true rfl) h (fun w19 hle h => ?_) (fun _ _ _ h => kzx_no rfl h)
      have h := h hle
      refine kz_aload_n (M := kt_M346) kX13_action_c13.2.2.2.2.2.2.1 rfl ?_
      refine kz_gfc (M := kt_M346) (x := 4101) (c := 12) (o := 0) kX13_action_c13.2.2.2.2.2.2.2.1 wf_X13_196 (.inl rfl) ?_
      refine kz_iload (M := kt_M346) kX13_action_c14.1 rfl ?_
      refine kz_aload_n (M := kt_M346) kX13_action_c14.2.1 rfl ?_
      refine kz_iload_n (M := kt_M346) kX13_action_c14.2.2.1 rfl ?_
      refine kz_ic (M := kt_M346) 1 kX13_action_c14.2.2.2.1 rfl ?_
      refine kz_iadd (M := kt_M346) kX13_action_c14.2.2.2.2.1 ?_
      refine kz_cv1 (M := kt_M346) (c := 12) (o := 0) (As := [.int (x1 + 1)]) (rest := [.int v16, .ref (E.2.1 4101)]) kX13_action_c14.2.2.2.2.2.1 wl_X13_604 wMv_514 rfl (.inl rfl) rfl (Nat.le_trans (Nat.le_of_ble_eq_true rfl) hL) (Nat.le_of_ble_eq_true rfl) (Nat.le_of_ble_eq_true rfl) h (fun v22 w21 hle h => ?_) (fun _ _ _ h => kzx_no rfl h)
      have h := h hle
      refine kz_iast (M := kt_M346) (c := 12) (o := 0) (k := 29) (a := (E.2.1 4101)) kX13_action_c14.2.2.2.2.2.2.1 ow_12_0_29 oa_12_0_29 ot_0 h (fun h => ?_)
      refine kz_iload (M := kt_M346) kX13_action_c14.2.2.2.2.2.2.2.1 rfl ?_
      exact kz_iret (M := kt_M346) kX13_action_c15.1 rfl rfl h
    · skip
      refine kz_aload_n (M := kt_M346) kX13_action_c16.2.2.1 rfl ?_
      refine kz_iload_n (M := kt_M346) kX13_action_c16.2.2.2.1 rfl ?_
      refine kz_iload_n (M := kt_M346) kX13_action_c16.2.2.2.2.1 rfl ?_
      refine kz_ic (M := kt_M346) 0 kX13_action_c16.2.2.2.2.2.1 rfl ?_
      refine kz_cv1 (M := kt_M346) (c := 12) (o := 0) (As := [.int x1, .int (w_a w 12 0 9 (w_i w 12 0 35).toNatClampNeg), .int 0]) (rest := []) kX13_action_c16.2.2.2.2.2.2.1 wl_X13_635 wMv_350 rfl (.inl rfl) rfl (Nat.le_trans (Nat.le_of_ble_eq_true rfl) hL) (Nat.le_of_ble_eq_true rfl) (Nat.le_of_ble_eq_true rfl) h (fun v24 w23 hle h => ?_) (fun _ _ _ h => kzx_no rfl h)
      have h := h hle
      exact kz_iret (M := kt_M346) kX13_action_c16.2.2.2.2.2.2.2.1 rfl rfl h
  · skip
    refine kz_aload_n (M := kt_M346) kX13_action_c1.2.2.2.2.1 rfl ?_
    refine kz_ic (M := kt_M346) 1 kX13_action_c1.2.2.2.2.2.1 rfl ?_
    refine kz_cv1 (M := kt_M346) (c := 12) (o := 0) (As := [.int 1]) (rest := []) kX13_action_c1.2.2.2.2.2.2.1 wl_X13_607 wMv_349 rfl (.inl rfl) rfl (Nat.le_trans (Nat.le_of_ble_eq_true rfl) hL) (Nat.le_of_ble_eq_true rfl) (Nat.le_of_ble_eq_true rfl) h (fun v26 w25 hle h => ?_) (fun _ _ _ h => kzx_no rfl h)
    have h := h hle
    refine kz_bi (M := kt_M346) 40 kX13_action_c1.2.2.2.2.2.2.2.1 rfl ?_
    refine kz_icmp_ne (M := kt_M346) kX13_action_c2.1 (t := 39) rfl h (fun h => ?_) (fun h => ?_)
    · skip
      refine kz_aload_n (M := kt_M346) kX13_action_c2.2.2.2.2.2.1 rfl ?_
      refine kz_iload_n (M := kt_M346) kX13_action_c2.2.2.2.2.2.2.1 rfl ?_
      refine kz_iload_n (M := kt_M346) kX13_action_c2.2.2.2.2.2.2.2.1 rfl ?_
      refine kz_cv1 (M := kt_M346) (c := 12) (o := 0) (As := [.int x1, .int (w_a w 12 0 9 (w_i w 12 0 35).toNatClampNeg)]) (rest := []) kX13_action_c3.1 wl_X13_613 wMv_397 rfl (.inl rfl) rfl (Nat.le_trans (Nat.le_of_ble_eq_true rfl) hL) (Nat.le_of_ble_eq_true rfl) (Nat.le_of_ble_eq_true rfl) h (fun v28 w27 hle h => ?_) (fun _ _ _ h => kzx_no rfl h)
      have h := h hle
      exact kz_weak [(0, .ref (w_adr E.2.1 12 0))] ⟨rfl, trivial⟩ rfl (zt_X13_action_p45 hL  h)
    · skip
      refine kz_aload_n (M := kt_M346) kX13_action_c2.2.1 rfl ?_
      refine kz_iload_n (M := kt_M346) kX13_action_c2.2.2.1 rfl ?_
      refine kz_cv1 (M := kt_M346) (c := 12) (o := 0) (As := [.int (w_a w 12 0 9 (w_i w 12 0 35).toNatClampNeg)]) (rest := []) kX13_action_c2.2.2.2.1 wl_X13_610 wMv_362 rfl (.inl rfl) rfl (Nat.le_trans (Nat.le_of_ble_eq_true rfl) hL) (Nat.le_of_ble_eq_true rfl) (Nat.le_of_ble_eq_true rfl) h (fun v30 w29 hle h => ?_) (fun _ _ _ h => kzx_no rfl h)
      have h := h hle
      refine kz_goto (M := kt_M346) kX13_action_c2.2.2.2.2.1 (t := 45) rfl ?_
      exact kz_weak [(0, .ref (w_adr E.2.1 12 0))] ⟨rfl, trivial⟩ rfl (zt_X13_action_p45 hL  h)
def zb_X13_call_p0 (E : zE) (L : Nat) (Q : kx_Rs → wS → Prop) (x1 : Int32) (w : wS) : Prop := zw E (L - 22) kt_M494 [.ref (w_adr E.2.1 12 0), .int 9, .int x1] w (wk1 (fun v2 w1 => wle w w1 → zw E (L - 20) kt_M601 [.ref (w_adr E.2.1 12 0)] w1 (wk1 (fun v4 w3 => wle w1 w3 → (kx_inb v2 (w_n w3 12 0 30) = true ∧ zw E (L - 21) kt_M352 [.ref (w_adr E.2.1 12 0)] (ws_a w3 12 0 30 (v2).toNatClampNeg v4) (wk1 (fun v6 w5 => wle (ws_a w3 12 0 30 (v2).toNatClampNeg v4) w5 → (kx_inb v2 (w_n w5 12 0 28) = true ∧ zw E (L - 20) kt_M400 [.ref (w_adr E.2.1 12 0)] (ws_a w5 12 0 28 (v2).toNatClampNeg v6) (wk0 (fun w7 => wle (ws_a w5 12 0 28 (v2).toNatClampNeg v6) w7 → Q (.inl (some (.int v2))) w7) (fun e w => Q (.inr e) w)))) (fun e w => Q (.inr e) w)))) (fun e w => Q (.inr e) w))) (fun e w => Q (.inr e) w))
theorem zt_X13_call_p0 {E : zE} {L : Nat} {Q : kx_Rs → wS → Prop} {x1 : Int32} {w : wS} (hL : 22 ≤ L) (h : zb_X13_call_p0 E L Q x1 w) : kzE E L kt_M362 0 [(0, .ref (w_adr E.2.1 12 0)), (1, .int x1)] [] w Q := by
  unfold zb_X13_call_p0 at h
  refine kz_aload_n (M := kt_M362) kX13_call_c0.1 rfl ?_
  refine kz_bi (M := kt_M362) 9 kX13_call_c0.2.1 rfl ?_
  refine kz_iload_n (M := kt_M362) kX13_call_c0.2.2.1 rfl ?_
  refine kz_cv1 (M := kt_M362) (c := 12) (o := 0) (As := [.int 9, .int x1]) (rest := []) kX13_call_c0.2.2.2.1 wl_X13_592 wMv_494 rfl (.inl rfl) rfl (Nat.le_trans (Nat.le_of_ble_eq_true rfl) hL) (Nat.le_of_ble_eq_true rfl) (Nat.le_of_ble_eq_true rfl) h (fun v2 w1 hle h => ?_) (fun _ _ _ h => kzx_no rfl h)
  have h := h hle
  refine kz_sti_n (M := kt_M362) [(0, .ref (w_adr E.2.1 12 0))] kX13_call_c0.2.2.2.2.1 (Nat.le_of_ble_eq_true rfl) ⟨⟨rfl, rfl, .inl rfl⟩, trivial⟩ rfl ?_
  refine kz_aload_n (M := kt_M362) kX13_call_c0.2.2.2.2.2.1 rfl ?_
  refine kz_gfc (M := kt_M362) (x := 4102) (c := 12) (o := 0) kX13_call_c0.2.2.2.2.2.2.1 wf_X13_199 (.inl rfl) ?_
  refine kz_iload_n (M := kt_M362) kX13_call_c0.2.2.2.2.2.2.2.1 rfl ?_
  refine kz_aload_n (M := kt_M362) kX13_call_c1.1 rfl ?_
  refine kz_cv1 (M := kt_M362) (c := 12) (o := 0) (As := []) (rest := [.int v2, .ref (E.2.1 4102)]) kX13_call_c1.2.1 wl_X13_639 wMv_601 rfl (.inl rfl) rfl (Nat.le_trans (Nat.le_of_ble_eq_true rfl) hL) (Nat.le_of_ble_eq_true rfl) (Nat.le_of_ble_eq_true rfl) h (fun v4 w3 hle h => ?_) (fun _ _ _ h => kzx_no rfl h)
  have h := h hle
  refine kz_iast (M := kt_M362) (c := 12) (o := 0) (k := 30) (a := (E.2.1 4102)) kX13_call_c1.2.2.1 ow_12_0_30 oa_12_0_30 ot_0 h (fun h => ?_)
  refine kz_aload_n (M := kt_M362) kX13_call_c1.2.2.2.1 rfl ?_
  refine kz_gfc (M := kt_M362) (x := 4100) (c := 12) (o := 0) kX13_call_c1.2.2.2.2.1 wf_X13_193 (.inl rfl) ?_
  refine kz_iload_n (M := kt_M362) kX13_call_c1.2.2.2.2.2.1 rfl ?_
  refine kz_aload_n (M := kt_M362) kX13_call_c1.2.2.2.2.2.2.1 rfl ?_
  refine kz_cv1 (M := kt_M362) (c := 12) (o := 0) (As := []) (rest := [.int v2, .ref (E.2.1 4100)]) kX13_call_c1.2.2.2.2.2.2.2.1 wl_X13_663 wMv_352 rfl (.inl rfl) rfl (Nat.le_trans (Nat.le_of_ble_eq_true rfl) hL) (Nat.le_of_ble_eq_true rfl) (Nat.le_of_ble_eq_true rfl) h (fun v6 w5 hle h => ?_) (fun _ _ _ h => kzx_no rfl h)
  have h := h hle
  refine kz_iast (M := kt_M362) (c := 12) (o := 0) (k := 28) (a := (E.2.1 4100)) kX13_call_c2.1 ow_12_0_28 oa_12_0_28 ot_0 h (fun h => ?_)
  refine kz_aload_n (M := kt_M362) kX13_call_c2.2.1 rfl ?_
  refine kz_cv0 (M := kt_M362) (c := 12) (o := 0) (As := []) (rest := []) kX13_call_c2.2.2.1 wl_X13_616 wMv_400 rfl (.inl rfl) rfl (Nat.le_trans (Nat.le_of_ble_eq_true rfl) hL) (Nat.le_of_ble_eq_true rfl) (Nat.le_of_ble_eq_true rfl) h (fun w7 hle h => ?_) (fun _ _ _ h => kzx_no rfl h)
  have h := h hle
  refine kz_iload_n (M := kt_M362) kX13_call_c2.2.2.2.1 rfl ?_
  exact kz_iret (M := kt_M362) kX13_call_c2.2.2.2.2.1 rfl rfl h
def zL_X13_element_p142 (E : zE) (L : Nat) (Q : kx_Rs → wS → Prop) (x4 : Int32) (x5 : Int32) (x6 : Int32) (w : wS) : Prop := kzE E L kt_M397 142 [(0, .ref (w_adr E.2.1 12 0)), (4, .int x4), (5, .int x5), (6, .int x6)] [] w Q
def zL_X13_element_p73 (E : zE) (L : Nat) (Q : kx_Rs → wS → Prop) (x4 : Int32) (x5 : Int32) (x6 : Int32) (w : wS) : Prop := kzE E L kt_M397 73 [(0, .ref (w_adr E.2.1 12 0)), (4, .int x4), (5, .int x5), (6, .int x6)] [] w Q
def zb_X13_element_p142 (E : zE) (L : Nat) (Q : kx_Rs → wS → Prop) (x4 : Int32) (x5 : Int32) (x6 : Int32) (w : wS) : Prop := zw E (L - 21) kt_M466 [.ref (w_adr E.2.1 12 0), .int 44] w (wk1 (fun v2 w1 => wle w w1 → (if v2 = 0 then zw E (L - 21) kt_M600 [.ref (w_adr E.2.1 12 0), .int 47] w1 (wk0 (fun w3 => wle w1 w3 → zw E (L - 22) kt_M459 [.ref (w_adr E.2.1 12 0)] w3 (wk1 (fun v6 w5 => wle w3 w5 → (kx_inb x4 (w_n w5 12 0 29) = true ∧ zw E (L - 20) kt_M400 [.ref (w_adr E.2.1 12 0)] (ws_a w5 12 0 29 (x4).toNatClampNeg v6) (wk0 (fun w7 => wle (ws_a w5 12 0 29 (x4).toNatClampNeg v6) w7 → Q (.inl (some (.int x4))) w7) (fun e w => Q (.inr e) w)))) (fun e w => Q (.inr e) w))) (fun e w => Q (.inr e) w)) else (if ¬ x6 = 8 then zw E (L - 23) kt_M396 [.ref (w_adr E.2.1 12 0)] w1 (wk1 (fun v10 w9 => wle w1 w9 → zw E (L - 22) kt_M368 [.ref (w_adr E.2.1 12 0), .int x5, .int v10] w9 (wk1 (fun v12 w11 => wle w9 w11 → zL_X13_element_p142 E L Q x4 v12 (x6 + 1) w11) (fun e w => Q (.inr e) w))) (fun e w => Q (.inr e) w)) else zw E (L - 22) kt_M545 [.ref (w_adr E.2.1 12 0), .int 2] w1 (wkr (fun v14 w13 => wle w1 w13 → (v14 = some (w_adr E.2.1 13 0) ∧ Q (.inr "MeetingHouseModel$Halt") w13)) (fun e w => Q (.inr e) w))))) (fun e w => Q (.inr e) w))
theorem zt_X13_element_p142 {E : zE} {L : Nat} {Q : kx_Rs → wS → Prop} {x4 : Int32} {x5 : Int32} {x6 : Int32} {w : wS} (hL : 26 ≤ L) (h : zb_X13_element_p142 E L Q x4 x5 x6 w) : kzE E L kt_M397 142 [(0, .ref (w_adr E.2.1 12 0)), (4, .int x4), (5, .int x5), (6, .int x6)] [] w Q := by
  unfold zb_X13_element_p142 at h
  refine kz_aload_n (M := kt_M397) kX13_element_c9.2.2.2.2.2.2.2.1 rfl ?_
  refine kz_bi (M := kt_M397) 44 kX13_element_c10.1 rfl ?_
  refine kz_cv1 (M := kt_M397) (c := 12) (o := 0) (As := [.int 44]) (rest := []) kX13_element_c10.2.1 wl_X13_642 wMv_466 rfl (.inl rfl) rfl (Nat.le_trans (Nat.le_of_ble_eq_true rfl) hL) (Nat.le_of_ble_eq_true rfl) (Nat.le_of_ble_eq_true rfl) h (fun v2 w1 hle h => ?_) (fun _ _ _ h => kzx_no rfl h)
  have h := h hle
  refine kz_if_eq (M := kt_M397) kX13_element_c10.2.2.1 (t := 182) rfl h (fun h => ?_) (fun h => ?_)
  · skip
    refine kz_aload_n (M := kt_M397) kX13_element_c12.2.2.1 rfl ?_
    refine kz_bi (M := kt_M397) 47 kX13_element_c12.2.2.2.1 rfl ?_
    refine kz_cv0 (M := kt_M397) (c := 12) (o := 0) (As := [.int 47]) (rest := []) kX13_element_c12.2.2.2.2.1 wl_X13_585 wMv_600 rfl (.inl rfl) rfl (Nat.le_trans (Nat.le_of_ble_eq_true rfl) hL) (Nat.le_of_ble_eq_true rfl) (Nat.le_of_ble_eq_true rfl) h (fun w3 hle h => ?_) (fun _ _ _ h => kzx_no rfl h)
    have h := h hle
    refine kz_aload_n (M := kt_M397) kX13_element_c12.2.2.2.2.2.1 rfl ?_
    refine kz_gfc (M := kt_M397) (x := 4101) (c := 12) (o := 0) kX13_element_c12.2.2.2.2.2.2.1 wf_X13_196 (.inl rfl) ?_
    refine kz_iload (M := kt_M397) kX13_element_c12.2.2.2.2.2.2.2.1 rfl ?_
    refine kz_aload_n (M := kt_M397) kX13_element_c13.1 rfl ?_
    refine kz_cv1 (M := kt_M397) (c := 12) (o := 0) (As := []) (rest := [.int x4, .ref (E.2.1 4101)]) kX13_element_c13.2.1 wl_X13_645 wMv_459 rfl (.inl rfl) rfl (Nat.le_trans (Nat.le_of_ble_eq_true rfl) hL) (Nat.le_of_ble_eq_true rfl) (Nat.le_of_ble_eq_true rfl) h (fun v6 w5 hle h => ?_) (fun _ _ _ h => kzx_no rfl h)
    have h := h hle
    refine kz_iast (M := kt_M397) (c := 12) (o := 0) (k := 29) (a := (E.2.1 4101)) kX13_element_c13.2.2.1 ow_12_0_29 oa_12_0_29 ot_0 h (fun h => ?_)
    refine kz_aload_n (M := kt_M397) kX13_element_c13.2.2.2.1 rfl ?_
    refine kz_cv0 (M := kt_M397) (c := 12) (o := 0) (As := []) (rest := []) kX13_element_c13.2.2.2.2.1 wl_X13_616 wMv_400 rfl (.inl rfl) rfl (Nat.le_trans (Nat.le_of_ble_eq_true rfl) hL) (Nat.le_of_ble_eq_true rfl) (Nat.le_of_ble_eq_true rfl) h (fun w7 hle h => ?_) (fun _ _ _ h => kzx_no rfl h)
    have h := h hle
    refine kz_iload (M := kt_M397) kX13_element_c13.2.2.2.2.2.1 rfl ?_
    exact kz_iret (M := kt_M397) kX13_element_c13.2.2.2.2.2.2.1 rfl rfl h
  · skip
    refine kz_iload (M := kt_M397) kX13_element_c10.2.2.2.1 rfl ?_
    refine kz_bi (M := kt_M397) 8 kX13_element_c10.2.2.2.2.1 rfl ?_
    refine kz_icmp_ne (M := kt_M397) kX13_element_c10.2.2.2.2.2.1 (t := 164) rfl h (fun h => ?_) (fun h => ?_)
    · skip
      refine kz_aload_n (M := kt_M397) kX13_element_c11.2.2.1 rfl ?_
      refine kz_iload (M := kt_M397) kX13_element_c11.2.2.2.1 rfl ?_
      refine kz_aload_n (M := kt_M397) kX13_element_c11.2.2.2.2.1 rfl ?_
      refine kz_cv1 (M := kt_M397) (c := 12) (o := 0) (As := []) (rest := [.int x5, .ref (w_adr E.2.1 12 0)]) kX13_element_c11.2.2.2.2.2.1 wl_X13_651 wMv_396 rfl (.inl rfl) rfl (Nat.le_trans (Nat.le_of_ble_eq_true rfl) hL) (Nat.le_of_ble_eq_true rfl) (Nat.le_of_ble_eq_true rfl) h (fun v10 w9 hle h => ?_) (fun _ _ _ h => kzx_no rfl h)
      have h := h hle
      refine kz_cv1 (M := kt_M397) (c := 12) (o := 0) (As := [.int x5, .int v10]) (rest := []) kX13_element_c11.2.2.2.2.2.2.1 wl_X13_598 wMv_368 rfl (.inl rfl) rfl (Nat.le_trans (Nat.le_of_ble_eq_true rfl) hL) (Nat.le_of_ble_eq_true rfl) (Nat.le_of_ble_eq_true rfl) h (fun v12 w11 hle h => ?_) (fun _ _ _ h => kzx_no rfl h)
      have h := h hle
      refine kz_sti (M := kt_M397) [(0, .ref (w_adr E.2.1 12 0)), (4, .int x4), (6, .int x6)] kX13_element_c11.2.2.2.2.2.2.2.1 (Nat.le_of_ble_eq_true rfl) ⟨⟨rfl, rfl, .inl rfl⟩, ⟨⟨rfl, rfl, .inr rfl⟩, ⟨⟨rfl, rfl, .inl rfl⟩, trivial⟩⟩⟩ rfl ?_
      refine kz_inc (M := kt_M397) [(0, .ref (w_adr E.2.1 12 0)), (4, .int x4), (5, .int v12)] kX13_element_c12.1 rfl (Nat.le_of_ble_eq_true rfl) ⟨⟨rfl, rfl, .inl rfl⟩, ⟨⟨rfl, rfl, .inl rfl⟩, ⟨⟨rfl, rfl, .inr rfl⟩, trivial⟩⟩⟩ rfl ?_
      refine kz_goto (M := kt_M397) kX13_element_c12.2.1 (t := 142) rfl ?_
      exact kz_weak [(0, .ref (w_adr E.2.1 12 0)), (4, .int x4), (5, .int v12), (6, .int (x6 + 1))] ⟨rfl, ⟨rfl, ⟨rfl, ⟨rfl, trivial⟩⟩⟩⟩ rfl h
    · skip
      refine kz_aload_n (M := kt_M397) kX13_element_c10.2.2.2.2.2.2.1 rfl ?_
      refine kz_ic (M := kt_M397) 2 kX13_element_c10.2.2.2.2.2.2.2.1 rfl ?_
      refine kz_cvr (M := kt_M397) (c := 12) (o := 0) (As := [.int 2]) (rest := []) kX13_element_c11.1 wl_X13_556 wMv_545 rfl (.inl rfl) rfl (Nat.le_trans (Nat.le_of_ble_eq_true rfl) hL) (Nat.le_of_ble_eq_true rfl) (Nat.le_of_ble_eq_true rfl) h (fun v14 w13 hle h => ?_) (fun _ _ _ h => kzx_no rfl h)
      have h := h hle
      exact kz_throw (M := kt_M397) (c := 13) (o := 0) kX13_element_c11.2.1 rfl (.inl rfl) h (fun h => kzx_no rfl h)
def zb_X13_element_p73 (E : zE) (L : Nat) (Q : kx_Rs → wS → Prop) (x4 : Int32) (x5 : Int32) (x6 : Int32) (w : wS) : Prop := zw E (L - 21) kt_M466 [.ref (w_adr E.2.1 12 0), .int 45] w (wk1 (fun v2 w1 => wle w w1 → (if v2 = 0 then zw E (L - 20) kt_M400 [.ref (w_adr E.2.1 12 0)] w1 (wk0 (fun w3 => wle w1 w3 → Q (.inl (some (.int x4))) w3) (fun e w => Q (.inr e) w)) else (if ¬ x6 = 16 then zw E (L - 22) kt_M393 [.ref (w_adr E.2.1 12 0)] w1 (wk1 (fun v6 w5 => wle w1 w5 → zw E (L - 22) kt_M368 [.ref (w_adr E.2.1 12 0), .int x5, .int v6] w5 (wk1 (fun v8 w7 => wle w5 w7 → zL_X13_element_p73 E L Q x4 v8 (x6 + 1) w7) (fun e w => Q (.inr e) w))) (fun e w => Q (.inr e) w)) else zw E (L - 22) kt_M545 [.ref (w_adr E.2.1 12 0), .int 2] w1 (wkr (fun v10 w9 => wle w1 w9 → (v10 = some (w_adr E.2.1 13 0) ∧ Q (.inr "MeetingHouseModel$Halt") w9)) (fun e w => Q (.inr e) w))))) (fun e w => Q (.inr e) w))
theorem zt_X13_element_p73 {E : zE} {L : Nat} {Q : kx_Rs → wS → Prop} {x4 : Int32} {x5 : Int32} {x6 : Int32} {w : wS} (hL : 26 ≤ L) (h : zb_X13_element_p73 E L Q x4 x5 x6 w) : kzE E L kt_M397 73 [(0, .ref (w_adr E.2.1 12 0)), (4, .int x4), (5, .int x5), (6, .int x6)] [] w Q := by
  unfold zb_X13_element_p73 at h
  refine kz_aload_n (M := kt_M397) kX13_element_c5.2.2.1 rfl ?_
  refine kz_bi (M := kt_M397) 45 kX13_element_c5.2.2.2.1 rfl ?_
  refine kz_cv1 (M := kt_M397) (c := 12) (o := 0) (As := [.int 45]) (rest := []) kX13_element_c5.2.2.2.2.1 wl_X13_642 wMv_466 rfl (.inl rfl) rfl (Nat.le_trans (Nat.le_of_ble_eq_true rfl) hL) (Nat.le_of_ble_eq_true rfl) (Nat.le_of_ble_eq_true rfl) h (fun v2 w1 hle h => ?_) (fun _ _ _ h => kzx_no rfl h)
  have h := h hle
  refine kz_if_eq (M := kt_M397) kX13_element_c5.2.2.2.2.2.1 (t := 113) rfl h (fun h => ?_) (fun h => ?_)
  · skip
    refine kz_aload_n (M := kt_M397) kX13_element_c7.2.2.2.2.2.1 rfl ?_
    refine kz_cv0 (M := kt_M397) (c := 12) (o := 0) (As := []) (rest := []) kX13_element_c7.2.2.2.2.2.2.1 wl_X13_616 wMv_400 rfl (.inl rfl) rfl (Nat.le_trans (Nat.le_of_ble_eq_true rfl) hL) (Nat.le_of_ble_eq_true rfl) (Nat.le_of_ble_eq_true rfl) h (fun w3 hle h => ?_) (fun _ _ _ h => kzx_no rfl h)
    have h := h hle
    refine kz_iload (M := kt_M397) kX13_element_c7.2.2.2.2.2.2.2.1 rfl ?_
    exact kz_iret (M := kt_M397) kX13_element_c8.1 rfl rfl h
  · skip
    refine kz_iload (M := kt_M397) kX13_element_c5.2.2.2.2.2.2.1 rfl ?_
    refine kz_bi (M := kt_M397) 16 kX13_element_c5.2.2.2.2.2.2.2.1 rfl ?_
    refine kz_icmp_ne (M := kt_M397) kX13_element_c6.1 (t := 95) rfl h (fun h => ?_) (fun h => ?_)
    · skip
      refine kz_aload_n (M := kt_M397) kX13_element_c6.2.2.2.2.2.1 rfl ?_
      refine kz_iload (M := kt_M397) kX13_element_c6.2.2.2.2.2.2.1 rfl ?_
      refine kz_aload_n (M := kt_M397) kX13_element_c6.2.2.2.2.2.2.2.1 rfl ?_
      refine kz_cv1 (M := kt_M397) (c := 12) (o := 0) (As := []) (rest := [.int x5, .ref (w_adr E.2.1 12 0)]) kX13_element_c7.1 wl_X13_632 wMv_393 rfl (.inl rfl) rfl (Nat.le_trans (Nat.le_of_ble_eq_true rfl) hL) (Nat.le_of_ble_eq_true rfl) (Nat.le_of_ble_eq_true rfl) h (fun v6 w5 hle h => ?_) (fun _ _ _ h => kzx_no rfl h)
      have h := h hle
      refine kz_cv1 (M := kt_M397) (c := 12) (o := 0) (As := [.int x5, .int v6]) (rest := []) kX13_element_c7.2.1 wl_X13_598 wMv_368 rfl (.inl rfl) rfl (Nat.le_trans (Nat.le_of_ble_eq_true rfl) hL) (Nat.le_of_ble_eq_true rfl) (Nat.le_of_ble_eq_true rfl) h (fun v8 w7 hle h => ?_) (fun _ _ _ h => kzx_no rfl h)
      have h := h hle
      refine kz_sti (M := kt_M397) [(0, .ref (w_adr E.2.1 12 0)), (4, .int x4), (6, .int x6)] kX13_element_c7.2.2.1 (Nat.le_of_ble_eq_true rfl) ⟨⟨rfl, rfl, .inl rfl⟩, ⟨⟨rfl, rfl, .inr rfl⟩, ⟨⟨rfl, rfl, .inl rfl⟩, trivial⟩⟩⟩ rfl ?_
      refine kz_inc (M := kt_M397) [(0, .ref (w_adr E.2.1 12 0)), (4, .int x4), (5, .int v8)] kX13_element_c7.2.2.2.1 rfl (Nat.le_of_ble_eq_true rfl) ⟨⟨rfl, rfl, .inl rfl⟩, ⟨⟨rfl, rfl, .inl rfl⟩, ⟨⟨rfl, rfl, .inr rfl⟩, trivial⟩⟩⟩ rfl ?_
      refine kz_goto (M := kt_M397) kX13_element_c7.2.2.2.2.1 (t := 73) rfl ?_
      exact kz_weak [(0, .ref (w_adr E.2.1 12 0)), (4, .int x4), (5, .int v8), (6, .int (x6 + 1))] ⟨rfl, ⟨rfl, ⟨rfl, ⟨rfl, trivial⟩⟩⟩⟩ rfl h
    · skip
      refine kz_aload_n (M := kt_M397) kX13_element_c6.2.1 rfl ?_
      refine kz_ic (M := kt_M397) 2 kX13_element_c6.2.2.1 rfl ?_
      refine kz_cvr (M := kt_M397) (c := 12) (o := 0) (As := [.int 2]) (rest := []) kX13_element_c6.2.2.2.1 wl_X13_556 wMv_545 rfl (.inl rfl) rfl (Nat.le_trans (Nat.le_of_ble_eq_true rfl) hL) (Nat.le_of_ble_eq_true rfl) (Nat.le_of_ble_eq_true rfl) h (fun v10 w9 hle h => ?_) (fun _ _ _ h => kzx_no rfl h)
      have h := h hle
      exact kz_throw (M := kt_M397) (c := 13) (o := 0) kX13_element_c6.2.2.2.2.1 rfl (.inl rfl) h (fun h => kzx_no rfl h)
def zb_X13_element_p0 (E : zE) (L : Nat) (Q : kx_Rs → wS → Prop) (x1 : Int32) (x2 : Int32) (w : wS) : Prop := zw E (L - 23) kt_M396 [.ref (w_adr E.2.1 12 0)] w (wk1 (fun v2 w1 => wle w w1 → zw E (L - 20) kt_M462 [.ref (w_adr E.2.1 12 0)] w1 (wk1 (fun v4 w3 => wle w1 w3 → (if ¬ v4 = 48 then zw E (L - 21) kt_M466 [.ref (w_adr E.2.1 12 0), .int 49] w3 (wk1 (fun v6 w5 => wle w3 w5 → (if v6 = 0 then zw E (L - 22) kt_M494 [.ref (w_adr E.2.1 12 0), .int 4, .int x2] w5 (wk1 (fun v8 w7 => wle w5 w7 → (kx_inb v8 (w_n w7 12 0 28) = true ∧ zL_X13_element_p142 E L Q v8 v2 1 (ws_a w7 12 0 28 (v8).toNatClampNeg v2))) (fun e w => Q (.inr e) w)) else zw E (L - 22) kt_M494 [.ref (w_adr E.2.1 12 0), .int 8, .int x2] w5 (wk1 (fun v10 w9 => wle w5 w9 → (kx_inb v10 (w_n w9 12 0 28) = true ∧ zw E (L - 22) kt_M393 [.ref (w_adr E.2.1 12 0)] (ws_a w9 12 0 28 (v10).toNatClampNeg v2) (wk1 (fun v12 w11 => wle (ws_a w9 12 0 28 (v10).toNatClampNeg v2) w11 → (kx_inb v10 (w_n w11 12 0 29) = true ∧ (kx_inb v10 (w_n w11 12 0 29) = true ∧ zL_X13_element_p73 E L Q v10 (w_a (ws_a w11 12 0 29 (v10).toNatClampNeg v12) 12 0 29 (v10).toNatClampNeg) 1 (ws_a w11 12 0 29 (v10).toNatClampNeg v12)))) (fun e w => Q (.inr e) w)))) (fun e w => Q (.inr e) w)))) (fun e w => Q (.inr e) w)) else zw E (L - 26) kt_M354 [.ref (w_adr E.2.1 12 0), .int v2, .int (x1 + 1), .int x2] w3 (wk1 (fun v14 w13 => wle w3 w13 → Q (.inl (some (.int v14))) w13) (fun e w => Q (.inr e) w)))) (fun e w => Q (.inr e) w))) (fun e w => Q (.inr e) w))
theorem zt_X13_element_p0 {E : zE} {L : Nat} {Q : kx_Rs → wS → Prop} {x1 : Int32} {x2 : Int32} {w : wS} (hL : 26 ≤ L) (h : zb_X13_element_p0 E L Q x1 x2 w) : kzE E L kt_M397 0 [(0, .ref (w_adr E.2.1 12 0)), (1, .int x1), (2, .int x2)] [] w Q := by
  unfold zb_X13_element_p0 at h
  refine kz_aload_n (M := kt_M397) kX13_element_c0.1 rfl ?_
  refine kz_cv1 (M := kt_M397) (c := 12) (o := 0) (As := []) (rest := []) kX13_element_c0.2.1 wl_X13_651 wMv_396 rfl (.inl rfl) rfl (Nat.le_trans (Nat.le_of_ble_eq_true rfl) hL) (Nat.le_of_ble_eq_true rfl) (Nat.le_of_ble_eq_true rfl) h (fun v2 w1 hle h => ?_) (fun _ _ _ h => kzx_no rfl h)
  have h := h hle
  refine kz_sti_n (M := kt_M397) [(0, .ref (w_adr E.2.1 12 0)), (1, .int x1), (2, .int x2)] kX13_element_c0.2.2.1 (Nat.le_of_ble_eq_true rfl) ⟨⟨rfl, rfl, .inl rfl⟩, ⟨⟨rfl, rfl, .inl rfl⟩, ⟨⟨rfl, rfl, .inr rfl⟩, trivial⟩⟩⟩ rfl ?_
  refine kz_aload_n (M := kt_M397) kX13_element_c0.2.2.2.1 rfl ?_
  refine kz_cv1 (M := kt_M397) (c := 12) (o := 0) (As := []) (rest := []) kX13_element_c0.2.2.2.2.1 wl_X13_560 wMv_462 rfl (.inl rfl) rfl (Nat.le_trans (Nat.le_of_ble_eq_true rfl) hL) (Nat.le_of_ble_eq_true rfl) (Nat.le_of_ble_eq_true rfl) h (fun v4 w3 hle h => ?_) (fun _ _ _ h => kzx_no rfl h)
  have h := h hle
  refine kz_bi (M := kt_M397) 48 kX13_element_c0.2.2.2.2.2.1 rfl ?_
  refine kz_icmp_ne (M := kt_M397) kX13_element_c0.2.2.2.2.2.2.1 (t := 24) rfl h (fun h => ?_) (fun h => ?_)
  · skip
    refine kz_aload_n (M := kt_M397) kX13_element_c1.2.2.2.2.2.2.2.1 rfl ?_
    refine kz_bi (M := kt_M397) 49 kX13_element_c2.1 rfl ?_
    refine kz_cv1 (M := kt_M397) (c := 12) (o := 0) (As := [.int 49]) (rest := []) kX13_element_c2.2.1 wl_X13_642 wMv_466 rfl (.inl rfl) rfl (Nat.le_trans (Nat.le_of_ble_eq_true rfl) hL) (Nat.le_of_ble_eq_true rfl) (Nat.le_of_ble_eq_true rfl) h (fun v6 w5 hle h => ?_) (fun _ _ _ h => kzx_no rfl h)
    have h := h hle
    refine kz_if_eq (M := kt_M397) kX13_element_c2.2.2.1 (t := 120) rfl h (fun h => ?_) (fun h => ?_)
    · skip
      refine kz_aload_n (M := kt_M397) kX13_element_c8.2.1 rfl ?_
      refine kz_ic (M := kt_M397) 4 kX13_element_c8.2.2.1 rfl ?_
      refine kz_iload_n (M := kt_M397) kX13_element_c8.2.2.2.1 rfl ?_
      refine kz_cv1 (M := kt_M397) (c := 12) (o := 0) (As := [.int 4, .int x2]) (rest := []) kX13_element_c8.2.2.2.2.1 wl_X13_592 wMv_494 rfl (.inl rfl) rfl (Nat.le_trans (Nat.le_of_ble_eq_true rfl) hL) (Nat.le_of_ble_eq_true rfl) (Nat.le_of_ble_eq_true rfl) h (fun v8 w7 hle h => ?_) (fun _ _ _ h => kzx_no rfl h)
      have h := h hle
      refine kz_sti (M := kt_M397) [(0, .ref (w_adr E.2.1 12 0)), (3, .int v2)] kX13_element_c8.2.2.2.2.2.1 (Nat.le_of_ble_eq_true rfl) ⟨⟨rfl, rfl, .inl rfl⟩, ⟨⟨rfl, rfl, .inr rfl⟩, trivial⟩⟩ rfl ?_
      refine kz_aload_n (M := kt_M397) kX13_element_c8.2.2.2.2.2.2.1 rfl ?_
      refine kz_gfc (M := kt_M397) (x := 4100) (c := 12) (o := 0) kX13_element_c8.2.2.2.2.2.2.2.1 wf_X13_193 (.inl rfl) ?_
      refine kz_iload (M := kt_M397) kX13_element_c9.1 rfl ?_
      refine kz_iload_n (M := kt_M397) kX13_element_c9.2.1 rfl ?_
      refine kz_iast (M := kt_M397) (c := 12) (o := 0) (k := 28) (a := (E.2.1 4100)) kX13_element_c9.2.2.1 ow_12_0_28 oa_12_0_28 ot_0 h (fun h => ?_)
      refine kz_iload_n (M := kt_M397) kX13_element_c9.2.2.2.1 rfl ?_
      refine kz_sti (M := kt_M397) [(0, .ref (w_adr E.2.1 12 0)), (4, .int v8)] kX13_element_c9.2.2.2.2.1 (Nat.le_of_ble_eq_true rfl) ⟨⟨rfl, rfl, .inl rfl⟩, ⟨⟨rfl, rfl, .inr rfl⟩, trivial⟩⟩ rfl ?_
      refine kz_ic (M := kt_M397) 1 kX13_element_c9.2.2.2.2.2.1 rfl ?_
      refine kz_sti (M := kt_M397) [(0, .ref (w_adr E.2.1 12 0)), (4, .int v8), (5, .int v2)] kX13_element_c9.2.2.2.2.2.2.1 (Nat.le_of_ble_eq_true rfl) ⟨⟨rfl, rfl, .inl rfl⟩, ⟨⟨rfl, rfl, .inl rfl⟩, ⟨⟨rfl, rfl, .inr rfl⟩, trivial⟩⟩⟩ rfl ?_
      exact kz_weak [(0, .ref (w_adr E.2.1 12 0)), (4, .int v8), (5, .int v2), (6, .int 1)] ⟨rfl, ⟨rfl, ⟨rfl, ⟨rfl, trivial⟩⟩⟩⟩ rfl h
    · skip
      refine kz_aload_n (M := kt_M397) kX13_element_c2.2.2.2.1 rfl ?_
      refine kz_bi (M := kt_M397) 8 kX13_element_c2.2.2.2.2.1 rfl ?_
      refine kz_iload_n (M := kt_M397) kX13_element_c2.2.2.2.2.2.1 rfl ?_
      refine kz_cv1 (M := kt_M397) (c := 12) (o := 0) (As := [.int 8, .int x2]) (rest := []) kX13_element_c2.2.2.2.2.2.2.1 wl_X13_592 wMv_494 rfl (.inl rfl) rfl (Nat.le_trans (Nat.le_of_ble_eq_true rfl) hL) (Nat.le_of_ble_eq_true rfl) (Nat.le_of_ble_eq_true rfl) h (fun v10 w9 hle h => ?_) (fun _ _ _ h => kzx_no rfl h)
      have h := h hle
      refine kz_sti (M := kt_M397) [(0, .ref (w_adr E.2.1 12 0)), (3, .int v2)] kX13_element_c2.2.2.2.2.2.2.2.1 (Nat.le_of_ble_eq_true rfl) ⟨⟨rfl, rfl, .inl rfl⟩, ⟨⟨rfl, rfl, .inr rfl⟩, trivial⟩⟩ rfl ?_
      refine kz_aload_n (M := kt_M397) kX13_element_c3.1 rfl ?_
      refine kz_gfc (M := kt_M397) (x := 4100) (c := 12) (o := 0) kX13_element_c3.2.1 wf_X13_193 (.inl rfl) ?_
      refine kz_iload (M := kt_M397) kX13_element_c3.2.2.1 rfl ?_
      refine kz_iload_n (M := kt_M397) kX13_element_c3.2.2.2.1 rfl ?_
      refine kz_iast (M := kt_M397) (c := 12) (o := 0) (k := 28) (a := (E.2.1 4100)) kX13_element_c3.2.2.2.2.1 ow_12_0_28 oa_12_0_28 ot_0 h (fun h => ?_)
      refine kz_aload_n (M := kt_M397) kX13_element_c3.2.2.2.2.2.1 rfl ?_
      refine kz_gfc (M := kt_M397) (x := 4101) (c := 12) (o := 0) kX13_element_c3.2.2.2.2.2.2.1 wf_X13_196 (.inl rfl) ?_
      refine kz_iload (M := kt_M397) kX13_element_c3.2.2.2.2.2.2.2.1 rfl ?_
      refine kz_aload_n (M := kt_M397) kX13_element_c4.1 rfl ?_
      refine kz_cv1 (M := kt_M397) (c := 12) (o := 0) (As := []) (rest := [.int v10, .ref (E.2.1 4101)]) kX13_element_c4.2.1 wl_X13_632 wMv_393 rfl (.inl rfl) rfl (Nat.le_trans (Nat.le_of_ble_eq_true rfl) hL) (Nat.le_of_ble_eq_true rfl) (Nat.le_of_ble_eq_true rfl) h (fun v12 w11 hle h => ?_) (fun _ _ _ h => kzx_no rfl h)
      have h := h hle
      refine kz_iast (M := kt_M397) (c := 12) (o := 0) (k := 29) (a := (E.2.1 4101)) kX13_element_c4.2.2.1 ow_12_0_29 oa_12_0_29 ot_0 h (fun h => ?_)
      refine kz_aload_n (M := kt_M397) kX13_element_c4.2.2.2.1 rfl ?_
      refine kz_gfc (M := kt_M397) (x := 4101) (c := 12) (o := 0) kX13_element_c4.2.2.2.2.1 wf_X13_196 (.inl rfl) ?_
      refine kz_iload (M := kt_M397) kX13_element_c4.2.2.2.2.2.1 rfl ?_
      refine kz_ialdR (M := kt_M397) (n := w_n w11 12 0 29) (c := 12) (o := 0) (k := 29) (a := (E.2.1 4101)) (w_a (ws_a w11 12 0 29 (v10).toNatClampNeg v12) 12 0 29 (v10).toNatClampNeg) kX13_element_c4.2.2.2.2.2.2.1 ow_12_0_29 oa_12_0_29 ot_0 rd_n_a rfl h (fun h => ?_)
      refine kz_sti (M := kt_M397) [(0, .ref (w_adr E.2.1 12 0)), (4, .int v10)] kX13_element_c4.2.2.2.2.2.2.2.1 (Nat.le_of_ble_eq_true rfl) ⟨⟨rfl, rfl, .inl rfl⟩, ⟨⟨rfl, rfl, .inr rfl⟩, trivial⟩⟩ rfl ?_
      refine kz_ic (M := kt_M397) 1 kX13_element_c5.1 rfl ?_
      refine kz_sti (M := kt_M397) [(0, .ref (w_adr E.2.1 12 0)), (4, .int v10), (5, .int (w_a (ws_a w11 12 0 29 (v10).toNatClampNeg v12) 12 0 29 (v10).toNatClampNeg))] kX13_element_c5.2.1 (Nat.le_of_ble_eq_true rfl) ⟨⟨rfl, rfl, .inl rfl⟩, ⟨⟨rfl, rfl, .inl rfl⟩, ⟨⟨rfl, rfl, .inr rfl⟩, trivial⟩⟩⟩ rfl ?_
      exact kz_weak [(0, .ref (w_adr E.2.1 12 0)), (4, .int v10), (5, .int (w_a (ws_a w11 12 0 29 (v10).toNatClampNeg v12) 12 0 29 (v10).toNatClampNeg)), (6, .int 1)] ⟨rfl, ⟨rfl, ⟨rfl, ⟨rfl, trivial⟩⟩⟩⟩ rfl h
  · skip
    refine kz_aload_n (M := kt_M397) kX13_element_c0.2.2.2.2.2.2.2.1 rfl ?_
    refine kz_iload_n (M := kt_M397) kX13_element_c1.1 rfl ?_
    refine kz_iload_n (M := kt_M397) kX13_element_c1.2.1 rfl ?_
    refine kz_ic (M := kt_M397) 1 kX13_element_c1.2.2.1 rfl ?_
    refine kz_iadd (M := kt_M397) kX13_element_c1.2.2.2.1 ?_
    refine kz_iload_n (M := kt_M397) kX13_element_c1.2.2.2.2.1 rfl ?_
    refine kz_cv1 (M := kt_M397) (c := 12) (o := 0) (As := [.int v2, .int (x1 + 1), .int x2]) (rest := []) kX13_element_c1.2.2.2.2.2.1 wl_X13_657 wMv_354 rfl (.inl rfl) rfl (Nat.le_trans (Nat.le_of_ble_eq_true rfl) hL) (Nat.le_of_ble_eq_true rfl) (Nat.le_of_ble_eq_true rfl) h (fun v14 w13 hle h => ?_) (fun _ _ _ h => kzx_no rfl h)
    have h := h hle
    exact kz_iret (M := kt_M397) kX13_element_c1.2.2.2.2.2.2.1 rfl rfl h
def zL_X13_asks_p65 (E : zE) (L : Nat) (Q : kx_Rs → wS → Prop) (x1 : Int32) (x2 : Int32) (x4 : Int32) (x5 : Int32) (w : wS) : Prop := kzE E L kt_M354 65 [(0, .ref (w_adr E.2.1 12 0)), (1, .int x1), (2, .int x2), (4, .int x4), (5, .int x5)] [] w Q
def zb_X13_asks_p201 (E : zE) (L : Nat) (Q : kx_Rs → wS → Prop) (x1 : Int32) (x4 : Int32) (w : wS) : Prop := (kx_inb x4 (w_n w 12 0 28) = true ∧ Q (.inl (some (.int x4))) (ws_a w 12 0 28 (x4).toNatClampNeg x1))
theorem zt_X13_asks_p201 {E : zE} {L : Nat} {Q : kx_Rs → wS → Prop} {x1 : Int32} {x4 : Int32} {w : wS} (hL : 24 ≤ L) (h : zb_X13_asks_p201 E L Q x1 x4 w) : kzE E L kt_M354 201 [(0, .ref (w_adr E.2.1 12 0)), (1, .int x1), (4, .int x4)] [] w Q := by
  unfold zb_X13_asks_p201 at h
  refine kz_aload_n (M := kt_M354) kX13_asks_c13.2.2.2.2.1 rfl ?_
  refine kz_gfc (M := kt_M354) (x := 4100) (c := 12) (o := 0) kX13_asks_c13.2.2.2.2.2.1 wf_X13_193 (.inl rfl) ?_
  refine kz_iload (M := kt_M354) kX13_asks_c13.2.2.2.2.2.2.1 rfl ?_
  refine kz_iload_n (M := kt_M354) kX13_asks_c13.2.2.2.2.2.2.2.1 rfl ?_
  refine kz_iast (M := kt_M354) (c := 12) (o := 0) (k := 28) (a := (E.2.1 4100)) kX13_asks_c14.1 ow_12_0_28 oa_12_0_28 ot_0 h (fun h => ?_)
  refine kz_iload (M := kt_M354) kX13_asks_c14.2.1 rfl ?_
  exact kz_iret (M := kt_M354) kX13_asks_c14.2.2.1 rfl rfl h
def zb_X13_asks_p167 (E : zE) (L : Nat) (Q : kx_Rs → wS → Prop) (x1 : Int32) (x2 : Int32) (x4 : Int32) (x5 : Int32) (w : wS) : Prop := zw E (L - 21) kt_M438 [.ref (w_adr E.2.1 12 0), .int x2] w (wk1 (fun v2 w1 => wle w w1 → (if ¬ v2 = 0 then zL_X13_asks_p65 E L Q x1 x2 x4 x5 w1 else zb_X13_asks_p201 E L Q x1 x4 w1)) (fun e w => Q (.inr e) w))
theorem zt_X13_asks_p167 {E : zE} {L : Nat} {Q : kx_Rs → wS → Prop} {x1 : Int32} {x2 : Int32} {x4 : Int32} {x5 : Int32} {w : wS} (hL : 24 ≤ L) (h : zb_X13_asks_p167 E L Q x1 x2 x4 x5 w) : kzE E L kt_M354 167 [(0, .ref (w_adr E.2.1 12 0)), (1, .int x1), (2, .int x2), (4, .int x4), (5, .int x5)] [] w Q := by
  unfold zb_X13_asks_p167 at h
  refine kz_aload_n (M := kt_M354) kX13_asks_c11.2.2.1 rfl ?_
  refine kz_iload_n (M := kt_M354) kX13_asks_c11.2.2.2.1 rfl ?_
  refine kz_cv1 (M := kt_M354) (c := 12) (o := 0) (As := [.int x2]) (rest := []) kX13_asks_c11.2.2.2.2.1 wl_X13_578 wMv_438 rfl (.inl rfl) rfl (Nat.le_trans (Nat.le_of_ble_eq_true rfl) hL) (Nat.le_of_ble_eq_true rfl) (Nat.le_of_ble_eq_true rfl) h (fun v2 w1 hle h => ?_) (fun _ _ _ h => kzx_no rfl h)
  have h := h hle
  refine kz_if_ne (M := kt_M354) kX13_asks_c11.2.2.2.2.2.1 (t := 65) rfl h (fun h => ?_) (fun h => ?_)
  · skip
    exact kz_weak [(0, .ref (w_adr E.2.1 12 0)), (1, .int x1), (2, .int x2), (4, .int x4), (5, .int x5)] ⟨rfl, ⟨rfl, ⟨rfl, ⟨rfl, ⟨rfl, trivial⟩⟩⟩⟩⟩ rfl h
  · skip
    refine kz_goto (M := kt_M354) kX13_asks_c11.2.2.2.2.2.2.1 (t := 201) rfl ?_
    exact kz_weak [(0, .ref (w_adr E.2.1 12 0)), (1, .int x1), (4, .int x4)] ⟨rfl, ⟨rfl, ⟨rfl, trivial⟩⟩⟩ rfl (zt_X13_asks_p201 hL  h)
def zb_X13_asks_p119 (E : zE) (L : Nat) (Q : kx_Rs → wS → Prop) (x1 : Int32) (x2 : Int32) (x4 : Int32) (x5 : Int32) (x6 : Int32) (w : wS) : Prop := zw E (L - 20) kt_M400 [.ref (w_adr E.2.1 12 0)] w (wk0 (fun w1 => wle w w1 → zw E (L - 24) kt_M514 [.ref (w_adr E.2.1 12 0), .int (x2 + 1)] w1 (wk1 (fun v4 w3 => wle w1 w3 → (kx_inb x6 (w_n w3 12 0 30) = true ∧ zw E (L - 22) kt_M368 [.ref (w_adr E.2.1 12 0), .int x5, .int x6] (ws_a w3 12 0 30 (x6).toNatClampNeg v4) (wk1 (fun v6 w5 => wle (ws_a w3 12 0 30 (x6).toNatClampNeg v4) w5 → (kx_inb x4 (w_n w5 12 0 29) = true ∧ (if ¬ w_a w5 12 0 29 (x4).toNatClampNeg = (-1) then zb_X13_asks_p167 E L Q x1 x2 x4 v6 w5 else (kx_inb x4 (w_n w5 12 0 29) = true ∧ zb_X13_asks_p167 E L Q x1 x2 x4 v6 (ws_a w5 12 0 29 (x4).toNatClampNeg x6))))) (fun e w => Q (.inr e) w)))) (fun e w => Q (.inr e) w))) (fun e w => Q (.inr e) w))
theorem zt_X13_asks_p119 {E : zE} {L : Nat} {Q : kx_Rs → wS → Prop} {x1 : Int32} {x2 : Int32} {x4 : Int32} {x5 : Int32} {x6 : Int32} {w : wS} (hL : 24 ≤ L) (h : zb_X13_asks_p119 E L Q x1 x2 x4 x5 x6 w) : kzE E L kt_M354 119 [(0, .ref (w_adr E.2.1 12 0)), (1, .int x1), (2, .int x2), (4, .int x4), (5, .int x5), (6, .int x6)] [] w Q := by
  unfold zb_X13_asks_p119 at h
  refine kz_aload_n (M := kt_M354) kX13_asks_c7.2.2.2.2.2.2.2.1 rfl ?_
  refine kz_cv0 (M := kt_M354) (c := 12) (o := 0) (As := []) (rest := []) kX13_asks_c8.1 wl_X13_616 wMv_400 rfl (.inl rfl) rfl (Nat.le_trans (Nat.le_of_ble_eq_true rfl) hL) (Nat.le_of_ble_eq_true rfl) (Nat.le_of_ble_eq_true rfl) h (fun w1 hle h => ?_) (fun _ _ _ h => kzx_no rfl h)
  have h := h hle
  refine kz_aload_n (M := kt_M354) kX13_asks_c8.2.1 rfl ?_
  refine kz_gfc (M := kt_M354) (x := 4102) (c := 12) (o := 0) kX13_asks_c8.2.2.1 wf_X13_199 (.inl rfl) ?_
  refine kz_iload (M := kt_M354) kX13_asks_c8.2.2.2.1 rfl ?_
  refine kz_aload_n (M := kt_M354) kX13_asks_c8.2.2.2.2.1 rfl ?_
  refine kz_iload_n (M := kt_M354) kX13_asks_c8.2.2.2.2.2.1 rfl ?_
  refine kz_ic (M := kt_M354) 1 kX13_asks_c8.2.2.2.2.2.2.1 rfl ?_
  refine kz_iadd (M := kt_M354) kX13_asks_c8.2.2.2.2.2.2.2.1 ?_
  refine kz_cv1 (M := kt_M354) (c := 12) (o := 0) (As := [.int (x2 + 1)]) (rest := [.int x6, .ref (E.2.1 4102)]) kX13_asks_c9.1 wl_X13_604 wMv_514 rfl (.inl rfl) rfl (Nat.le_trans (Nat.le_of_ble_eq_true rfl) hL) (Nat.le_of_ble_eq_true rfl) (Nat.le_of_ble_eq_true rfl) h (fun v4 w3 hle h => ?_) (fun _ _ _ h => kzx_no rfl h)
  have h := h hle
  refine kz_iast (M := kt_M354) (c := 12) (o := 0) (k := 30) (a := (E.2.1 4102)) kX13_asks_c9.2.1 ow_12_0_30 oa_12_0_30 ot_0 h (fun h => ?_)
  refine kz_aload_n (M := kt_M354) kX13_asks_c9.2.2.1 rfl ?_
  refine kz_iload (M := kt_M354) kX13_asks_c9.2.2.2.1 rfl ?_
  refine kz_iload (M := kt_M354) kX13_asks_c9.2.2.2.2.1 rfl ?_
  refine kz_cv1 (M := kt_M354) (c := 12) (o := 0) (As := [.int x5, .int x6]) (rest := []) kX13_asks_c9.2.2.2.2.2.1 wl_X13_598 wMv_368 rfl (.inl rfl) rfl (Nat.le_trans (Nat.le_of_ble_eq_true rfl) hL) (Nat.le_of_ble_eq_true rfl) (Nat.le_of_ble_eq_true rfl) h (fun v6 w5 hle h => ?_) (fun _ _ _ h => kzx_no rfl h)
  have h := h hle
  refine kz_sti (M := kt_M354) [(0, .ref (w_adr E.2.1 12 0)), (1, .int x1), (2, .int x2), (4, .int x4), (6, .int x6)] kX13_asks_c9.2.2.2.2.2.2.1 (Nat.le_of_ble_eq_true rfl) ⟨⟨rfl, rfl, .inl rfl⟩, ⟨⟨rfl, rfl, .inl rfl⟩, ⟨⟨rfl, rfl, .inl rfl⟩, ⟨⟨rfl, rfl, .inr rfl⟩, ⟨⟨rfl, rfl, .inl rfl⟩, trivial⟩⟩⟩⟩⟩ rfl ?_
  refine kz_aload_n (M := kt_M354) kX13_asks_c9.2.2.2.2.2.2.2.1 rfl ?_
  refine kz_gfc (M := kt_M354) (x := 4101) (c := 12) (o := 0) kX13_asks_c10.1 wf_X13_196 (.inl rfl) ?_
  refine kz_iload (M := kt_M354) kX13_asks_c10.2.1 rfl ?_
  refine kz_iald (M := kt_M354) (c := 12) (o := 0) (k := 29) (a := (E.2.1 4101)) kX13_asks_c10.2.2.1 ow_12_0_29 oa_12_0_29 ot_0 h (fun h => ?_)
  refine kz_ic (M := kt_M354) (-1) kX13_asks_c10.2.2.2.1 rfl ?_
  refine kz_icmp_ne (M := kt_M354) kX13_asks_c10.2.2.2.2.1 (t := 167) rfl h (fun h => ?_) (fun h => ?_)
  · skip
    exact kz_weak [(0, .ref (w_adr E.2.1 12 0)), (1, .int x1), (2, .int x2), (4, .int x4), (5, .int v6)] ⟨rfl, ⟨rfl, ⟨rfl, ⟨rfl, ⟨rfl, trivial⟩⟩⟩⟩⟩ rfl (zt_X13_asks_p167 hL  h)
  · skip
    refine kz_aload_n (M := kt_M354) kX13_asks_c10.2.2.2.2.2.1 rfl ?_
    refine kz_gfc (M := kt_M354) (x := 4101) (c := 12) (o := 0) kX13_asks_c10.2.2.2.2.2.2.1 wf_X13_196 (.inl rfl) ?_
    refine kz_iload (M := kt_M354) kX13_asks_c10.2.2.2.2.2.2.2.1 rfl ?_
    refine kz_iload (M := kt_M354) kX13_asks_c11.1 rfl ?_
    refine kz_iast (M := kt_M354) (c := 12) (o := 0) (k := 29) (a := (E.2.1 4101)) kX13_asks_c11.2.1 ow_12_0_29 oa_12_0_29 ot_0 h (fun h => ?_)
    exact kz_weak [(0, .ref (w_adr E.2.1 12 0)), (1, .int x1), (2, .int x2), (4, .int x4), (5, .int v6)] ⟨rfl, ⟨rfl, ⟨rfl, ⟨rfl, ⟨rfl, trivial⟩⟩⟩⟩⟩ rfl (zt_X13_asks_p167 hL  h)
def zb_X13_asks_p65 (E : zE) (L : Nat) (Q : kx_Rs → wS → Prop) (x1 : Int32) (x2 : Int32) (x4 : Int32) (x5 : Int32) (w : wS) : Prop := zw E (L - 22) kt_M458 [.ref (w_adr E.2.1 12 0), .int x2, .int 5] w (wk0 (fun w1 => wle w w1 → (kx_inb (w_i w1 12 0 35) (w_n w1 12 0 9) = true ∧ zw E (L - 22) kt_M494 [.ref (w_adr E.2.1 12 0), .int 19, .int (w_a w1 12 0 9 (w_i w1 12 0 35).toNatClampNeg)] w1 (wk1 (fun v4 w3 => wle w1 w3 → zw E (L - 20) kt_M601 [.ref (w_adr E.2.1 12 0)] w3 (wk1 (fun v6 w5 => wle w3 w5 → (kx_inb v4 (w_n w5 12 0 28) = true ∧ zw E (L - 21) kt_M466 [.ref (w_adr E.2.1 12 0), .int 45] (ws_a w5 12 0 28 (v4).toNatClampNeg v6) (wk1 (fun v8 w7 => wle (ws_a w5 12 0 28 (v4).toNatClampNeg v6) w7 → (if v8 = 0 then zb_X13_asks_p119 E L Q x1 x2 x4 x5 v4 w7 else zw E (L - 23) kt_M398 [.ref (w_adr E.2.1 12 0)] w7 (wk1 (fun v10 w9 => wle w7 w9 → (kx_inb v4 (w_n w9 12 0 29) = true ∧ zb_X13_asks_p119 E L Q x1 x2 x4 x5 v4 (ws_a w9 12 0 29 (v4).toNatClampNeg v10))) (fun e w => Q (.inr e) w)))) (fun e w => Q (.inr e) w)))) (fun e w => Q (.inr e) w))) (fun e w => Q (.inr e) w)))) (fun e w => Q (.inr e) w))
theorem zt_X13_asks_p65 {E : zE} {L : Nat} {Q : kx_Rs → wS → Prop} {x1 : Int32} {x2 : Int32} {x4 : Int32} {x5 : Int32} {w : wS} (hL : 24 ≤ L) (h : zb_X13_asks_p65 E L Q x1 x2 x4 x5 w) : kzE E L kt_M354 65 [(0, .ref (w_adr E.2.1 12 0)), (1, .int x1), (2, .int x2), (4, .int x4), (5, .int x5)] [] w Q := by
  unfold zb_X13_asks_p65 at h
  refine kz_aload_n (M := kt_M354) kX13_asks_c4.2.2.1 rfl ?_
  refine kz_iload_n (M := kt_M354) kX13_asks_c4.2.2.2.1 rfl ?_
  refine kz_ic (M := kt_M354) 5 kX13_asks_c4.2.2.2.2.1 rfl ?_
  refine kz_cv0 (M := kt_M354) (c := 12) (o := 0) (As := [.int x2, .int 5]) (rest := []) kX13_asks_c4.2.2.2.2.2.1 wl_X13_588 wMv_458 rfl (.inl rfl) rfl (Nat.le_trans (Nat.le_of_ble_eq_true rfl) hL) (Nat.le_of_ble_eq_true rfl) (Nat.le_of_ble_eq_true rfl) h (fun w1 hle h => ?_) (fun _ _ _ h => kzx_no rfl h)
  have h := h hle
  refine kz_aload_n (M := kt_M354) kX13_asks_c4.2.2.2.2.2.2.1 rfl ?_
  refine kz_bi (M := kt_M354) 19 kX13_asks_c4.2.2.2.2.2.2.2.1 rfl ?_
  refine kz_aload_n (M := kt_M354) kX13_asks_c5.1 rfl ?_
  refine kz_gfc (M := kt_M354) (x := 4081) (c := 12) (o := 0) kX13_asks_c5.2.1 wf_X13_163 (.inl rfl) ?_
  refine kz_aload_n (M := kt_M354) kX13_asks_c5.2.2.1 rfl ?_
  refine kz_gfi (M := kt_M354) (c := 12) (o := 0) kX13_asks_c5.2.2.2.1 wf_X13_547 (.inl rfl) ?_
  refine kz_iald (M := kt_M354) (c := 12) (o := 0) (k := 9) (a := (E.2.1 4081)) kX13_asks_c5.2.2.2.2.1 ow_12_0_9 oa_12_0_9 ot_0 h (fun h => ?_)
  refine kz_cv1 (M := kt_M354) (c := 12) (o := 0) (As := [.int 19, .int (w_a w1 12 0 9 (w_i w1 12 0 35).toNatClampNeg)]) (rest := []) kX13_asks_c5.2.2.2.2.2.1 wl_X13_592 wMv_494 rfl (.inl rfl) rfl (Nat.le_trans (Nat.le_of_ble_eq_true rfl) hL) (Nat.le_of_ble_eq_true rfl) (Nat.le_of_ble_eq_true rfl) h (fun v4 w3 hle h => ?_) (fun _ _ _ h => kzx_no rfl h)
  have h := h hle
  refine kz_sti (M := kt_M354) [(0, .ref (w_adr E.2.1 12 0)), (1, .int x1), (2, .int x2), (4, .int x4), (5, .int x5)] kX13_asks_c5.2.2.2.2.2.2.1 (Nat.le_of_ble_eq_true rfl) ⟨⟨rfl, rfl, .inl rfl⟩, ⟨⟨rfl, rfl, .inl rfl⟩, ⟨⟨rfl, rfl, .inl rfl⟩, ⟨⟨rfl, rfl, .inl rfl⟩, ⟨⟨rfl, rfl, .inr rfl⟩, trivial⟩⟩⟩⟩⟩ rfl ?_
  refine kz_aload_n (M := kt_M354) kX13_asks_c5.2.2.2.2.2.2.2.1 rfl ?_
  refine kz_gfc (M := kt_M354) (x := 4100) (c := 12) (o := 0) kX13_asks_c6.1 wf_X13_193 (.inl rfl) ?_
  refine kz_iload (M := kt_M354) kX13_asks_c6.2.1 rfl ?_
  refine kz_aload_n (M := kt_M354) kX13_asks_c6.2.2.1 rfl ?_
  refine kz_cv1 (M := kt_M354) (c := 12) (o := 0) (As := []) (rest := [.int v4, .ref (E.2.1 4100)]) kX13_asks_c6.2.2.2.1 wl_X13_639 wMv_601 rfl (.inl rfl) rfl (Nat.le_trans (Nat.le_of_ble_eq_true rfl) hL) (Nat.le_of_ble_eq_true rfl) (Nat.le_of_ble_eq_true rfl) h (fun v6 w5 hle h => ?_) (fun _ _ _ h => kzx_no rfl h)
  have h := h hle
  refine kz_iast (M := kt_M354) (c := 12) (o := 0) (k := 28) (a := (E.2.1 4100)) kX13_asks_c6.2.2.2.2.1 ow_12_0_28 oa_12_0_28 ot_0 h (fun h => ?_)
  refine kz_aload_n (M := kt_M354) kX13_asks_c6.2.2.2.2.2.1 rfl ?_
  refine kz_bi (M := kt_M354) 45 kX13_asks_c6.2.2.2.2.2.2.1 rfl ?_
  refine kz_cv1 (M := kt_M354) (c := 12) (o := 0) (As := [.int 45]) (rest := []) kX13_asks_c6.2.2.2.2.2.2.2.1 wl_X13_642 wMv_466 rfl (.inl rfl) rfl (Nat.le_trans (Nat.le_of_ble_eq_true rfl) hL) (Nat.le_of_ble_eq_true rfl) (Nat.le_of_ble_eq_true rfl) h (fun v8 w7 hle h => ?_) (fun _ _ _ h => kzx_no rfl h)
  have h := h hle
  refine kz_if_eq (M := kt_M354) kX13_asks_c7.1 (t := 119) rfl h (fun h => ?_) (fun h => ?_)
  · skip
    exact kz_weak [(0, .ref (w_adr E.2.1 12 0)), (1, .int x1), (2, .int x2), (4, .int x4), (5, .int x5), (6, .int v4)] ⟨rfl, ⟨rfl, ⟨rfl, ⟨rfl, ⟨rfl, ⟨rfl, trivial⟩⟩⟩⟩⟩⟩ rfl (zt_X13_asks_p119 hL  h)
  · skip
    refine kz_aload_n (M := kt_M354) kX13_asks_c7.2.1 rfl ?_
    refine kz_gfc (M := kt_M354) (x := 4101) (c := 12) (o := 0) kX13_asks_c7.2.2.1 wf_X13_196 (.inl rfl) ?_
    refine kz_iload (M := kt_M354) kX13_asks_c7.2.2.2.1 rfl ?_
    refine kz_aload_n (M := kt_M354) kX13_asks_c7.2.2.2.2.1 rfl ?_
    refine kz_cv1 (M := kt_M354) (c := 12) (o := 0) (As := []) (rest := [.int v4, .ref (E.2.1 4101)]) kX13_asks_c7.2.2.2.2.2.1 wl_X13_660 wMv_398 rfl (.inl rfl) rfl (Nat.le_trans (Nat.le_of_ble_eq_true rfl) hL) (Nat.le_of_ble_eq_true rfl) (Nat.le_of_ble_eq_true rfl) h (fun v10 w9 hle h => ?_) (fun _ _ _ h => kzx_no rfl h)
    have h := h hle
    refine kz_iast (M := kt_M354) (c := 12) (o := 0) (k := 29) (a := (E.2.1 4101)) kX13_asks_c7.2.2.2.2.2.2.1 ow_12_0_29 oa_12_0_29 ot_0 h (fun h => ?_)
    exact kz_weak [(0, .ref (w_adr E.2.1 12 0)), (1, .int x1), (2, .int x2), (4, .int x4), (5, .int x5), (6, .int v4)] ⟨rfl, ⟨rfl, ⟨rfl, ⟨rfl, ⟨rfl, ⟨rfl, trivial⟩⟩⟩⟩⟩⟩ rfl (zt_X13_asks_p119 hL  h)
def zb_X13_asks_p0 (E : zE) (L : Nat) (Q : kx_Rs → wS → Prop) (x1 : Int32) (x2 : Int32) (x3 : Int32) (w : wS) : Prop := zw E (L - 21) kt_M600 [.ref (w_adr E.2.1 12 0), .int 48] w (wk0 (fun w1 => wle w w1 → zw E (L - 21) kt_M466 [.ref (w_adr E.2.1 12 0), .int 0] w1 (wk1 (fun v4 w3 => wle w1 w3 → (if v4 = 0 then zw E (L - 21) kt_M466 [.ref (w_adr E.2.1 12 0), .int 5] w3 (wk1 (fun v6 w5 => wle w3 w5 → (if v6 = 0 then zw E (L - 22) kt_M494 [.ref (w_adr E.2.1 12 0), .int 5, .int x3] w5 (wk1 (fun v8 w7 => wle w5 w7 → zw E (L - 23) kt_M398 [.ref (w_adr E.2.1 12 0)] w7 (wk1 (fun v10 w9 => wle w7 w9 → (kx_inb v8 (w_n w9 12 0 29) = true ∧ zw E (L - 20) kt_M400 [.ref (w_adr E.2.1 12 0)] (ws_a w9 12 0 29 (v8).toNatClampNeg v10) (wk0 (fun w11 => wle (ws_a w9 12 0 29 (v8).toNatClampNeg v10) w11 → zb_X13_asks_p201 E L Q x1 v8 w11) (fun e w => Q (.inr e) w)))) (fun e w => Q (.inr e) w))) (fun e w => Q (.inr e) w)) else zw E (L - 22) kt_M494 [.ref (w_adr E.2.1 12 0), .int 7, .int x3] w5 (wk1 (fun v14 w13 => wle w5 w13 → zw E (L - 20) kt_M400 [.ref (w_adr E.2.1 12 0)] w13 (wk0 (fun w15 => wle w13 w15 → zL_X13_asks_p65 E L Q x1 x2 v14 (-1) w15) (fun e w => Q (.inr e) w))) (fun e w => Q (.inr e) w)))) (fun e w => Q (.inr e) w)) else zw E (L - 22) kt_M494 [.ref (w_adr E.2.1 12 0), .int 6, .int x3] w3 (wk1 (fun v18 w17 => wle w3 w17 → zw E (L - 22) kt_M393 [.ref (w_adr E.2.1 12 0)] w17 (wk1 (fun v20 w19 => wle w17 w19 → (kx_inb v18 (w_n w19 12 0 29) = true ∧ zw E (L - 20) kt_M400 [.ref (w_adr E.2.1 12 0)] (ws_a w19 12 0 29 (v18).toNatClampNeg v20) (wk0 (fun w21 => wle (ws_a w19 12 0 29 (v18).toNatClampNeg v20) w21 → zb_X13_asks_p201 E L Q x1 v18 w21) (fun e w => Q (.inr e) w)))) (fun e w => Q (.inr e) w))) (fun e w => Q (.inr e) w)))) (fun e w => Q (.inr e) w))) (fun e w => Q (.inr e) w))
theorem zt_X13_asks_p0 {E : zE} {L : Nat} {Q : kx_Rs → wS → Prop} {x1 : Int32} {x2 : Int32} {x3 : Int32} {w : wS} (hL : 24 ≤ L) (h : zb_X13_asks_p0 E L Q x1 x2 x3 w) : kzE E L kt_M354 0 [(0, .ref (w_adr E.2.1 12 0)), (1, .int x1), (2, .int x2), (3, .int x3)] [] w Q := by
  unfold zb_X13_asks_p0 at h
  refine kz_aload_n (M := kt_M354) kX13_asks_c0.1 rfl ?_
  refine kz_bi (M := kt_M354) 48 kX13_asks_c0.2.1 rfl ?_
  refine kz_cv0 (M := kt_M354) (c := 12) (o := 0) (As := [.int 48]) (rest := []) kX13_asks_c0.2.2.1 wl_X13_585 wMv_600 rfl (.inl rfl) rfl (Nat.le_trans (Nat.le_of_ble_eq_true rfl) hL) (Nat.le_of_ble_eq_true rfl) (Nat.le_of_ble_eq_true rfl) h (fun w1 hle h => ?_) (fun _ _ _ h => kzx_no rfl h)
  have h := h hle
  refine kz_aload_n (M := kt_M354) kX13_asks_c0.2.2.2.1 rfl ?_
  refine kz_ic (M := kt_M354) 0 kX13_asks_c0.2.2.2.2.1 rfl ?_
  refine kz_cv1 (M := kt_M354) (c := 12) (o := 0) (As := [.int 0]) (rest := []) kX13_asks_c0.2.2.2.2.2.1 wl_X13_642 wMv_466 rfl (.inl rfl) rfl (Nat.le_trans (Nat.le_of_ble_eq_true rfl) hL) (Nat.le_of_ble_eq_true rfl) (Nat.le_of_ble_eq_true rfl) h (fun v4 w3 hle h => ?_) (fun _ _ _ h => kzx_no rfl h)
  have h := h hle
  refine kz_if_eq (M := kt_M354) kX13_asks_c0.2.2.2.2.2.2.1 (t := 41) rfl h (fun h => ?_) (fun h => ?_)
  · skip
    refine kz_aload_n (M := kt_M354) kX13_asks_c2.2.2.2.2.2.1 rfl ?_
    refine kz_ic (M := kt_M354) 5 kX13_asks_c2.2.2.2.2.2.2.1 rfl ?_
    refine kz_cv1 (M := kt_M354) (c := 12) (o := 0) (As := [.int 5]) (rest := []) kX13_asks_c2.2.2.2.2.2.2.2.1 wl_X13_642 wMv_466 rfl (.inl rfl) rfl (Nat.le_trans (Nat.le_of_ble_eq_true rfl) hL) (Nat.le_of_ble_eq_true rfl) (Nat.le_of_ble_eq_true rfl) h (fun v6 w5 hle h => ?_) (fun _ _ _ h => kzx_no rfl h)
    have h := h hle
    refine kz_if_eq (M := kt_M354) kX13_asks_c3.1 (t := 178) rfl h (fun h => ?_) (fun h => ?_)
    · skip
      refine kz_aload_n (M := kt_M354) kX13_asks_c11.2.2.2.2.2.2.2.1 rfl ?_
      refine kz_ic (M := kt_M354) 5 kX13_asks_c12.1 rfl ?_
      refine kz_iload_n (M := kt_M354) kX13_asks_c12.2.1 rfl ?_
      refine kz_cv1 (M := kt_M354) (c := 12) (o := 0) (As := [.int 5, .int x3]) (rest := []) kX13_asks_c12.2.2.1 wl_X13_592 wMv_494 rfl (.inl rfl) rfl (Nat.le_trans (Nat.le_of_ble_eq_true rfl) hL) (Nat.le_of_ble_eq_true rfl) (Nat.le_of_ble_eq_true rfl) h (fun v8 w7 hle h => ?_) (fun _ _ _ h => kzx_no rfl h)
      have h := h hle
      refine kz_sti (M := kt_M354) [(0, .ref (w_adr E.2.1 12 0)), (1, .int x1)] kX13_asks_c12.2.2.2.1 (Nat.le_of_ble_eq_true rfl) ⟨⟨rfl, rfl, .inl rfl⟩, ⟨⟨rfl, rfl, .inl rfl⟩, trivial⟩⟩ rfl ?_
      refine kz_aload_n (M := kt_M354) kX13_asks_c12.2.2.2.2.1 rfl ?_
      refine kz_gfc (M := kt_M354) (x := 4101) (c := 12) (o := 0) kX13_asks_c12.2.2.2.2.2.1 wf_X13_196 (.inl rfl) ?_
      refine kz_iload (M := kt_M354) kX13_asks_c12.2.2.2.2.2.2.1 rfl ?_
      refine kz_aload_n (M := kt_M354) kX13_asks_c12.2.2.2.2.2.2.2.1 rfl ?_
      refine kz_cv1 (M := kt_M354) (c := 12) (o := 0) (As := []) (rest := [.int v8, .ref (E.2.1 4101)]) kX13_asks_c13.1 wl_X13_660 wMv_398 rfl (.inl rfl) rfl (Nat.le_trans (Nat.le_of_ble_eq_true rfl) hL) (Nat.le_of_ble_eq_true rfl) (Nat.le_of_ble_eq_true rfl) h (fun v10 w9 hle h => ?_) (fun _ _ _ h => kzx_no rfl h)
      have h := h hle
      refine kz_iast (M := kt_M354) (c := 12) (o := 0) (k := 29) (a := (E.2.1 4101)) kX13_asks_c13.2.1 ow_12_0_29 oa_12_0_29 ot_0 h (fun h => ?_)
      refine kz_aload_n (M := kt_M354) kX13_asks_c13.2.2.1 rfl ?_
      refine kz_cv0 (M := kt_M354) (c := 12) (o := 0) (As := []) (rest := []) kX13_asks_c13.2.2.2.1 wl_X13_616 wMv_400 rfl (.inl rfl) rfl (Nat.le_trans (Nat.le_of_ble_eq_true rfl) hL) (Nat.le_of_ble_eq_true rfl) (Nat.le_of_ble_eq_true rfl) h (fun w11 hle h => ?_) (fun _ _ _ h => kzx_no rfl h)
      have h := h hle
      exact kz_weak [(0, .ref (w_adr E.2.1 12 0)), (1, .int x1), (4, .int v8)] ⟨rfl, ⟨rfl, ⟨rfl, trivial⟩⟩⟩ rfl (zt_X13_asks_p201 hL  h)
    · skip
      refine kz_aload_n (M := kt_M354) kX13_asks_c3.2.1 rfl ?_
      refine kz_bi (M := kt_M354) 7 kX13_asks_c3.2.2.1 rfl ?_
      refine kz_iload_n (M := kt_M354) kX13_asks_c3.2.2.2.1 rfl ?_
      refine kz_cv1 (M := kt_M354) (c := 12) (o := 0) (As := [.int 7, .int x3]) (rest := []) kX13_asks_c3.2.2.2.2.1 wl_X13_592 wMv_494 rfl (.inl rfl) rfl (Nat.le_trans (Nat.le_of_ble_eq_true rfl) hL) (Nat.le_of_ble_eq_true rfl) (Nat.le_of_ble_eq_true rfl) h (fun v14 w13 hle h => ?_) (fun _ _ _ h => kzx_no rfl h)
      have h := h hle
      refine kz_sti (M := kt_M354) [(0, .ref (w_adr E.2.1 12 0)), (1, .int x1), (2, .int x2)] kX13_asks_c3.2.2.2.2.2.1 (Nat.le_of_ble_eq_true rfl) ⟨⟨rfl, rfl, .inl rfl⟩, ⟨⟨rfl, rfl, .inl rfl⟩, ⟨⟨rfl, rfl, .inl rfl⟩, trivial⟩⟩⟩ rfl ?_
      refine kz_aload_n (M := kt_M354) kX13_asks_c3.2.2.2.2.2.2.1 rfl ?_
      refine kz_cv0 (M := kt_M354) (c := 12) (o := 0) (As := []) (rest := []) kX13_asks_c3.2.2.2.2.2.2.2.1 wl_X13_616 wMv_400 rfl (.inl rfl) rfl (Nat.le_trans (Nat.le_of_ble_eq_true rfl) hL) (Nat.le_of_ble_eq_true rfl) (Nat.le_of_ble_eq_true rfl) h (fun w15 hle h => ?_) (fun _ _ _ h => kzx_no rfl h)
      have h := h hle
      refine kz_ic (M := kt_M354) (-1) kX13_asks_c4.1 rfl ?_
      refine kz_sti (M := kt_M354) [(0, .ref (w_adr E.2.1 12 0)), (1, .int x1), (2, .int x2), (4, .int v14)] kX13_asks_c4.2.1 (Nat.le_of_ble_eq_true rfl) ⟨⟨rfl, rfl, .inl rfl⟩, ⟨⟨rfl, rfl, .inl rfl⟩, ⟨⟨rfl, rfl, .inl rfl⟩, ⟨⟨rfl, rfl, .inr rfl⟩, trivial⟩⟩⟩⟩ rfl ?_
      exact kz_weak [(0, .ref (w_adr E.2.1 12 0)), (1, .int x1), (2, .int x2), (4, .int v14), (5, .int (-1))] ⟨rfl, ⟨rfl, ⟨rfl, ⟨rfl, ⟨rfl, trivial⟩⟩⟩⟩⟩ rfl h
  · skip
    refine kz_aload_n (M := kt_M354) kX13_asks_c0.2.2.2.2.2.2.2.1 rfl ?_
    refine kz_bi (M := kt_M354) 6 kX13_asks_c1.1 rfl ?_
    refine kz_iload_n (M := kt_M354) kX13_asks_c1.2.1 rfl ?_
    refine kz_cv1 (M := kt_M354) (c := 12) (o := 0) (As := [.int 6, .int x3]) (rest := []) kX13_asks_c1.2.2.1 wl_X13_592 wMv_494 rfl (.inl rfl) rfl (Nat.le_trans (Nat.le_of_ble_eq_true rfl) hL) (Nat.le_of_ble_eq_true rfl) (Nat.le_of_ble_eq_true rfl) h (fun v18 w17 hle h => ?_) (fun _ _ _ h => kzx_no rfl h)
    have h := h hle
    refine kz_sti (M := kt_M354) [(0, .ref (w_adr E.2.1 12 0)), (1, .int x1)] kX13_asks_c1.2.2.2.1 (Nat.le_of_ble_eq_true rfl) ⟨⟨rfl, rfl, .inl rfl⟩, ⟨⟨rfl, rfl, .inl rfl⟩, trivial⟩⟩ rfl ?_
    refine kz_aload_n (M := kt_M354) kX13_asks_c1.2.2.2.2.1 rfl ?_
    refine kz_gfc (M := kt_M354) (x := 4101) (c := 12) (o := 0) kX13_asks_c1.2.2.2.2.2.1 wf_X13_196 (.inl rfl) ?_
    refine kz_iload (M := kt_M354) kX13_asks_c1.2.2.2.2.2.2.1 rfl ?_
    refine kz_aload_n (M := kt_M354) kX13_asks_c1.2.2.2.2.2.2.2.1 rfl ?_
    refine kz_cv1 (M := kt_M354) (c := 12) (o := 0) (As := []) (rest := [.int v18, .ref (E.2.1 4101)]) kX13_asks_c2.1 wl_X13_632 wMv_393 rfl (.inl rfl) rfl (Nat.le_trans (Nat.le_of_ble_eq_true rfl) hL) (Nat.le_of_ble_eq_true rfl) (Nat.le_of_ble_eq_true rfl) h (fun v20 w19 hle h => ?_) (fun _ _ _ h => kzx_no rfl h)
    have h := h hle
    refine kz_iast (M := kt_M354) (c := 12) (o := 0) (k := 29) (a := (E.2.1 4101)) kX13_asks_c2.2.1 ow_12_0_29 oa_12_0_29 ot_0 h (fun h => ?_)
    refine kz_aload_n (M := kt_M354) kX13_asks_c2.2.2.1 rfl ?_
    refine kz_cv0 (M := kt_M354) (c := 12) (o := 0) (As := []) (rest := []) kX13_asks_c2.2.2.2.1 wl_X13_616 wMv_400 rfl (.inl rfl) rfl (Nat.le_trans (Nat.le_of_ble_eq_true rfl) hL) (Nat.le_of_ble_eq_true rfl) (Nat.le_of_ble_eq_true rfl) h (fun w21 hle h => ?_) (fun _ _ _ h => kzx_no rfl h)
    have h := h hle
    refine kz_goto (M := kt_M354) kX13_asks_c2.2.2.2.2.1 (t := 201) rfl ?_
    exact kz_weak [(0, .ref (w_adr E.2.1 12 0)), (1, .int x1), (4, .int v18)] ⟨rfl, ⟨rfl, ⟨rfl, trivial⟩⟩⟩ rfl (zt_X13_asks_p201 hL  h)
def zL_X13_elements_p9 (E : zE) (L : Nat) (Q : kx_Rs → wS → Prop) (x1 : Int32) (x2 : Int32) (x3 : Int32) (w : wS) : Prop := kzE E L kt_M398 9 [(0, .ref (w_adr E.2.1 12 0)), (1, .int x1), (2, .int x2), (3, .int x3)] [] w Q
def zb_X13_elements_p9 (E : zE) (L : Nat) (Q : kx_Rs → wS → Prop) (x1 : Int32) (x2 : Int32) (x3 : Int32) (w : wS) : Prop := zw E (L - 21) kt_M466 [.ref (w_adr E.2.1 12 0), .int 45] w (wk1 (fun v2 w1 => wle w w1 → (if v2 = 0 then Q (.inl (some (.int x1))) w1 else (if ¬ x3 = 16 then zw E (L - 23) kt_M396 [.ref (w_adr E.2.1 12 0)] w1 (wk1 (fun v4 w3 => wle w1 w3 → zw E (L - 22) kt_M368 [.ref (w_adr E.2.1 12 0), .int x2, .int v4] w3 (wk1 (fun v6 w5 => wle w3 w5 → zL_X13_elements_p9 E L Q x1 v6 (x3 + 1) w5) (fun e w => Q (.inr e) w))) (fun e w => Q (.inr e) w)) else zw E (L - 22) kt_M545 [.ref (w_adr E.2.1 12 0), .int 2] w1 (wkr (fun v8 w7 => wle w1 w7 → (v8 = some (w_adr E.2.1 13 0) ∧ Q (.inr "MeetingHouseModel$Halt") w7)) (fun e w => Q (.inr e) w))))) (fun e w => Q (.inr e) w))
theorem zt_X13_elements_p9 {E : zE} {L : Nat} {Q : kx_Rs → wS → Prop} {x1 : Int32} {x2 : Int32} {x3 : Int32} {w : wS} (hL : 23 ≤ L) (h : zb_X13_elements_p9 E L Q x1 x2 x3 w) : kzE E L kt_M398 9 [(0, .ref (w_adr E.2.1 12 0)), (1, .int x1), (2, .int x2), (3, .int x3)] [] w Q := by
  unfold zb_X13_elements_p9 at h
  refine kz_aload_n (M := kt_M398) kX13_elements_c0.2.2.2.2.2.2.2.1 rfl ?_
  refine kz_bi (M := kt_M398) 45 kX13_elements_c1.1 rfl ?_
  refine kz_cv1 (M := kt_M398) (c := 12) (o := 0) (As := [.int 45]) (rest := []) kX13_elements_c1.2.1 wl_X13_642 wMv_466 rfl (.inl rfl) rfl (Nat.le_trans (Nat.le_of_ble_eq_true rfl) hL) (Nat.le_of_ble_eq_true rfl) (Nat.le_of_ble_eq_true rfl) h (fun v2 w1 hle h => ?_) (fun _ _ _ h => kzx_no rfl h)
  have h := h hle
  refine kz_if_eq (M := kt_M398) kX13_elements_c1.2.2.1 (t := 46) rfl h (fun h => ?_) (fun h => ?_)
  · skip
    refine kz_iload_n (M := kt_M398) kX13_elements_c3.2.2.1 rfl ?_
    exact kz_iret (M := kt_M398) kX13_elements_c3.2.2.2.1 rfl rfl h
  · skip
    refine kz_iload_n (M := kt_M398) kX13_elements_c1.2.2.2.1 rfl ?_
    refine kz_bi (M := kt_M398) 16 kX13_elements_c1.2.2.2.2.1 rfl ?_
    refine kz_icmp_ne (M := kt_M398) kX13_elements_c1.2.2.2.2.2.1 (t := 30) rfl h (fun h => ?_) (fun h => ?_)
    · skip
      refine kz_aload_n (M := kt_M398) kX13_elements_c2.2.2.1 rfl ?_
      refine kz_iload_n (M := kt_M398) kX13_elements_c2.2.2.2.1 rfl ?_
      refine kz_aload_n (M := kt_M398) kX13_elements_c2.2.2.2.2.1 rfl ?_
      refine kz_cv1 (M := kt_M398) (c := 12) (o := 0) (As := []) (rest := [.int x2, .ref (w_adr E.2.1 12 0)]) kX13_elements_c2.2.2.2.2.2.1 wl_X13_651 wMv_396 rfl (.inl rfl) rfl (Nat.le_trans (Nat.le_of_ble_eq_true rfl) hL) (Nat.le_of_ble_eq_true rfl) (Nat.le_of_ble_eq_true rfl) h (fun v4 w3 hle h => ?_) (fun _ _ _ h => kzx_no rfl h)
      have h := h hle
      refine kz_cv1 (M := kt_M398) (c := 12) (o := 0) (As := [.int x2, .int v4]) (rest := []) kX13_elements_c2.2.2.2.2.2.2.1 wl_X13_598 wMv_368 rfl (.inl rfl) rfl (Nat.le_trans (Nat.le_of_ble_eq_true rfl) hL) (Nat.le_of_ble_eq_true rfl) (Nat.le_of_ble_eq_true rfl) h (fun v6 w5 hle h => ?_) (fun _ _ _ h => kzx_no rfl h)
      have h := h hle
      refine kz_sti_n (M := kt_M398) [(0, .ref (w_adr E.2.1 12 0)), (1, .int x1), (3, .int x3)] kX13_elements_c2.2.2.2.2.2.2.2.1 (Nat.le_of_ble_eq_true rfl) ⟨⟨rfl, rfl, .inl rfl⟩, ⟨⟨rfl, rfl, .inr rfl⟩, ⟨⟨rfl, rfl, .inl rfl⟩, trivial⟩⟩⟩ rfl ?_
      refine kz_inc (M := kt_M398) [(0, .ref (w_adr E.2.1 12 0)), (1, .int x1), (2, .int v6)] kX13_elements_c3.1 rfl (Nat.le_of_ble_eq_true rfl) ⟨⟨rfl, rfl, .inl rfl⟩, ⟨⟨rfl, rfl, .inl rfl⟩, ⟨⟨rfl, rfl, .inr rfl⟩, trivial⟩⟩⟩ rfl ?_
      refine kz_goto (M := kt_M398) kX13_elements_c3.2.1 (t := 9) rfl ?_
      exact kz_weak [(0, .ref (w_adr E.2.1 12 0)), (1, .int x1), (2, .int v6), (3, .int (x3 + 1))] ⟨rfl, ⟨rfl, ⟨rfl, ⟨rfl, trivial⟩⟩⟩⟩ rfl h
    · skip
      refine kz_aload_n (M := kt_M398) kX13_elements_c1.2.2.2.2.2.2.1 rfl ?_
      refine kz_ic (M := kt_M398) 2 kX13_elements_c1.2.2.2.2.2.2.2.1 rfl ?_
      refine kz_cvr (M := kt_M398) (c := 12) (o := 0) (As := [.int 2]) (rest := []) kX13_elements_c2.1 wl_X13_556 wMv_545 rfl (.inl rfl) rfl (Nat.le_trans (Nat.le_of_ble_eq_true rfl) hL) (Nat.le_of_ble_eq_true rfl) (Nat.le_of_ble_eq_true rfl) h (fun v8 w7 hle h => ?_) (fun _ _ _ h => kzx_no rfl h)
      have h := h hle
      exact kz_throw (M := kt_M398) (c := 13) (o := 0) kX13_elements_c2.2.1 rfl (.inl rfl) h (fun h => kzx_no rfl h)
def zb_X13_elements_p0 (E : zE) (L : Nat) (Q : kx_Rs → wS → Prop) (w : wS) : Prop := zw E (L - 23) kt_M396 [.ref (w_adr E.2.1 12 0)] w (wk1 (fun v2 w1 => wle w w1 → zL_X13_elements_p9 E L Q v2 v2 1 w1) (fun e w => Q (.inr e) w))
theorem zt_X13_elements_p0 {E : zE} {L : Nat} {Q : kx_Rs → wS → Prop} {w : wS} (hL : 23 ≤ L) (h : zb_X13_elements_p0 E L Q  w) : kzE E L kt_M398 0 [(0, .ref (w_adr E.2.1 12 0))] [] w Q := by
  unfold zb_X13_elements_p0 at h
  refine kz_aload_n (M := kt_M398) kX13_elements_c0.1 rfl ?_
  refine kz_cv1 (M := kt_M398) (c := 12) (o := 0) (As := []) (rest := []) kX13_elements_c0.2.1 wl_X13_651 wMv_396 rfl (.inl rfl) rfl (Nat.le_trans (Nat.le_of_ble_eq_true rfl) hL) (Nat.le_of_ble_eq_true rfl) (Nat.le_of_ble_eq_true rfl) h (fun v2 w1 hle h => ?_) (fun _ _ _ h => kzx_no rfl h)
  have h := h hle
  refine kz_sti_n (M := kt_M398) [(0, .ref (w_adr E.2.1 12 0))] kX13_elements_c0.2.2.1 (Nat.le_of_ble_eq_true rfl) ⟨⟨rfl, rfl, .inr rfl⟩, trivial⟩ rfl ?_
  refine kz_iload_n (M := kt_M398) kX13_elements_c0.2.2.2.1 rfl ?_
  refine kz_sti_n (M := kt_M398) [(0, .ref (w_adr E.2.1 12 0)), (1, .int v2)] kX13_elements_c0.2.2.2.2.1 (Nat.le_of_ble_eq_true rfl) ⟨⟨rfl, rfl, .inl rfl⟩, ⟨⟨rfl, rfl, .inr rfl⟩, trivial⟩⟩ rfl ?_
  refine kz_ic (M := kt_M398) 1 kX13_elements_c0.2.2.2.2.2.1 rfl ?_
  refine kz_sti_n (M := kt_M398) [(0, .ref (w_adr E.2.1 12 0)), (1, .int v2), (2, .int v2)] kX13_elements_c0.2.2.2.2.2.2.1 (Nat.le_of_ble_eq_true rfl) ⟨⟨rfl, rfl, .inl rfl⟩, ⟨⟨rfl, rfl, .inl rfl⟩, ⟨⟨rfl, rfl, .inr rfl⟩, trivial⟩⟩⟩ rfl ?_
  exact kz_weak [(0, .ref (w_adr E.2.1 12 0)), (1, .int v2), (2, .int v2), (3, .int 1)] ⟨rfl, ⟨rfl, ⟨rfl, ⟨rfl, trivial⟩⟩⟩⟩ rfl h
def zb_X13_replicator_p0 (E : zE) (L : Nat) (Q : kx_Rs → wS → Prop) (w : wS) : Prop := (kx_inb (w_i w 12 0 35) (w_n w 12 0 9) = true ∧ zw E (L - 22) kt_M494 [.ref (w_adr E.2.1 12 0), .int 20, .int (w_a w 12 0 9 (w_i w 12 0 35).toNatClampNeg)] w (wk1 (fun v2 w1 => wle w w1 → zw E (L - 20) kt_M601 [.ref (w_adr E.2.1 12 0)] w1 (wk1 (fun v4 w3 => wle w1 w3 → (kx_inb v2 (w_n w3 12 0 30) = true ∧ zw E (L - 21) kt_M600 [.ref (w_adr E.2.1 12 0), .int 51] (ws_a w3 12 0 30 (v2).toNatClampNeg v4) (wk0 (fun w5 => wle (ws_a w3 12 0 30 (v2).toNatClampNeg v4) w5 → zw E (L - 22) kt_M393 [.ref (w_adr E.2.1 12 0)] w5 (wk1 (fun v8 w7 => wle w5 w7 → (kx_inb v2 (w_n w7 12 0 28) = true ∧ zw E (L - 21) kt_M600 [.ref (w_adr E.2.1 12 0), .int 9] (ws_a w7 12 0 28 (v2).toNatClampNeg v8) (wk0 (fun w9 => wle (ws_a w7 12 0 28 (v2).toNatClampNeg v8) w9 → zw E (L - 22) kt_M393 [.ref (w_adr E.2.1 12 0)] w9 (wk1 (fun v12 w11 => wle w9 w11 → (kx_inb v2 (w_n w11 12 0 29) = true ∧ Q (.inl (some (.int v2))) (ws_a w11 12 0 29 (v2).toNatClampNeg v12))) (fun e w => Q (.inr e) w))) (fun e w => Q (.inr e) w)))) (fun e w => Q (.inr e) w))) (fun e w => Q (.inr e) w)))) (fun e w => Q (.inr e) w))) (fun e w => Q (.inr e) w)))
theorem zt_X13_replicator_p0 {E : zE} {L : Nat} {Q : kx_Rs → wS → Prop} {w : wS} (hL : 22 ≤ L) (h : zb_X13_replicator_p0 E L Q  w) : kzE E L kt_M525 0 [(0, .ref (w_adr E.2.1 12 0))] [] w Q := by
  unfold zb_X13_replicator_p0 at h
  refine kz_aload_n (M := kt_M525) kX13_replicator_c0.1 rfl ?_
  refine kz_bi (M := kt_M525) 20 kX13_replicator_c0.2.1 rfl ?_
  refine kz_aload_n (M := kt_M525) kX13_replicator_c0.2.2.1 rfl ?_
  refine kz_gfc (M := kt_M525) (x := 4081) (c := 12) (o := 0) kX13_replicator_c0.2.2.2.1 wf_X13_163 (.inl rfl) ?_
  refine kz_aload_n (M := kt_M525) kX13_replicator_c0.2.2.2.2.1 rfl ?_
  refine kz_gfi (M := kt_M525) (c := 12) (o := 0) kX13_replicator_c0.2.2.2.2.2.1 wf_X13_547 (.inl rfl) ?_
  refine kz_iald (M := kt_M525) (c := 12) (o := 0) (k := 9) (a := (E.2.1 4081)) kX13_replicator_c0.2.2.2.2.2.2.1 ow_12_0_9 oa_12_0_9 ot_0 h (fun h => ?_)
  refine kz_cv1 (M := kt_M525) (c := 12) (o := 0) (As := [.int 20, .int (w_a w 12 0 9 (w_i w 12 0 35).toNatClampNeg)]) (rest := []) kX13_replicator_c0.2.2.2.2.2.2.2.1 wl_X13_592 wMv_494 rfl (.inl rfl) rfl (Nat.le_trans (Nat.le_of_ble_eq_true rfl) hL) (Nat.le_of_ble_eq_true rfl) (Nat.le_of_ble_eq_true rfl) h (fun v2 w1 hle h => ?_) (fun _ _ _ h => kzx_no rfl h)
  have h := h hle
  refine kz_sti_n (M := kt_M525) [(0, .ref (w_adr E.2.1 12 0))] kX13_replicator_c1.1 (Nat.le_of_ble_eq_true rfl) ⟨⟨rfl, rfl, .inr rfl⟩, trivial⟩ rfl ?_
  refine kz_aload_n (M := kt_M525) kX13_replicator_c1.2.1 rfl ?_
  refine kz_gfc (M := kt_M525) (x := 4102) (c := 12) (o := 0) kX13_replicator_c1.2.2.1 wf_X13_199 (.inl rfl) ?_
  refine kz_iload_n (M := kt_M525) kX13_replicator_c1.2.2.2.1 rfl ?_
  refine kz_aload_n (M := kt_M525) kX13_replicator_c1.2.2.2.2.1 rfl ?_
  refine kz_cv1 (M := kt_M525) (c := 12) (o := 0) (As := []) (rest := [.int v2, .ref (E.2.1 4102)]) kX13_replicator_c1.2.2.2.2.2.1 wl_X13_639 wMv_601 rfl (.inl rfl) rfl (Nat.le_trans (Nat.le_of_ble_eq_true rfl) hL) (Nat.le_of_ble_eq_true rfl) (Nat.le_of_ble_eq_true rfl) h (fun v4 w3 hle h => ?_) (fun _ _ _ h => kzx_no rfl h)
  have h := h hle
  refine kz_iast (M := kt_M525) (c := 12) (o := 0) (k := 30) (a := (E.2.1 4102)) kX13_replicator_c1.2.2.2.2.2.2.1 ow_12_0_30 oa_12_0_30 ot_0 h (fun h => ?_)
  refine kz_aload_n (M := kt_M525) kX13_replicator_c1.2.2.2.2.2.2.2.1 rfl ?_
  refine kz_bi (M := kt_M525) 51 kX13_replicator_c2.1 rfl ?_
  refine kz_cv0 (M := kt_M525) (c := 12) (o := 0) (As := [.int 51]) (rest := []) kX13_replicator_c2.2.1 wl_X13_585 wMv_600 rfl (.inl rfl) rfl (Nat.le_trans (Nat.le_of_ble_eq_true rfl) hL) (Nat.le_of_ble_eq_true rfl) (Nat.le_of_ble_eq_true rfl) h (fun w5 hle h => ?_) (fun _ _ _ h => kzx_no rfl h)
  have h := h hle
  refine kz_aload_n (M := kt_M525) kX13_replicator_c2.2.2.1 rfl ?_
  refine kz_gfc (M := kt_M525) (x := 4100) (c := 12) (o := 0) kX13_replicator_c2.2.2.2.1 wf_X13_193 (.inl rfl) ?_
  refine kz_iload_n (M := kt_M525) kX13_replicator_c2.2.2.2.2.1 rfl ?_
  refine kz_aload_n (M := kt_M525) kX13_replicator_c2.2.2.2.2.2.1 rfl ?_
  refine kz_cv1 (M := kt_M525) (c := 12) (o := 0) (As := []) (rest := [.int v2, .ref (E.2.1 4100)]) kX13_replicator_c2.2.2.2.2.2.2.1 wl_X13_632 wMv_393 rfl (.inl rfl) rfl (Nat.le_trans (Nat.le_of_ble_eq_true rfl) hL) (Nat.le_of_ble_eq_true rfl) (Nat.le_of_ble_eq_true rfl) h (fun v8 w7 hle h => ?_) (fun _ _ _ h => kzx_no rfl h)
  have h := h hle
  refine kz_iast (M := kt_M525) (c := 12) (o := 0) (k := 28) (a := (E.2.1 4100)) kX13_replicator_c2.2.2.2.2.2.2.2.1 ow_12_0_28 oa_12_0_28 ot_0 h (fun h => ?_)
  refine kz_aload_n (M := kt_M525) kX13_replicator_c3.1 rfl ?_
  refine kz_bi (M := kt_M525) 9 kX13_replicator_c3.2.1 rfl ?_
  refine kz_cv0 (M := kt_M525) (c := 12) (o := 0) (As := [.int 9]) (rest := []) kX13_replicator_c3.2.2.1 wl_X13_585 wMv_600 rfl (.inl rfl) rfl (Nat.le_trans (Nat.le_of_ble_eq_true rfl) hL) (Nat.le_of_ble_eq_true rfl) (Nat.le_of_ble_eq_true rfl) h (fun w9 hle h => ?_) (fun _ _ _ h => kzx_no rfl h)
  have h := h hle
  refine kz_aload_n (M := kt_M525) kX13_replicator_c3.2.2.2.1 rfl ?_
  refine kz_gfc (M := kt_M525) (x := 4101) (c := 12) (o := 0) kX13_replicator_c3.2.2.2.2.1 wf_X13_196 (.inl rfl) ?_
  refine kz_iload_n (M := kt_M525) kX13_replicator_c3.2.2.2.2.2.1 rfl ?_
  refine kz_aload_n (M := kt_M525) kX13_replicator_c3.2.2.2.2.2.2.1 rfl ?_
  refine kz_cv1 (M := kt_M525) (c := 12) (o := 0) (As := []) (rest := [.int v2, .ref (E.2.1 4101)]) kX13_replicator_c3.2.2.2.2.2.2.2.1 wl_X13_632 wMv_393 rfl (.inl rfl) rfl (Nat.le_trans (Nat.le_of_ble_eq_true rfl) hL) (Nat.le_of_ble_eq_true rfl) (Nat.le_of_ble_eq_true rfl) h (fun v12 w11 hle h => ?_) (fun _ _ _ h => kzx_no rfl h)
  have h := h hle
  refine kz_iast (M := kt_M525) (c := 12) (o := 0) (k := 29) (a := (E.2.1 4101)) kX13_replicator_c4.1 ow_12_0_29 oa_12_0_29 ot_0 h (fun h => ?_)
  refine kz_iload_n (M := kt_M525) kX13_replicator_c4.2.1 rfl ?_
  exact kz_iret (M := kt_M525) kX13_replicator_c4.2.2.1 rfl rfl h
def zL_X13_processes_p15 (E : zE) (L : Nat) (Q : kx_Rs → wS → Prop) (x1 : Int32) (x3 : Int32) (x4 : Int32) (w : wS) : Prop := kzE E L kt_M516 15 [(0, .ref (w_adr E.2.1 12 0)), (1, .int x1), (3, .int x3), (4, .int x4)] [] w Q
def zb_X13_processes_p48 (E : zE) (L : Nat) (Q : kx_Rs → wS → Prop) (x1 : Int32) (x3 : Int32) (x4 : Int32) (w : wS) : Prop := zL_X13_processes_p15 E L Q x1 x3 x4 w
theorem zt_X13_processes_p48 {E : zE} {L : Nat} {Q : kx_Rs → wS → Prop} {x1 : Int32} {x3 : Int32} {x4 : Int32} {w : wS} (hL : 24 ≤ L) (h : zb_X13_processes_p48 E L Q x1 x3 x4 w) : kzE E L kt_M516 48 [(0, .ref (w_adr E.2.1 12 0)), (1, .int x1), (3, .int x3), (4, .int x4)] [] w Q := by
  unfold zb_X13_processes_p48 at h
  refine kz_goto (M := kt_M516) kX13_processes_c3.2.2.2.2.1 (t := 15) rfl ?_
  exact kz_weak [(0, .ref (w_adr E.2.1 12 0)), (1, .int x1), (3, .int x3), (4, .int x4)] ⟨rfl, ⟨rfl, ⟨rfl, ⟨rfl, trivial⟩⟩⟩⟩ rfl h
def zb_X13_processes_p15 (E : zE) (L : Nat) (Q : kx_Rs → wS → Prop) (x1 : Int32) (x3 : Int32) (x4 : Int32) (w : wS) : Prop := zw E (L - 21) kt_M438 [.ref (w_adr E.2.1 12 0), .int x1] w (wk1 (fun v2 w1 => wle w w1 → (if v2 = 0 then Q (.inl (some (.int x3))) w1 else zw E (L - 24) kt_M514 [.ref (w_adr E.2.1 12 0), .int x1] w1 (wk1 (fun v4 w3 => wle w1 w3 → zw E (L - 22) kt_M368 [.ref (w_adr E.2.1 12 0), .int x4, .int v4] w3 (wk1 (fun v6 w5 => wle w3 w5 → (if ¬ x3 = (-1) then zb_X13_processes_p48 E L Q x1 x3 v6 w5 else zb_X13_processes_p48 E L Q x1 v4 v6 w5)) (fun e w => Q (.inr e) w))) (fun e w => Q (.inr e) w)))) (fun e w => Q (.inr e) w))
theorem zt_X13_processes_p15 {E : zE} {L : Nat} {Q : kx_Rs → wS → Prop} {x1 : Int32} {x3 : Int32} {x4 : Int32} {w : wS} (hL : 24 ≤ L) (h : zb_X13_processes_p15 E L Q x1 x3 x4 w) : kzE E L kt_M516 15 [(0, .ref (w_adr E.2.1 12 0)), (1, .int x1), (3, .int x3), (4, .int x4)] [] w Q := by
  unfold zb_X13_processes_p15 at h
  refine kz_aload_n (M := kt_M516) kX13_processes_c1.2.2.1 rfl ?_
  refine kz_iload_n (M := kt_M516) kX13_processes_c1.2.2.2.1 rfl ?_
  refine kz_cv1 (M := kt_M516) (c := 12) (o := 0) (As := [.int x1]) (rest := []) kX13_processes_c1.2.2.2.2.1 wl_X13_578 wMv_438 rfl (.inl rfl) rfl (Nat.le_trans (Nat.le_of_ble_eq_true rfl) hL) (Nat.le_of_ble_eq_true rfl) (Nat.le_of_ble_eq_true rfl) h (fun v2 w1 hle h => ?_) (fun _ _ _ h => kzx_no rfl h)
  have h := h hle
  refine kz_if_eq (M := kt_M516) kX13_processes_c1.2.2.2.2.2.1 (t := 51) rfl h (fun h => ?_) (fun h => ?_)
  · skip
    refine kz_iload_n (M := kt_M516) kX13_processes_c3.2.2.2.2.2.1 rfl ?_
    exact kz_iret (M := kt_M516) kX13_processes_c3.2.2.2.2.2.2.1 rfl rfl h
  · skip
    refine kz_aload_n (M := kt_M516) kX13_processes_c1.2.2.2.2.2.2.1 rfl ?_
    refine kz_iload_n (M := kt_M516) kX13_processes_c1.2.2.2.2.2.2.2.1 rfl ?_
    refine kz_cv1 (M := kt_M516) (c := 12) (o := 0) (As := [.int x1]) (rest := []) kX13_processes_c2.1 wl_X13_604 wMv_514 rfl (.inl rfl) rfl (Nat.le_trans (Nat.le_of_ble_eq_true rfl) hL) (Nat.le_of_ble_eq_true rfl) (Nat.le_of_ble_eq_true rfl) h (fun v4 w3 hle h => ?_) (fun _ _ _ h => kzx_no rfl h)
    have h := h hle
    refine kz_sti (M := kt_M516) [(0, .ref (w_adr E.2.1 12 0)), (1, .int x1), (3, .int x3), (4, .int x4)] kX13_processes_c2.2.1 (Nat.le_of_ble_eq_true rfl) ⟨⟨rfl, rfl, .inl rfl⟩, ⟨⟨rfl, rfl, .inl rfl⟩, ⟨⟨rfl, rfl, .inl rfl⟩, ⟨⟨rfl, rfl, .inr rfl⟩, trivial⟩⟩⟩⟩ rfl ?_
    refine kz_aload_n (M := kt_M516) kX13_processes_c2.2.2.1 rfl ?_
    refine kz_iload (M := kt_M516) kX13_processes_c2.2.2.2.1 rfl ?_
    refine kz_iload (M := kt_M516) kX13_processes_c2.2.2.2.2.1 rfl ?_
    refine kz_cv1 (M := kt_M516) (c := 12) (o := 0) (As := [.int x4, .int v4]) (rest := []) kX13_processes_c2.2.2.2.2.2.1 wl_X13_598 wMv_368 rfl (.inl rfl) rfl (Nat.le_trans (Nat.le_of_ble_eq_true rfl) hL) (Nat.le_of_ble_eq_true rfl) (Nat.le_of_ble_eq_true rfl) h (fun v6 w5 hle h => ?_) (fun _ _ _ h => kzx_no rfl h)
    have h := h hle
    refine kz_sti (M := kt_M516) [(0, .ref (w_adr E.2.1 12 0)), (1, .int x1), (3, .int x3), (5, .int v4)] kX13_processes_c2.2.2.2.2.2.2.1 (Nat.le_of_ble_eq_true rfl) ⟨⟨rfl, rfl, .inl rfl⟩, ⟨⟨rfl, rfl, .inl rfl⟩, ⟨⟨rfl, rfl, .inr rfl⟩, ⟨⟨rfl, rfl, .inl rfl⟩, trivial⟩⟩⟩⟩ rfl ?_
    refine kz_iload_n (M := kt_M516) kX13_processes_c2.2.2.2.2.2.2.2.1 rfl ?_
    refine kz_ic (M := kt_M516) (-1) kX13_processes_c3.1 rfl ?_
    refine kz_icmp_ne (M := kt_M516) kX13_processes_c3.2.1 (t := 48) rfl h (fun h => ?_) (fun h => ?_)
    · skip
      exact kz_weak [(0, .ref (w_adr E.2.1 12 0)), (1, .int x1), (3, .int x3), (4, .int v6)] ⟨rfl, ⟨rfl, ⟨rfl, ⟨rfl, trivial⟩⟩⟩⟩ rfl (zt_X13_processes_p48 hL  h)
    · skip
      refine kz_iload (M := kt_M516) kX13_processes_c3.2.2.1 rfl ?_
      refine kz_sti_n (M := kt_M516) [(0, .ref (w_adr E.2.1 12 0)), (1, .int x1), (4, .int v6)] kX13_processes_c3.2.2.2.1 (Nat.le_of_ble_eq_true rfl) ⟨⟨rfl, rfl, .inl rfl⟩, ⟨⟨rfl, rfl, .inl rfl⟩, ⟨⟨rfl, rfl, .inl rfl⟩, trivial⟩⟩⟩ rfl ?_
      exact kz_weak [(0, .ref (w_adr E.2.1 12 0)), (1, .int x1), (3, .int v4), (4, .int v6)] ⟨rfl, ⟨rfl, ⟨rfl, ⟨rfl, trivial⟩⟩⟩⟩ rfl (zt_X13_processes_p48 hL  h)
def zb_X13_processes_p0 (E : zE) (L : Nat) (Q : kx_Rs → wS → Prop) (x1 : Int32) (x2 : Int32) (w : wS) : Prop := (if x2 = 0 then zL_X13_processes_p15 E L Q x1 (-1) (-1) w else zw E (L - 24) kt_M514 [.ref (w_adr E.2.1 12 0), .int x1] w (wk1 (fun v2 w1 => wle w w1 → Q (.inl (some (.int v2))) w1) (fun e w => Q (.inr e) w)))
theorem zt_X13_processes_p0 {E : zE} {L : Nat} {Q : kx_Rs → wS → Prop} {x1 : Int32} {x2 : Int32} {w : wS} (hL : 24 ≤ L) (h : zb_X13_processes_p0 E L Q x1 x2 w) : kzE E L kt_M516 0 [(0, .ref (w_adr E.2.1 12 0)), (1, .int x1), (2, .int x2)] [] w Q := by
  unfold zb_X13_processes_p0 at h
  refine kz_ic (M := kt_M516) (-1) kX13_processes_c0.1 rfl ?_
  refine kz_sti_n (M := kt_M516) [(0, .ref (w_adr E.2.1 12 0)), (1, .int x1), (2, .int x2)] kX13_processes_c0.2.1 (Nat.le_of_ble_eq_true rfl) ⟨⟨rfl, rfl, .inl rfl⟩, ⟨⟨rfl, rfl, .inl rfl⟩, ⟨⟨rfl, rfl, .inr rfl⟩, trivial⟩⟩⟩ rfl ?_
  refine kz_ic (M := kt_M516) (-1) kX13_processes_c0.2.2.1 rfl ?_
  refine kz_sti (M := kt_M516) [(0, .ref (w_adr E.2.1 12 0)), (1, .int x1), (2, .int x2), (3, .int (-1))] kX13_processes_c0.2.2.2.1 (Nat.le_of_ble_eq_true rfl) ⟨⟨rfl, rfl, .inl rfl⟩, ⟨⟨rfl, rfl, .inl rfl⟩, ⟨⟨rfl, rfl, .inl rfl⟩, ⟨⟨rfl, rfl, .inr rfl⟩, trivial⟩⟩⟩⟩ rfl ?_
  refine kz_iload_n (M := kt_M516) kX13_processes_c0.2.2.2.2.1 rfl ?_
  refine kz_if_eq (M := kt_M516) kX13_processes_c0.2.2.2.2.2.1 (t := 15) rfl h (fun h => ?_) (fun h => ?_)
  · skip
    exact kz_weak [(0, .ref (w_adr E.2.1 12 0)), (1, .int x1), (3, .int (-1)), (4, .int (-1))] ⟨rfl, ⟨rfl, ⟨rfl, ⟨rfl, trivial⟩⟩⟩⟩ rfl h
  · skip
    refine kz_aload_n (M := kt_M516) kX13_processes_c0.2.2.2.2.2.2.1 rfl ?_
    refine kz_iload_n (M := kt_M516) kX13_processes_c0.2.2.2.2.2.2.2.1 rfl ?_
    refine kz_cv1 (M := kt_M516) (c := 12) (o := 0) (As := [.int x1]) (rest := []) kX13_processes_c1.1 wl_X13_604 wMv_514 rfl (.inl rfl) rfl (Nat.le_trans (Nat.le_of_ble_eq_true rfl) hL) (Nat.le_of_ble_eq_true rfl) (Nat.le_of_ble_eq_true rfl) h (fun v2 w1 hle h => ?_) (fun _ _ _ h => kzx_no rfl h)
    have h := h hle
    exact kz_iret (M := kt_M516) kX13_processes_c1.2.1 rfl rfl h
def zL_X13_choices_p15 (E : zE) (L : Nat) (Q : kx_Rs → wS → Prop) (x1 : Int32) (x3 : Int32) (x4 : Int32) (w : wS) : Prop := kzE E L kt_M371 15 [(0, .ref (w_adr E.2.1 12 0)), (1, .int x1), (3, .int x3), (4, .int x4)] [] w Q
def zb_X13_choices_p107 (E : zE) (L : Nat) (Q : kx_Rs → wS → Prop) (x1 : Int32) (x3 : Int32) (x4 : Int32) (w : wS) : Prop := zL_X13_choices_p15 E L Q x1 x3 x4 w
theorem zt_X13_choices_p107 {E : zE} {L : Nat} {Q : kx_Rs → wS → Prop} {x1 : Int32} {x3 : Int32} {x4 : Int32} {w : wS} (hL : 24 ≤ L) (h : zb_X13_choices_p107 E L Q x1 x3 x4 w) : kzE E L kt_M371 107 [(0, .ref (w_adr E.2.1 12 0)), (1, .int x1), (3, .int x3), (4, .int x4)] [] w Q := by
  unfold zb_X13_choices_p107 at h
  refine kz_goto (M := kt_M371) kX13_choices_c7.2.2.2.2.2.2.2.1 (t := 15) rfl ?_
  exact kz_weak [(0, .ref (w_adr E.2.1 12 0)), (1, .int x1), (3, .int x3), (4, .int x4)] ⟨rfl, ⟨rfl, ⟨rfl, ⟨rfl, trivial⟩⟩⟩⟩ rfl h
def zb_X13_choices_p15 (E : zE) (L : Nat) (Q : kx_Rs → wS → Prop) (x1 : Int32) (x3 : Int32) (x4 : Int32) (w : wS) : Prop := zw E (L - 21) kt_M438 [.ref (w_adr E.2.1 12 0), .int (x1 + 1)] w (wk1 (fun v2 w1 => wle w w1 → (if v2 = 0 then Q (.inl (some (.int x3))) w1 else zw E (L - 22) kt_M458 [.ref (w_adr E.2.1 12 0), .int (x1 + 1), .int 2] w1 (wk0 (fun w3 => wle w1 w3 → (kx_inb (w_i w3 12 0 35) (w_n w3 12 0 9) = true ∧ zw E (L - 22) kt_M494 [.ref (w_adr E.2.1 12 0), .int 13, .int (w_a w3 12 0 9 (w_i w3 12 0 35).toNatClampNeg)] w3 (wk1 (fun v6 w5 => wle w3 w5 → zw E (L - 22) kt_M393 [.ref (w_adr E.2.1 12 0)] w5 (wk1 (fun v8 w7 => wle w5 w7 → (kx_inb v6 (w_n w7 12 0 28) = true ∧ zw E (L - 20) kt_M400 [.ref (w_adr E.2.1 12 0)] (ws_a w7 12 0 28 (v6).toNatClampNeg v8) (wk0 (fun w9 => wle (ws_a w7 12 0 28 (v6).toNatClampNeg v8) w9 → zw E (L - 24) kt_M514 [.ref (w_adr E.2.1 12 0), .int (x1 + 2)] w9 (wk1 (fun v12 w11 => wle w9 w11 → (kx_inb v6 (w_n w11 12 0 29) = true ∧ zw E (L - 22) kt_M368 [.ref (w_adr E.2.1 12 0), .int x4, .int v6] (ws_a w11 12 0 29 (v6).toNatClampNeg v12) (wk1 (fun v14 w13 => wle (ws_a w11 12 0 29 (v6).toNatClampNeg v12) w13 → (kx_inb x3 (w_n w13 12 0 29) = true ∧ (if ¬ w_a w13 12 0 29 (x3).toNatClampNeg = (-1) then zb_X13_choices_p107 E L Q x1 x3 v14 w13 else (kx_inb x3 (w_n w13 12 0 29) = true ∧ zb_X13_choices_p107 E L Q x1 x3 v14 (ws_a w13 12 0 29 (x3).toNatClampNeg v6))))) (fun e w => Q (.inr e) w)))) (fun e w => Q (.inr e) w))) (fun e w => Q (.inr e) w)))) (fun e w => Q (.inr e) w))) (fun e w => Q (.inr e) w)))) (fun e w => Q (.inr e) w)))) (fun e w => Q (.inr e) w))
theorem zt_X13_choices_p15 {E : zE} {L : Nat} {Q : kx_Rs → wS → Prop} {x1 : Int32} {x3 : Int32} {x4 : Int32} {w : wS} (hL : 24 ≤ L) (h : zb_X13_choices_p15 E L Q x1 x3 x4 w) : kzE E L kt_M371 15 [(0, .ref (w_adr E.2.1 12 0)), (1, .int x1), (3, .int x3), (4, .int x4)] [] w Q := by
  unfold zb_X13_choices_p15 at h
  refine kz_aload_n (M := kt_M371) kX13_choices_c1.2.1 rfl ?_
  refine kz_iload_n (M := kt_M371) kX13_choices_c1.2.2.1 rfl ?_
  refine kz_ic (M := kt_M371) 1 kX13_choices_c1.2.2.2.1 rfl ?_
  refine kz_iadd (M := kt_M371) kX13_choices_c1.2.2.2.2.1 ?_
  refine kz_cv1 (M := kt_M371) (c := 12) (o := 0) (As := [.int (x1 + 1)]) (rest := []) kX13_choices_c1.2.2.2.2.2.1 wl_X13_578 wMv_438 rfl (.inl rfl) rfl (Nat.le_trans (Nat.le_of_ble_eq_true rfl) hL) (Nat.le_of_ble_eq_true rfl) (Nat.le_of_ble_eq_true rfl) h (fun v2 w1 hle h => ?_) (fun _ _ _ h => kzx_no rfl h)
  have h := h hle
  refine kz_if_eq (M := kt_M371) kX13_choices_c1.2.2.2.2.2.2.1 (t := 110) rfl h (fun h => ?_) (fun h => ?_)
  · skip
    refine kz_iload_n (M := kt_M371) kX13_choices_c8.1 rfl ?_
    exact kz_iret (M := kt_M371) kX13_choices_c8.2.1 rfl rfl h
  · skip
    refine kz_aload_n (M := kt_M371) kX13_choices_c1.2.2.2.2.2.2.2.1 rfl ?_
    refine kz_iload_n (M := kt_M371) kX13_choices_c2.1 rfl ?_
    refine kz_ic (M := kt_M371) 1 kX13_choices_c2.2.1 rfl ?_
    refine kz_iadd (M := kt_M371) kX13_choices_c2.2.2.1 ?_
    refine kz_ic (M := kt_M371) 2 kX13_choices_c2.2.2.2.1 rfl ?_
    refine kz_cv0 (M := kt_M371) (c := 12) (o := 0) (As := [.int (x1 + 1), .int 2]) (rest := []) kX13_choices_c2.2.2.2.2.1 wl_X13_588 wMv_458 rfl (.inl rfl) rfl (Nat.le_trans (Nat.le_of_ble_eq_true rfl) hL) (Nat.le_of_ble_eq_true rfl) (Nat.le_of_ble_eq_true rfl) h (fun w3 hle h => ?_) (fun _ _ _ h => kzx_no rfl h)
    have h := h hle
    refine kz_aload_n (M := kt_M371) kX13_choices_c2.2.2.2.2.2.1 rfl ?_
    refine kz_bi (M := kt_M371) 13 kX13_choices_c2.2.2.2.2.2.2.1 rfl ?_
    refine kz_aload_n (M := kt_M371) kX13_choices_c2.2.2.2.2.2.2.2.1 rfl ?_
    refine kz_gfc (M := kt_M371) (x := 4081) (c := 12) (o := 0) kX13_choices_c3.1 wf_X13_163 (.inl rfl) ?_
    refine kz_aload_n (M := kt_M371) kX13_choices_c3.2.1 rfl ?_
    refine kz_gfi (M := kt_M371) (c := 12) (o := 0) kX13_choices_c3.2.2.1 wf_X13_547 (.inl rfl) ?_
    refine kz_iald (M := kt_M371) (c := 12) (o := 0) (k := 9) (a := (E.2.1 4081)) kX13_choices_c3.2.2.2.1 ow_12_0_9 oa_12_0_9 ot_0 h (fun h => ?_)
    refine kz_cv1 (M := kt_M371) (c := 12) (o := 0) (As := [.int 13, .int (w_a w3 12 0 9 (w_i w3 12 0 35).toNatClampNeg)]) (rest := []) kX13_choices_c3.2.2.2.2.1 wl_X13_592 wMv_494 rfl (.inl rfl) rfl (Nat.le_trans (Nat.le_of_ble_eq_true rfl) hL) (Nat.le_of_ble_eq_true rfl) (Nat.le_of_ble_eq_true rfl) h (fun v6 w5 hle h => ?_) (fun _ _ _ h => kzx_no rfl h)
    have h := h hle
    refine kz_sti (M := kt_M371) [(0, .ref (w_adr E.2.1 12 0)), (1, .int x1), (3, .int x3), (4, .int x4)] kX13_choices_c3.2.2.2.2.2.1 (Nat.le_of_ble_eq_true rfl) ⟨⟨rfl, rfl, .inl rfl⟩, ⟨⟨rfl, rfl, .inl rfl⟩, ⟨⟨rfl, rfl, .inl rfl⟩, ⟨⟨rfl, rfl, .inr rfl⟩, trivial⟩⟩⟩⟩ rfl ?_
    refine kz_aload_n (M := kt_M371) kX13_choices_c3.2.2.2.2.2.2.1 rfl ?_
    refine kz_gfc (M := kt_M371) (x := 4100) (c := 12) (o := 0) kX13_choices_c3.2.2.2.2.2.2.2.1 wf_X13_193 (.inl rfl) ?_
    refine kz_iload (M := kt_M371) kX13_choices_c4.1 rfl ?_
    refine kz_aload_n (M := kt_M371) kX13_choices_c4.2.1 rfl ?_
    refine kz_cv1 (M := kt_M371) (c := 12) (o := 0) (As := []) (rest := [.int v6, .ref (E.2.1 4100)]) kX13_choices_c4.2.2.1 wl_X13_632 wMv_393 rfl (.inl rfl) rfl (Nat.le_trans (Nat.le_of_ble_eq_true rfl) hL) (Nat.le_of_ble_eq_true rfl) (Nat.le_of_ble_eq_true rfl) h (fun v8 w7 hle h => ?_) (fun _ _ _ h => kzx_no rfl h)
    have h := h hle
    refine kz_iast (M := kt_M371) (c := 12) (o := 0) (k := 28) (a := (E.2.1 4100)) kX13_choices_c4.2.2.2.1 ow_12_0_28 oa_12_0_28 ot_0 h (fun h => ?_)
    refine kz_aload_n (M := kt_M371) kX13_choices_c4.2.2.2.2.1 rfl ?_
    refine kz_cv0 (M := kt_M371) (c := 12) (o := 0) (As := []) (rest := []) kX13_choices_c4.2.2.2.2.2.1 wl_X13_616 wMv_400 rfl (.inl rfl) rfl (Nat.le_trans (Nat.le_of_ble_eq_true rfl) hL) (Nat.le_of_ble_eq_true rfl) (Nat.le_of_ble_eq_true rfl) h (fun w9 hle h => ?_) (fun _ _ _ h => kzx_no rfl h)
    have h := h hle
    refine kz_aload_n (M := kt_M371) kX13_choices_c4.2.2.2.2.2.2.1 rfl ?_
    refine kz_gfc (M := kt_M371) (x := 4101) (c := 12) (o := 0) kX13_choices_c4.2.2.2.2.2.2.2.1 wf_X13_196 (.inl rfl) ?_
    refine kz_iload (M := kt_M371) kX13_choices_c5.1 rfl ?_
    refine kz_aload_n (M := kt_M371) kX13_choices_c5.2.1 rfl ?_
    refine kz_iload_n (M := kt_M371) kX13_choices_c5.2.2.1 rfl ?_
    refine kz_ic (M := kt_M371) 2 kX13_choices_c5.2.2.2.1 rfl ?_
    refine kz_iadd (M := kt_M371) kX13_choices_c5.2.2.2.2.1 ?_
    refine kz_cv1 (M := kt_M371) (c := 12) (o := 0) (As := [.int (x1 + 2)]) (rest := [.int v6, .ref (E.2.1 4101)]) kX13_choices_c5.2.2.2.2.2.1 wl_X13_604 wMv_514 rfl (.inl rfl) rfl (Nat.le_trans (Nat.le_of_ble_eq_true rfl) hL) (Nat.le_of_ble_eq_true rfl) (Nat.le_of_ble_eq_true rfl) h (fun v12 w11 hle h => ?_) (fun _ _ _ h => kzx_no rfl h)
    have h := h hle
    refine kz_iast (M := kt_M371) (c := 12) (o := 0) (k := 29) (a := (E.2.1 4101)) kX13_choices_c5.2.2.2.2.2.2.1 ow_12_0_29 oa_12_0_29 ot_0 h (fun h => ?_)
    refine kz_aload_n (M := kt_M371) kX13_choices_c5.2.2.2.2.2.2.2.1 rfl ?_
    refine kz_iload (M := kt_M371) kX13_choices_c6.1 rfl ?_
    refine kz_iload (M := kt_M371) kX13_choices_c6.2.1 rfl ?_
    refine kz_cv1 (M := kt_M371) (c := 12) (o := 0) (As := [.int x4, .int v6]) (rest := []) kX13_choices_c6.2.2.1 wl_X13_598 wMv_368 rfl (.inl rfl) rfl (Nat.le_trans (Nat.le_of_ble_eq_true rfl) hL) (Nat.le_of_ble_eq_true rfl) (Nat.le_of_ble_eq_true rfl) h (fun v14 w13 hle h => ?_) (fun _ _ _ h => kzx_no rfl h)
    have h := h hle
    refine kz_sti (M := kt_M371) [(0, .ref (w_adr E.2.1 12 0)), (1, .int x1), (3, .int x3), (5, .int v6)] kX13_choices_c6.2.2.2.1 (Nat.le_of_ble_eq_true rfl) ⟨⟨rfl, rfl, .inl rfl⟩, ⟨⟨rfl, rfl, .inl rfl⟩, ⟨⟨rfl, rfl, .inr rfl⟩, ⟨⟨rfl, rfl, .inl rfl⟩, trivial⟩⟩⟩⟩ rfl ?_
    refine kz_aload_n (M := kt_M371) kX13_choices_c6.2.2.2.2.1 rfl ?_
    refine kz_gfc (M := kt_M371) (x := 4101) (c := 12) (o := 0) kX13_choices_c6.2.2.2.2.2.1 wf_X13_196 (.inl rfl) ?_
    refine kz_iload_n (M := kt_M371) kX13_choices_c6.2.2.2.2.2.2.1 rfl ?_
    refine kz_iald (M := kt_M371) (c := 12) (o := 0) (k := 29) (a := (E.2.1 4101)) kX13_choices_c6.2.2.2.2.2.2.2.1 ow_12_0_29 oa_12_0_29 ot_0 h (fun h => ?_)
    refine kz_ic (M := kt_M371) (-1) kX13_choices_c7.1 rfl ?_
    refine kz_icmp_ne (M := kt_M371) kX13_choices_c7.2.1 (t := 107) rfl h (fun h => ?_) (fun h => ?_)
    · skip
      exact kz_weak [(0, .ref (w_adr E.2.1 12 0)), (1, .int x1), (3, .int x3), (4, .int v14)] ⟨rfl, ⟨rfl, ⟨rfl, ⟨rfl, trivial⟩⟩⟩⟩ rfl (zt_X13_choices_p107 hL  h)
    · skip
      refine kz_aload_n (M := kt_M371) kX13_choices_c7.2.2.1 rfl ?_
      refine kz_gfc (M := kt_M371) (x := 4101) (c := 12) (o := 0) kX13_choices_c7.2.2.2.1 wf_X13_196 (.inl rfl) ?_
      refine kz_iload_n (M := kt_M371) kX13_choices_c7.2.2.2.2.1 rfl ?_
      refine kz_iload (M := kt_M371) kX13_choices_c7.2.2.2.2.2.1 rfl ?_
      refine kz_iast (M := kt_M371) (c := 12) (o := 0) (k := 29) (a := (E.2.1 4101)) kX13_choices_c7.2.2.2.2.2.2.1 ow_12_0_29 oa_12_0_29 ot_0 h (fun h => ?_)
      exact kz_weak [(0, .ref (w_adr E.2.1 12 0)), (1, .int x1), (3, .int x3), (4, .int v14)] ⟨rfl, ⟨rfl, ⟨rfl, ⟨rfl, trivial⟩⟩⟩⟩ rfl (zt_X13_choices_p107 hL  h)
def zb_X13_choices_p0 (E : zE) (L : Nat) (Q : kx_Rs → wS → Prop) (x1 : Int32) (x2 : Int32) (w : wS) : Prop := zw E (L - 22) kt_M494 [.ref (w_adr E.2.1 12 0), .int 12, .int x2] w (wk1 (fun v2 w1 => wle w w1 → zw E (L - 20) kt_M400 [.ref (w_adr E.2.1 12 0)] w1 (wk0 (fun w3 => wle w1 w3 → zL_X13_choices_p15 E L Q x1 v2 (-1) w3) (fun e w => Q (.inr e) w))) (fun e w => Q (.inr e) w))
theorem zt_X13_choices_p0 {E : zE} {L : Nat} {Q : kx_Rs → wS → Prop} {x1 : Int32} {x2 : Int32} {w : wS} (hL : 24 ≤ L) (h : zb_X13_choices_p0 E L Q x1 x2 w) : kzE E L kt_M371 0 [(0, .ref (w_adr E.2.1 12 0)), (1, .int x1), (2, .int x2)] [] w Q := by
  unfold zb_X13_choices_p0 at h
  refine kz_aload_n (M := kt_M371) kX13_choices_c0.1 rfl ?_
  refine kz_bi (M := kt_M371) 12 kX13_choices_c0.2.1 rfl ?_
  refine kz_iload_n (M := kt_M371) kX13_choices_c0.2.2.1 rfl ?_
  refine kz_cv1 (M := kt_M371) (c := 12) (o := 0) (As := [.int 12, .int x2]) (rest := []) kX13_choices_c0.2.2.2.1 wl_X13_592 wMv_494 rfl (.inl rfl) rfl (Nat.le_trans (Nat.le_of_ble_eq_true rfl) hL) (Nat.le_of_ble_eq_true rfl) (Nat.le_of_ble_eq_true rfl) h (fun v2 w1 hle h => ?_) (fun _ _ _ h => kzx_no rfl h)
  have h := h hle
  refine kz_sti_n (M := kt_M371) [(0, .ref (w_adr E.2.1 12 0)), (1, .int x1)] kX13_choices_c0.2.2.2.2.1 (Nat.le_of_ble_eq_true rfl) ⟨⟨rfl, rfl, .inl rfl⟩, ⟨⟨rfl, rfl, .inl rfl⟩, trivial⟩⟩ rfl ?_
  refine kz_aload_n (M := kt_M371) kX13_choices_c0.2.2.2.2.2.1 rfl ?_
  refine kz_cv0 (M := kt_M371) (c := 12) (o := 0) (As := []) (rest := []) kX13_choices_c0.2.2.2.2.2.2.1 wl_X13_616 wMv_400 rfl (.inl rfl) rfl (Nat.le_trans (Nat.le_of_ble_eq_true rfl) hL) (Nat.le_of_ble_eq_true rfl) (Nat.le_of_ble_eq_true rfl) h (fun w3 hle h => ?_) (fun _ _ _ h => kzx_no rfl h)
  have h := h hle
  refine kz_ic (M := kt_M371) (-1) kX13_choices_c0.2.2.2.2.2.2.2.1 rfl ?_
  refine kz_sti (M := kt_M371) [(0, .ref (w_adr E.2.1 12 0)), (1, .int x1), (3, .int v2)] kX13_choices_c1.1 (Nat.le_of_ble_eq_true rfl) ⟨⟨rfl, rfl, .inl rfl⟩, ⟨⟨rfl, rfl, .inl rfl⟩, ⟨⟨rfl, rfl, .inr rfl⟩, trivial⟩⟩⟩ rfl ?_
  exact kz_weak [(0, .ref (w_adr E.2.1 12 0)), (1, .int x1), (3, .int v2), (4, .int (-1))] ⟨rfl, ⟨rfl, ⟨rfl, ⟨rfl, trivial⟩⟩⟩⟩ rfl h
def zL_X13_cases_p28 (E : zE) (L : Nat) (Q : kx_Rs → wS → Prop) (x1 : Int32) (x3 : Int32) (x4 : Int32) (x5 : Int32) (w : wS) : Prop := kzE E L kt_M365 28 [(0, .ref (w_adr E.2.1 12 0)), (1, .int x1), (3, .int x3), (4, .int x4), (5, .int x5)] [] w Q
def zb_X13_cases_p143 (E : zE) (L : Nat) (Q : kx_Rs → wS → Prop) (x3 : Int32) (w : wS) : Prop := Q (.inl (some (.int x3))) w
theorem zt_X13_cases_p143 {E : zE} {L : Nat} {Q : kx_Rs → wS → Prop} {x3 : Int32} {w : wS} (hL : 24 ≤ L) (h : zb_X13_cases_p143 E L Q x3 w) : kzE E L kt_M365 143 [(0, .ref (w_adr E.2.1 12 0)), (3, .int x3)] [] w Q := by
  unfold zb_X13_cases_p143 at h
  refine kz_iload_n (M := kt_M365) kX13_cases_c10.2.1 rfl ?_
  exact kz_iret (M := kt_M365) kX13_cases_c10.2.2.1 rfl rfl h
def zb_X13_cases_p140 (E : zE) (L : Nat) (Q : kx_Rs → wS → Prop) (x1 : Int32) (x3 : Int32) (x4 : Int32) (x5 : Int32) (w : wS) : Prop := zL_X13_cases_p28 E L Q x1 x3 x4 x5 w
theorem zt_X13_cases_p140 {E : zE} {L : Nat} {Q : kx_Rs → wS → Prop} {x1 : Int32} {x3 : Int32} {x4 : Int32} {x5 : Int32} {w : wS} (hL : 24 ≤ L) (h : zb_X13_cases_p140 E L Q x1 x3 x4 x5 w) : kzE E L kt_M365 140 [(0, .ref (w_adr E.2.1 12 0)), (1, .int x1), (3, .int x3), (4, .int x4), (5, .int x5)] [] w Q := by
  unfold zb_X13_cases_p140 at h
  refine kz_goto (M := kt_M365) kX13_cases_c10.1 (t := 28) rfl ?_
  exact kz_weak [(0, .ref (w_adr E.2.1 12 0)), (1, .int x1), (3, .int x3), (4, .int x4), (5, .int x5)] ⟨rfl, ⟨rfl, ⟨rfl, ⟨rfl, ⟨rfl, trivial⟩⟩⟩⟩⟩ rfl h
def zb_X13_cases_p94 (E : zE) (L : Nat) (Q : kx_Rs → wS → Prop) (x1 : Int32) (x3 : Int32) (x4 : Int32) (x5 : Int32) (x6 : Int32) (w : wS) : Prop := zw E (L - 20) kt_M400 [.ref (w_adr E.2.1 12 0)] w (wk0 (fun w1 => wle w w1 → zw E (L - 24) kt_M514 [.ref (w_adr E.2.1 12 0), .int (x1 + 2)] w1 (wk1 (fun v4 w3 => wle w1 w3 → (kx_inb x6 (w_n w3 12 0 29) = true ∧ zw E (L - 22) kt_M368 [.ref (w_adr E.2.1 12 0), .int x4, .int x6] (ws_a w3 12 0 29 (x6).toNatClampNeg v4) (wk1 (fun v6 w5 => wle (ws_a w3 12 0 29 (x6).toNatClampNeg v4) w5 → (kx_inb x3 (w_n w5 12 0 29) = true ∧ (if ¬ w_a w5 12 0 29 (x3).toNatClampNeg = (-1) then zb_X13_cases_p140 E L Q x1 x3 v6 x5 w5 else (kx_inb x3 (w_n w5 12 0 29) = true ∧ zb_X13_cases_p140 E L Q x1 x3 v6 x5 (ws_a w5 12 0 29 (x3).toNatClampNeg x6))))) (fun e w => Q (.inr e) w)))) (fun e w => Q (.inr e) w))) (fun e w => Q (.inr e) w))
theorem zt_X13_cases_p94 {E : zE} {L : Nat} {Q : kx_Rs → wS → Prop} {x1 : Int32} {x3 : Int32} {x4 : Int32} {x5 : Int32} {x6 : Int32} {w : wS} (hL : 24 ≤ L) (h : zb_X13_cases_p94 E L Q x1 x3 x4 x5 x6 w) : kzE E L kt_M365 94 [(0, .ref (w_adr E.2.1 12 0)), (1, .int x1), (3, .int x3), (4, .int x4), (5, .int x5), (6, .int x6)] [] w Q := by
  unfold zb_X13_cases_p94 at h
  refine kz_aload_n (M := kt_M365) kX13_cases_c6.2.2.2.2.2.1 rfl ?_
  refine kz_cv0 (M := kt_M365) (c := 12) (o := 0) (As := []) (rest := []) kX13_cases_c6.2.2.2.2.2.2.1 wl_X13_616 wMv_400 rfl (.inl rfl) rfl (Nat.le_trans (Nat.le_of_ble_eq_true rfl) hL) (Nat.le_of_ble_eq_true rfl) (Nat.le_of_ble_eq_true rfl) h (fun w1 hle h => ?_) (fun _ _ _ h => kzx_no rfl h)
  have h := h hle
  refine kz_aload_n (M := kt_M365) kX13_cases_c6.2.2.2.2.2.2.2.1 rfl ?_
  refine kz_gfc (M := kt_M365) (x := 4101) (c := 12) (o := 0) kX13_cases_c7.1 wf_X13_196 (.inl rfl) ?_
  refine kz_iload (M := kt_M365) kX13_cases_c7.2.1 rfl ?_
  refine kz_aload_n (M := kt_M365) kX13_cases_c7.2.2.1 rfl ?_
  refine kz_iload_n (M := kt_M365) kX13_cases_c7.2.2.2.1 rfl ?_
  refine kz_ic (M := kt_M365) 2 kX13_cases_c7.2.2.2.2.1 rfl ?_
  refine kz_iadd (M := kt_M365) kX13_cases_c7.2.2.2.2.2.1 ?_
  refine kz_cv1 (M := kt_M365) (c := 12) (o := 0) (As := [.int (x1 + 2)]) (rest := [.int x6, .ref (E.2.1 4101)]) kX13_cases_c7.2.2.2.2.2.2.1 wl_X13_604 wMv_514 rfl (.inl rfl) rfl (Nat.le_trans (Nat.le_of_ble_eq_true rfl) hL) (Nat.le_of_ble_eq_true rfl) (Nat.le_of_ble_eq_true rfl) h (fun v4 w3 hle h => ?_) (fun _ _ _ h => kzx_no rfl h)
  have h := h hle
  refine kz_iast (M := kt_M365) (c := 12) (o := 0) (k := 29) (a := (E.2.1 4101)) kX13_cases_c7.2.2.2.2.2.2.2.1 ow_12_0_29 oa_12_0_29 ot_0 h (fun h => ?_)
  refine kz_aload_n (M := kt_M365) kX13_cases_c8.1 rfl ?_
  refine kz_iload (M := kt_M365) kX13_cases_c8.2.1 rfl ?_
  refine kz_iload (M := kt_M365) kX13_cases_c8.2.2.1 rfl ?_
  refine kz_cv1 (M := kt_M365) (c := 12) (o := 0) (As := [.int x4, .int x6]) (rest := []) kX13_cases_c8.2.2.2.1 wl_X13_598 wMv_368 rfl (.inl rfl) rfl (Nat.le_trans (Nat.le_of_ble_eq_true rfl) hL) (Nat.le_of_ble_eq_true rfl) (Nat.le_of_ble_eq_true rfl) h (fun v6 w5 hle h => ?_) (fun _ _ _ h => kzx_no rfl h)
  have h := h hle
  refine kz_sti (M := kt_M365) [(0, .ref (w_adr E.2.1 12 0)), (1, .int x1), (3, .int x3), (5, .int x5), (6, .int x6)] kX13_cases_c8.2.2.2.2.1 (Nat.le_of_ble_eq_true rfl) ⟨⟨rfl, rfl, .inl rfl⟩, ⟨⟨rfl, rfl, .inl rfl⟩, ⟨⟨rfl, rfl, .inr rfl⟩, ⟨⟨rfl, rfl, .inl rfl⟩, ⟨⟨rfl, rfl, .inl rfl⟩, trivial⟩⟩⟩⟩⟩ rfl ?_
  refine kz_aload_n (M := kt_M365) kX13_cases_c8.2.2.2.2.2.1 rfl ?_
  refine kz_gfc (M := kt_M365) (x := 4101) (c := 12) (o := 0) kX13_cases_c8.2.2.2.2.2.2.1 wf_X13_196 (.inl rfl) ?_
  refine kz_iload_n (M := kt_M365) kX13_cases_c8.2.2.2.2.2.2.2.1 rfl ?_
  refine kz_iald (M := kt_M365) (c := 12) (o := 0) (k := 29) (a := (E.2.1 4101)) kX13_cases_c9.1 ow_12_0_29 oa_12_0_29 ot_0 h (fun h => ?_)
  refine kz_ic (M := kt_M365) (-1) kX13_cases_c9.2.1 rfl ?_
  refine kz_icmp_ne (M := kt_M365) kX13_cases_c9.2.2.1 (t := 140) rfl h (fun h => ?_) (fun h => ?_)
  · skip
    exact kz_weak [(0, .ref (w_adr E.2.1 12 0)), (1, .int x1), (3, .int x3), (4, .int v6), (5, .int x5)] ⟨rfl, ⟨rfl, ⟨rfl, ⟨rfl, ⟨rfl, trivial⟩⟩⟩⟩⟩ rfl (zt_X13_cases_p140 hL  h)
  · skip
    refine kz_aload_n (M := kt_M365) kX13_cases_c9.2.2.2.1 rfl ?_
    refine kz_gfc (M := kt_M365) (x := 4101) (c := 12) (o := 0) kX13_cases_c9.2.2.2.2.1 wf_X13_196 (.inl rfl) ?_
    refine kz_iload_n (M := kt_M365) kX13_cases_c9.2.2.2.2.2.1 rfl ?_
    refine kz_iload (M := kt_M365) kX13_cases_c9.2.2.2.2.2.2.1 rfl ?_
    refine kz_iast (M := kt_M365) (c := 12) (o := 0) (k := 29) (a := (E.2.1 4101)) kX13_cases_c9.2.2.2.2.2.2.2.1 ow_12_0_29 oa_12_0_29 ot_0 h (fun h => ?_)
    exact kz_weak [(0, .ref (w_adr E.2.1 12 0)), (1, .int x1), (3, .int x3), (4, .int v6), (5, .int x5)] ⟨rfl, ⟨rfl, ⟨rfl, ⟨rfl, ⟨rfl, trivial⟩⟩⟩⟩⟩ rfl (zt_X13_cases_p140 hL  h)
def zb_X13_cases_p28 (E : zE) (L : Nat) (Q : kx_Rs → wS → Prop) (x1 : Int32) (x3 : Int32) (x4 : Int32) (x5 : Int32) (w : wS) : Prop := zw E (L - 21) kt_M438 [.ref (w_adr E.2.1 12 0), .int (x1 + 1)] w (wk1 (fun v2 w1 => wle w w1 → (if v2 = 0 then zb_X13_cases_p143 E L Q x3 w1 else (if ¬ x5 = 0 then zb_X13_cases_p143 E L Q x3 w1 else zw E (L - 22) kt_M458 [.ref (w_adr E.2.1 12 0), .int (x1 + 1), .int 3] w1 (wk0 (fun w3 => wle w1 w3 → (kx_inb (w_i w3 12 0 35) (w_n w3 12 0 9) = true ∧ zw E (L - 22) kt_M494 [.ref (w_adr E.2.1 12 0), .int 15, .int (w_a w3 12 0 9 (w_i w3 12 0 35).toNatClampNeg)] w3 (wk1 (fun v6 w5 => wle w3 w5 → zw E (L - 21) kt_M466 [.ref (w_adr E.2.1 12 0), .int 7] w5 (wk1 (fun v8 w7 => wle w5 w7 → (if v8 = 0 then zw E (L - 22) kt_M459 [.ref (w_adr E.2.1 12 0)] w7 (wk1 (fun v10 w9 => wle w7 w9 → (kx_inb v6 (w_n w9 12 0 28) = true ∧ zb_X13_cases_p94 E L Q x1 x3 x4 x5 v6 (ws_a w9 12 0 28 (v6).toNatClampNeg v10))) (fun e w => Q (.inr e) w)) else zb_X13_cases_p94 E L Q x1 x3 x4 1 v6 w7)) (fun e w => Q (.inr e) w))) (fun e w => Q (.inr e) w)))) (fun e w => Q (.inr e) w))))) (fun e w => Q (.inr e) w))
theorem zt_X13_cases_p28 {E : zE} {L : Nat} {Q : kx_Rs → wS → Prop} {x1 : Int32} {x3 : Int32} {x4 : Int32} {x5 : Int32} {w : wS} (hL : 24 ≤ L) (h : zb_X13_cases_p28 E L Q x1 x3 x4 x5 w) : kzE E L kt_M365 28 [(0, .ref (w_adr E.2.1 12 0)), (1, .int x1), (3, .int x3), (4, .int x4), (5, .int x5)] [] w Q := by
  unfold zb_X13_cases_p28 at h
  refine kz_aload_n (M := kt_M365) kX13_cases_c2.2.1 rfl ?_
  refine kz_iload_n (M := kt_M365) kX13_cases_c2.2.2.1 rfl ?_
  refine kz_ic (M := kt_M365) 1 kX13_cases_c2.2.2.2.1 rfl ?_
  refine kz_iadd (M := kt_M365) kX13_cases_c2.2.2.2.2.1 ?_
  refine kz_cv1 (M := kt_M365) (c := 12) (o := 0) (As := [.int (x1 + 1)]) (rest := []) kX13_cases_c2.2.2.2.2.2.1 wl_X13_578 wMv_438 rfl (.inl rfl) rfl (Nat.le_trans (Nat.le_of_ble_eq_true rfl) hL) (Nat.le_of_ble_eq_true rfl) (Nat.le_of_ble_eq_true rfl) h (fun v2 w1 hle h => ?_) (fun _ _ _ h => kzx_no rfl h)
  have h := h hle
  refine kz_if_eq (M := kt_M365) kX13_cases_c2.2.2.2.2.2.2.1 (t := 143) rfl h (fun h => ?_) (fun h => ?_)
  · skip
    exact kz_weak [(0, .ref (w_adr E.2.1 12 0)), (3, .int x3)] ⟨rfl, ⟨rfl, trivial⟩⟩ rfl (zt_X13_cases_p143 hL  h)
  · skip
    refine kz_iload (M := kt_M365) kX13_cases_c2.2.2.2.2.2.2.2.1 rfl ?_
    refine kz_if_ne (M := kt_M365) kX13_cases_c3.1 (t := 143) rfl h (fun h => ?_) (fun h => ?_)
    · skip
      exact kz_weak [(0, .ref (w_adr E.2.1 12 0)), (3, .int x3)] ⟨rfl, ⟨rfl, trivial⟩⟩ rfl (zt_X13_cases_p143 hL  h)
    · skip
      refine kz_aload_n (M := kt_M365) kX13_cases_c3.2.1 rfl ?_
      refine kz_iload_n (M := kt_M365) kX13_cases_c3.2.2.1 rfl ?_
      refine kz_ic (M := kt_M365) 1 kX13_cases_c3.2.2.2.1 rfl ?_
      refine kz_iadd (M := kt_M365) kX13_cases_c3.2.2.2.2.1 ?_
      refine kz_ic (M := kt_M365) 3 kX13_cases_c3.2.2.2.2.2.1 rfl ?_
      refine kz_cv0 (M := kt_M365) (c := 12) (o := 0) (As := [.int (x1 + 1), .int 3]) (rest := []) kX13_cases_c3.2.2.2.2.2.2.1 wl_X13_588 wMv_458 rfl (.inl rfl) rfl (Nat.le_trans (Nat.le_of_ble_eq_true rfl) hL) (Nat.le_of_ble_eq_true rfl) (Nat.le_of_ble_eq_true rfl) h (fun w3 hle h => ?_) (fun _ _ _ h => kzx_no rfl h)
      have h := h hle
      refine kz_aload_n (M := kt_M365) kX13_cases_c3.2.2.2.2.2.2.2.1 rfl ?_
      refine kz_bi (M := kt_M365) 15 kX13_cases_c4.1 rfl ?_
      refine kz_aload_n (M := kt_M365) kX13_cases_c4.2.1 rfl ?_
      refine kz_gfc (M := kt_M365) (x := 4081) (c := 12) (o := 0) kX13_cases_c4.2.2.1 wf_X13_163 (.inl rfl) ?_
      refine kz_aload_n (M := kt_M365) kX13_cases_c4.2.2.2.1 rfl ?_
      refine kz_gfi (M := kt_M365) (c := 12) (o := 0) kX13_cases_c4.2.2.2.2.1 wf_X13_547 (.inl rfl) ?_
      refine kz_iald (M := kt_M365) (c := 12) (o := 0) (k := 9) (a := (E.2.1 4081)) kX13_cases_c4.2.2.2.2.2.1 ow_12_0_9 oa_12_0_9 ot_0 h (fun h => ?_)
      refine kz_cv1 (M := kt_M365) (c := 12) (o := 0) (As := [.int 15, .int (w_a w3 12 0 9 (w_i w3 12 0 35).toNatClampNeg)]) (rest := []) kX13_cases_c4.2.2.2.2.2.2.1 wl_X13_592 wMv_494 rfl (.inl rfl) rfl (Nat.le_trans (Nat.le_of_ble_eq_true rfl) hL) (Nat.le_of_ble_eq_true rfl) (Nat.le_of_ble_eq_true rfl) h (fun v6 w5 hle h => ?_) (fun _ _ _ h => kzx_no rfl h)
      have h := h hle
      refine kz_sti (M := kt_M365) [(0, .ref (w_adr E.2.1 12 0)), (1, .int x1), (3, .int x3), (4, .int x4), (5, .int x5)] kX13_cases_c4.2.2.2.2.2.2.2.1 (Nat.le_of_ble_eq_true rfl) ⟨⟨rfl, rfl, .inl rfl⟩, ⟨⟨rfl, rfl, .inl rfl⟩, ⟨⟨rfl, rfl, .inl rfl⟩, ⟨⟨rfl, rfl, .inl rfl⟩, ⟨⟨rfl, rfl, .inr rfl⟩, trivial⟩⟩⟩⟩⟩ rfl ?_
      refine kz_aload_n (M := kt_M365) kX13_cases_c5.1 rfl ?_
      refine kz_bi (M := kt_M365) 7 kX13_cases_c5.2.1 rfl ?_
      refine kz_cv1 (M := kt_M365) (c := 12) (o := 0) (As := [.int 7]) (rest := []) kX13_cases_c5.2.2.1 wl_X13_642 wMv_466 rfl (.inl rfl) rfl (Nat.le_trans (Nat.le_of_ble_eq_true rfl) hL) (Nat.le_of_ble_eq_true rfl) (Nat.le_of_ble_eq_true rfl) h (fun v8 w7 hle h => ?_) (fun _ _ _ h => kzx_no rfl h)
      have h := h hle
      refine kz_if_eq (M := kt_M365) kX13_cases_c5.2.2.2.1 (t := 83) rfl h (fun h => ?_) (fun h => ?_)
      · skip
        refine kz_aload_n (M := kt_M365) kX13_cases_c5.2.2.2.2.2.2.2.1 rfl ?_
        refine kz_gfc (M := kt_M365) (x := 4100) (c := 12) (o := 0) kX13_cases_c6.1 wf_X13_193 (.inl rfl) ?_
        refine kz_iload (M := kt_M365) kX13_cases_c6.2.1 rfl ?_
        refine kz_aload_n (M := kt_M365) kX13_cases_c6.2.2.1 rfl ?_
        refine kz_cv1 (M := kt_M365) (c := 12) (o := 0) (As := []) (rest := [.int v6, .ref (E.2.1 4100)]) kX13_cases_c6.2.2.2.1 wl_X13_645 wMv_459 rfl (.inl rfl) rfl (Nat.le_trans (Nat.le_of_ble_eq_true rfl) hL) (Nat.le_of_ble_eq_true rfl) (Nat.le_of_ble_eq_true rfl) h (fun v10 w9 hle h => ?_) (fun _ _ _ h => kzx_no rfl h)
        have h := h hle
        refine kz_iast (M := kt_M365) (c := 12) (o := 0) (k := 28) (a := (E.2.1 4100)) kX13_cases_c6.2.2.2.2.1 ow_12_0_28 oa_12_0_28 ot_0 h (fun h => ?_)
        exact kz_weak [(0, .ref (w_adr E.2.1 12 0)), (1, .int x1), (3, .int x3), (4, .int x4), (5, .int x5), (6, .int v6)] ⟨rfl, ⟨rfl, ⟨rfl, ⟨rfl, ⟨rfl, ⟨rfl, trivial⟩⟩⟩⟩⟩⟩ rfl (zt_X13_cases_p94 hL  h)
      · skip
        refine kz_ic (M := kt_M365) 1 kX13_cases_c5.2.2.2.2.1 rfl ?_
        refine kz_sti (M := kt_M365) [(0, .ref (w_adr E.2.1 12 0)), (1, .int x1), (3, .int x3), (4, .int x4), (6, .int v6)] kX13_cases_c5.2.2.2.2.2.1 (Nat.le_of_ble_eq_true rfl) ⟨⟨rfl, rfl, .inl rfl⟩, ⟨⟨rfl, rfl, .inl rfl⟩, ⟨⟨rfl, rfl, .inl rfl⟩, ⟨⟨rfl, rfl, .inr rfl⟩, ⟨⟨rfl, rfl, .inl rfl⟩, trivial⟩⟩⟩⟩⟩ rfl ?_
        refine kz_goto (M := kt_M365) kX13_cases_c5.2.2.2.2.2.2.1 (t := 94) rfl ?_
        exact kz_weak [(0, .ref (w_adr E.2.1 12 0)), (1, .int x1), (3, .int x3), (4, .int x4), (5, .int 1), (6, .int v6)] ⟨rfl, ⟨rfl, ⟨rfl, ⟨rfl, ⟨rfl, ⟨rfl, trivial⟩⟩⟩⟩⟩⟩ rfl (zt_X13_cases_p94 hL  h)
def zb_X13_cases_p0 (E : zE) (L : Nat) (Q : kx_Rs → wS → Prop) (x1 : Int32) (x2 : Int32) (w : wS) : Prop := zw E (L - 22) kt_M494 [.ref (w_adr E.2.1 12 0), .int 14, .int x2] w (wk1 (fun v2 w1 => wle w w1 → zw E (L - 22) kt_M393 [.ref (w_adr E.2.1 12 0)] w1 (wk1 (fun v4 w3 => wle w1 w3 → (kx_inb v2 (w_n w3 12 0 28) = true ∧ zw E (L - 20) kt_M400 [.ref (w_adr E.2.1 12 0)] (ws_a w3 12 0 28 (v2).toNatClampNeg v4) (wk0 (fun w5 => wle (ws_a w3 12 0 28 (v2).toNatClampNeg v4) w5 → zL_X13_cases_p28 E L Q x1 v2 (-1) 0 w5) (fun e w => Q (.inr e) w)))) (fun e w => Q (.inr e) w))) (fun e w => Q (.inr e) w))
theorem zt_X13_cases_p0 {E : zE} {L : Nat} {Q : kx_Rs → wS → Prop} {x1 : Int32} {x2 : Int32} {w : wS} (hL : 24 ≤ L) (h : zb_X13_cases_p0 E L Q x1 x2 w) : kzE E L kt_M365 0 [(0, .ref (w_adr E.2.1 12 0)), (1, .int x1), (2, .int x2)] [] w Q := by
  unfold zb_X13_cases_p0 at h
  refine kz_aload_n (M := kt_M365) kX13_cases_c0.1 rfl ?_
  refine kz_bi (M := kt_M365) 14 kX13_cases_c0.2.1 rfl ?_
  refine kz_iload_n (M := kt_M365) kX13_cases_c0.2.2.1 rfl ?_
  refine kz_cv1 (M := kt_M365) (c := 12) (o := 0) (As := [.int 14, .int x2]) (rest := []) kX13_cases_c0.2.2.2.1 wl_X13_592 wMv_494 rfl (.inl rfl) rfl (Nat.le_trans (Nat.le_of_ble_eq_true rfl) hL) (Nat.le_of_ble_eq_true rfl) (Nat.le_of_ble_eq_true rfl) h (fun v2 w1 hle h => ?_) (fun _ _ _ h => kzx_no rfl h)
  have h := h hle
  refine kz_sti_n (M := kt_M365) [(0, .ref (w_adr E.2.1 12 0)), (1, .int x1)] kX13_cases_c0.2.2.2.2.1 (Nat.le_of_ble_eq_true rfl) ⟨⟨rfl, rfl, .inl rfl⟩, ⟨⟨rfl, rfl, .inl rfl⟩, trivial⟩⟩ rfl ?_
  refine kz_aload_n (M := kt_M365) kX13_cases_c0.2.2.2.2.2.1 rfl ?_
  refine kz_gfc (M := kt_M365) (x := 4100) (c := 12) (o := 0) kX13_cases_c0.2.2.2.2.2.2.1 wf_X13_193 (.inl rfl) ?_
  refine kz_iload_n (M := kt_M365) kX13_cases_c0.2.2.2.2.2.2.2.1 rfl ?_
  refine kz_aload_n (M := kt_M365) kX13_cases_c1.1 rfl ?_
  refine kz_cv1 (M := kt_M365) (c := 12) (o := 0) (As := []) (rest := [.int v2, .ref (E.2.1 4100)]) kX13_cases_c1.2.1 wl_X13_632 wMv_393 rfl (.inl rfl) rfl (Nat.le_trans (Nat.le_of_ble_eq_true rfl) hL) (Nat.le_of_ble_eq_true rfl) (Nat.le_of_ble_eq_true rfl) h (fun v4 w3 hle h => ?_) (fun _ _ _ h => kzx_no rfl h)
  have h := h hle
  refine kz_iast (M := kt_M365) (c := 12) (o := 0) (k := 28) (a := (E.2.1 4100)) kX13_cases_c1.2.2.1 ow_12_0_28 oa_12_0_28 ot_0 h (fun h => ?_)
  refine kz_aload_n (M := kt_M365) kX13_cases_c1.2.2.2.1 rfl ?_
  refine kz_cv0 (M := kt_M365) (c := 12) (o := 0) (As := []) (rest := []) kX13_cases_c1.2.2.2.2.1 wl_X13_616 wMv_400 rfl (.inl rfl) rfl (Nat.le_trans (Nat.le_of_ble_eq_true rfl) hL) (Nat.le_of_ble_eq_true rfl) (Nat.le_of_ble_eq_true rfl) h (fun w5 hle h => ?_) (fun _ _ _ h => kzx_no rfl h)
  have h := h hle
  refine kz_ic (M := kt_M365) (-1) kX13_cases_c1.2.2.2.2.2.1 rfl ?_
  refine kz_sti (M := kt_M365) [(0, .ref (w_adr E.2.1 12 0)), (1, .int x1), (3, .int v2)] kX13_cases_c1.2.2.2.2.2.2.1 (Nat.le_of_ble_eq_true rfl) ⟨⟨rfl, rfl, .inl rfl⟩, ⟨⟨rfl, rfl, .inl rfl⟩, ⟨⟨rfl, rfl, .inr rfl⟩, trivial⟩⟩⟩ rfl ?_
  refine kz_ic (M := kt_M365) 0 kX13_cases_c1.2.2.2.2.2.2.2.1 rfl ?_
  refine kz_sti (M := kt_M365) [(0, .ref (w_adr E.2.1 12 0)), (1, .int x1), (3, .int v2), (4, .int (-1))] kX13_cases_c2.1 (Nat.le_of_ble_eq_true rfl) ⟨⟨rfl, rfl, .inl rfl⟩, ⟨⟨rfl, rfl, .inl rfl⟩, ⟨⟨rfl, rfl, .inl rfl⟩, ⟨⟨rfl, rfl, .inr rfl⟩, trivial⟩⟩⟩⟩ rfl ?_
  exact kz_weak [(0, .ref (w_adr E.2.1 12 0)), (1, .int x1), (3, .int v2), (4, .int (-1)), (5, .int 0)] ⟨rfl, ⟨rfl, ⟨rfl, ⟨rfl, ⟨rfl, trivial⟩⟩⟩⟩⟩ rfl h
def zL_X13_alt_p71 (E : zE) (L : Nat) (Q : kx_Rs → wS → Prop) (x1 : Int32) (x4 : Int32) (x5 : Int32) (w : wS) : Prop := kzE E L kt_M350 71 [(0, .ref (w_adr E.2.1 12 0)), (1, .int x1), (4, .int x4), (5, .int x5)] [] w Q
def zb_X13_alt_p120 (E : zE) (L : Nat) (Q : kx_Rs → wS → Prop) (x1 : Int32) (x4 : Int32) (x5 : Int32) (w : wS) : Prop := zL_X13_alt_p71 E L Q x1 x4 x5 w
theorem zt_X13_alt_p120 {E : zE} {L : Nat} {Q : kx_Rs → wS → Prop} {x1 : Int32} {x4 : Int32} {x5 : Int32} {w : wS} (hL : 24 ≤ L) (h : zb_X13_alt_p120 E L Q x1 x4 x5 w) : kzE E L kt_M350 120 [(0, .ref (w_adr E.2.1 12 0)), (1, .int x1), (4, .int x4), (5, .int x5)] [] w Q := by
  unfold zb_X13_alt_p120 at h
  refine kz_goto (M := kt_M350) kX13_alt_c8.2.2.2.2.1 (t := 71) rfl ?_
  exact kz_weak [(0, .ref (w_adr E.2.1 12 0)), (1, .int x1), (4, .int x4), (5, .int x5)] ⟨rfl, ⟨rfl, ⟨rfl, ⟨rfl, trivial⟩⟩⟩⟩ rfl h
def zb_X13_alt_p71 (E : zE) (L : Nat) (Q : kx_Rs → wS → Prop) (x1 : Int32) (x4 : Int32) (x5 : Int32) (w : wS) : Prop := zw E (L - 21) kt_M438 [.ref (w_adr E.2.1 12 0), .int (x1 + 1)] w (wk1 (fun v2 w1 => wle w w1 → (if v2 = 0 then Q (.inl (some (.int x4))) w1 else zw E (L - 24) kt_M422 [.ref (w_adr E.2.1 12 0), .int (x1 + 1)] w1 (wk1 (fun v4 w3 => wle w1 w3 → zw E (L - 22) kt_M368 [.ref (w_adr E.2.1 12 0), .int x5, .int v4] w3 (wk1 (fun v6 w5 => wle w3 w5 → (kx_inb x4 (w_n w5 12 0 29) = true ∧ (if ¬ w_a w5 12 0 29 (x4).toNatClampNeg = (-1) then zb_X13_alt_p120 E L Q x1 x4 v6 w5 else (kx_inb x4 (w_n w5 12 0 29) = true ∧ zb_X13_alt_p120 E L Q x1 x4 v6 (ws_a w5 12 0 29 (x4).toNatClampNeg v4))))) (fun e w => Q (.inr e) w))) (fun e w => Q (.inr e) w)))) (fun e w => Q (.inr e) w))
theorem zt_X13_alt_p71 {E : zE} {L : Nat} {Q : kx_Rs → wS → Prop} {x1 : Int32} {x4 : Int32} {x5 : Int32} {w : wS} (hL : 24 ≤ L) (h : zb_X13_alt_p71 E L Q x1 x4 x5 w) : kzE E L kt_M350 71 [(0, .ref (w_adr E.2.1 12 0)), (1, .int x1), (4, .int x4), (5, .int x5)] [] w Q := by
  unfold zb_X13_alt_p71 at h
  refine kz_aload_n (M := kt_M350) kX13_alt_c5.1 rfl ?_
  refine kz_iload_n (M := kt_M350) kX13_alt_c5.2.1 rfl ?_
  refine kz_ic (M := kt_M350) 1 kX13_alt_c5.2.2.1 rfl ?_
  refine kz_iadd (M := kt_M350) kX13_alt_c5.2.2.2.1 ?_
  refine kz_cv1 (M := kt_M350) (c := 12) (o := 0) (As := [.int (x1 + 1)]) (rest := []) kX13_alt_c5.2.2.2.2.1 wl_X13_578 wMv_438 rfl (.inl rfl) rfl (Nat.le_trans (Nat.le_of_ble_eq_true rfl) hL) (Nat.le_of_ble_eq_true rfl) (Nat.le_of_ble_eq_true rfl) h (fun v2 w1 hle h => ?_) (fun _ _ _ h => kzx_no rfl h)
  have h := h hle
  refine kz_if_eq (M := kt_M350) kX13_alt_c5.2.2.2.2.2.1 (t := 123) rfl h (fun h => ?_) (fun h => ?_)
  · skip
    refine kz_iload (M := kt_M350) kX13_alt_c8.2.2.2.2.2.1 rfl ?_
    exact kz_iret (M := kt_M350) kX13_alt_c8.2.2.2.2.2.2.1 rfl rfl h
  · skip
    refine kz_aload_n (M := kt_M350) kX13_alt_c5.2.2.2.2.2.2.1 rfl ?_
    refine kz_iload_n (M := kt_M350) kX13_alt_c5.2.2.2.2.2.2.2.1 rfl ?_
    refine kz_ic (M := kt_M350) 1 kX13_alt_c6.1 rfl ?_
    refine kz_iadd (M := kt_M350) kX13_alt_c6.2.1 ?_
    refine kz_cv1 (M := kt_M350) (c := 12) (o := 0) (As := [.int (x1 + 1)]) (rest := []) kX13_alt_c6.2.2.1 wl_X13_648 wMv_422 rfl (.inl rfl) rfl (Nat.le_trans (Nat.le_of_ble_eq_true rfl) hL) (Nat.le_of_ble_eq_true rfl) (Nat.le_of_ble_eq_true rfl) h (fun v4 w3 hle h => ?_) (fun _ _ _ h => kzx_no rfl h)
    have h := h hle
    refine kz_sti (M := kt_M350) [(0, .ref (w_adr E.2.1 12 0)), (1, .int x1), (4, .int x4), (5, .int x5)] kX13_alt_c6.2.2.2.1 (Nat.le_of_ble_eq_true rfl) ⟨⟨rfl, rfl, .inl rfl⟩, ⟨⟨rfl, rfl, .inl rfl⟩, ⟨⟨rfl, rfl, .inl rfl⟩, ⟨⟨rfl, rfl, .inr rfl⟩, trivial⟩⟩⟩⟩ rfl ?_
    refine kz_aload_n (M := kt_M350) kX13_alt_c6.2.2.2.2.1 rfl ?_
    refine kz_iload (M := kt_M350) kX13_alt_c6.2.2.2.2.2.1 rfl ?_
    refine kz_iload (M := kt_M350) kX13_alt_c6.2.2.2.2.2.2.1 rfl ?_
    refine kz_cv1 (M := kt_M350) (c := 12) (o := 0) (As := [.int x5, .int v4]) (rest := []) kX13_alt_c6.2.2.2.2.2.2.2.1 wl_X13_598 wMv_368 rfl (.inl rfl) rfl (Nat.le_trans (Nat.le_of_ble_eq_true rfl) hL) (Nat.le_of_ble_eq_true rfl) (Nat.le_of_ble_eq_true rfl) h (fun v6 w5 hle h => ?_) (fun _ _ _ h => kzx_no rfl h)
    have h := h hle
    refine kz_sti (M := kt_M350) [(0, .ref (w_adr E.2.1 12 0)), (1, .int x1), (4, .int x4), (6, .int v4)] kX13_alt_c7.1 (Nat.le_of_ble_eq_true rfl) ⟨⟨rfl, rfl, .inl rfl⟩, ⟨⟨rfl, rfl, .inl rfl⟩, ⟨⟨rfl, rfl, .inr rfl⟩, ⟨⟨rfl, rfl, .inl rfl⟩, trivial⟩⟩⟩⟩ rfl ?_
    refine kz_aload_n (M := kt_M350) kX13_alt_c7.2.1 rfl ?_
    refine kz_gfc (M := kt_M350) (x := 4101) (c := 12) (o := 0) kX13_alt_c7.2.2.1 wf_X13_196 (.inl rfl) ?_
    refine kz_iload (M := kt_M350) kX13_alt_c7.2.2.2.1 rfl ?_
    refine kz_iald (M := kt_M350) (c := 12) (o := 0) (k := 29) (a := (E.2.1 4101)) kX13_alt_c7.2.2.2.2.1 ow_12_0_29 oa_12_0_29 ot_0 h (fun h => ?_)
    refine kz_ic (M := kt_M350) (-1) kX13_alt_c7.2.2.2.2.2.1 rfl ?_
    refine kz_icmp_ne (M := kt_M350) kX13_alt_c7.2.2.2.2.2.2.1 (t := 120) rfl h (fun h => ?_) (fun h => ?_)
    · skip
      exact kz_weak [(0, .ref (w_adr E.2.1 12 0)), (1, .int x1), (4, .int x4), (5, .int v6)] ⟨rfl, ⟨rfl, ⟨rfl, ⟨rfl, trivial⟩⟩⟩⟩ rfl (zt_X13_alt_p120 hL  h)
    · skip
      refine kz_aload_n (M := kt_M350) kX13_alt_c7.2.2.2.2.2.2.2.1 rfl ?_
      refine kz_gfc (M := kt_M350) (x := 4101) (c := 12) (o := 0) kX13_alt_c8.1 wf_X13_196 (.inl rfl) ?_
      refine kz_iload (M := kt_M350) kX13_alt_c8.2.1 rfl ?_
      refine kz_iload (M := kt_M350) kX13_alt_c8.2.2.1 rfl ?_
      refine kz_iast (M := kt_M350) (c := 12) (o := 0) (k := 29) (a := (E.2.1 4101)) kX13_alt_c8.2.2.2.1 ow_12_0_29 oa_12_0_29 ot_0 h (fun h => ?_)
      exact kz_weak [(0, .ref (w_adr E.2.1 12 0)), (1, .int x1), (4, .int x4), (5, .int v6)] ⟨rfl, ⟨rfl, ⟨rfl, ⟨rfl, trivial⟩⟩⟩⟩ rfl (zt_X13_alt_p120 hL  h)
def zb_X13_alt_p37 (E : zE) (L : Nat) (Q : kx_Rs → wS → Prop) (x1 : Int32) (x4 : Int32) (w : wS) : Prop := zw E (L - 20) kt_M400 [.ref (w_adr E.2.1 12 0)] w (wk0 (fun w1 => wle w w1 → (kx_inb x4 (w_n w1 12 0 28) = true ∧ (if w_a w1 12 0 28 (x4).toNatClampNeg < 0 then zL_X13_alt_p71 E L Q x1 x4 (-1) w1 else zw E (L - 24) kt_M422 [.ref (w_adr E.2.1 12 0), .int (x1 + 1)] w1 (wk1 (fun v4 w3 => wle w1 w3 → (kx_inb x4 (w_n w3 12 0 29) = true ∧ Q (.inl (some (.int x4))) (ws_a w3 12 0 29 (x4).toNatClampNeg v4))) (fun e w => Q (.inr e) w))))) (fun e w => Q (.inr e) w))
theorem zt_X13_alt_p37 {E : zE} {L : Nat} {Q : kx_Rs → wS → Prop} {x1 : Int32} {x4 : Int32} {w : wS} (hL : 24 ≤ L) (h : zb_X13_alt_p37 E L Q x1 x4 w) : kzE E L kt_M350 37 [(0, .ref (w_adr E.2.1 12 0)), (1, .int x1), (4, .int x4)] [] w Q := by
  unfold zb_X13_alt_p37 at h
  refine kz_aload_n (M := kt_M350) kX13_alt_c2.2.2.2.2.1 rfl ?_
  refine kz_cv0 (M := kt_M350) (c := 12) (o := 0) (As := []) (rest := []) kX13_alt_c2.2.2.2.2.2.1 wl_X13_616 wMv_400 rfl (.inl rfl) rfl (Nat.le_trans (Nat.le_of_ble_eq_true rfl) hL) (Nat.le_of_ble_eq_true rfl) (Nat.le_of_ble_eq_true rfl) h (fun w1 hle h => ?_) (fun _ _ _ h => kzx_no rfl h)
  have h := h hle
  refine kz_ic (M := kt_M350) (-1) kX13_alt_c2.2.2.2.2.2.2.1 rfl ?_
  refine kz_sti (M := kt_M350) [(0, .ref (w_adr E.2.1 12 0)), (1, .int x1), (4, .int x4)] kX13_alt_c2.2.2.2.2.2.2.2.1 (Nat.le_of_ble_eq_true rfl) ⟨⟨rfl, rfl, .inl rfl⟩, ⟨⟨rfl, rfl, .inl rfl⟩, ⟨⟨rfl, rfl, .inr rfl⟩, trivial⟩⟩⟩ rfl ?_
  refine kz_aload_n (M := kt_M350) kX13_alt_c3.1 rfl ?_
  refine kz_gfc (M := kt_M350) (x := 4100) (c := 12) (o := 0) kX13_alt_c3.2.1 wf_X13_193 (.inl rfl) ?_
  refine kz_iload (M := kt_M350) kX13_alt_c3.2.2.1 rfl ?_
  refine kz_iald (M := kt_M350) (c := 12) (o := 0) (k := 28) (a := (E.2.1 4100)) kX13_alt_c3.2.2.2.1 ow_12_0_28 oa_12_0_28 ot_0 h (fun h => ?_)
  refine kz_if_lt (M := kt_M350) kX13_alt_c3.2.2.2.2.1 (t := 71) rfl h (fun h => ?_) (fun h => ?_)
  · skip
    exact kz_weak [(0, .ref (w_adr E.2.1 12 0)), (1, .int x1), (4, .int x4), (5, .int (-1))] ⟨rfl, ⟨rfl, ⟨rfl, ⟨rfl, trivial⟩⟩⟩⟩ rfl h
  · skip
    refine kz_aload_n (M := kt_M350) kX13_alt_c3.2.2.2.2.2.1 rfl ?_
    refine kz_gfc (M := kt_M350) (x := 4101) (c := 12) (o := 0) kX13_alt_c3.2.2.2.2.2.2.1 wf_X13_196 (.inl rfl) ?_
    refine kz_iload (M := kt_M350) kX13_alt_c3.2.2.2.2.2.2.2.1 rfl ?_
    refine kz_aload_n (M := kt_M350) kX13_alt_c4.1 rfl ?_
    refine kz_iload_n (M := kt_M350) kX13_alt_c4.2.1 rfl ?_
    refine kz_ic (M := kt_M350) 1 kX13_alt_c4.2.2.1 rfl ?_
    refine kz_iadd (M := kt_M350) kX13_alt_c4.2.2.2.1 ?_
    refine kz_cv1 (M := kt_M350) (c := 12) (o := 0) (As := [.int (x1 + 1)]) (rest := [.int x4, .ref (E.2.1 4101)]) kX13_alt_c4.2.2.2.2.1 wl_X13_648 wMv_422 rfl (.inl rfl) rfl (Nat.le_trans (Nat.le_of_ble_eq_true rfl) hL) (Nat.le_of_ble_eq_true rfl) (Nat.le_of_ble_eq_true rfl) h (fun v4 w3 hle h => ?_) (fun _ _ _ h => kzx_no rfl h)
    have h := h hle
    refine kz_iast (M := kt_M350) (c := 12) (o := 0) (k := 29) (a := (E.2.1 4101)) kX13_alt_c4.2.2.2.2.2.1 ow_12_0_29 oa_12_0_29 ot_0 h (fun h => ?_)
    refine kz_iload (M := kt_M350) kX13_alt_c4.2.2.2.2.2.2.1 rfl ?_
    exact kz_iret (M := kt_M350) kX13_alt_c4.2.2.2.2.2.2.2.1 rfl rfl h
def zb_X13_alt_p0 (E : zE) (L : Nat) (Q : kx_Rs → wS → Prop) (x1 : Int32) (x2 : Int32) (x3 : Int32) (w : wS) : Prop := zw E (L - 22) kt_M494 [.ref (w_adr E.2.1 12 0), .int 17, .int x2] w (wk1 (fun v2 w1 => wle w w1 → (kx_inb v2 (w_n w1 12 0 30) = true ∧ zw E (L - 20) kt_M462 [.ref (w_adr E.2.1 12 0)] (ws_a w1 12 0 30 (v2).toNatClampNeg x3) (wk1 (fun v4 w3 => wle (ws_a w1 12 0 30 (v2).toNatClampNeg x3) w3 → (if v4 = 74 then zb_X13_alt_p37 E L Q x1 v2 w3 else zw E (L - 21) kt_M525 [.ref (w_adr E.2.1 12 0)] w3 (wk1 (fun v6 w5 => wle w3 w5 → (kx_inb v2 (w_n w5 12 0 28) = true ∧ zb_X13_alt_p37 E L Q x1 v2 (ws_a w5 12 0 28 (v2).toNatClampNeg v6))) (fun e w => Q (.inr e) w)))) (fun e w => Q (.inr e) w)))) (fun e w => Q (.inr e) w))
theorem zt_X13_alt_p0 {E : zE} {L : Nat} {Q : kx_Rs → wS → Prop} {x1 : Int32} {x2 : Int32} {x3 : Int32} {w : wS} (hL : 24 ≤ L) (h : zb_X13_alt_p0 E L Q x1 x2 x3 w) : kzE E L kt_M350 0 [(0, .ref (w_adr E.2.1 12 0)), (1, .int x1), (2, .int x2), (3, .int x3)] [] w Q := by
  unfold zb_X13_alt_p0 at h
  refine kz_aload_n (M := kt_M350) kX13_alt_c0.1 rfl ?_
  refine kz_bi (M := kt_M350) 17 kX13_alt_c0.2.1 rfl ?_
  refine kz_iload_n (M := kt_M350) kX13_alt_c0.2.2.1 rfl ?_
  refine kz_cv1 (M := kt_M350) (c := 12) (o := 0) (As := [.int 17, .int x2]) (rest := []) kX13_alt_c0.2.2.2.1 wl_X13_592 wMv_494 rfl (.inl rfl) rfl (Nat.le_trans (Nat.le_of_ble_eq_true rfl) hL) (Nat.le_of_ble_eq_true rfl) (Nat.le_of_ble_eq_true rfl) h (fun v2 w1 hle h => ?_) (fun _ _ _ h => kzx_no rfl h)
  have h := h hle
  refine kz_sti (M := kt_M350) [(0, .ref (w_adr E.2.1 12 0)), (1, .int x1), (3, .int x3)] kX13_alt_c0.2.2.2.2.1 (Nat.le_of_ble_eq_true rfl) ⟨⟨rfl, rfl, .inl rfl⟩, ⟨⟨rfl, rfl, .inl rfl⟩, ⟨⟨rfl, rfl, .inr rfl⟩, trivial⟩⟩⟩ rfl ?_
  refine kz_aload_n (M := kt_M350) kX13_alt_c0.2.2.2.2.2.1 rfl ?_
  refine kz_gfc (M := kt_M350) (x := 4102) (c := 12) (o := 0) kX13_alt_c0.2.2.2.2.2.2.1 wf_X13_199 (.inl rfl) ?_
  refine kz_iload (M := kt_M350) kX13_alt_c0.2.2.2.2.2.2.2.1 rfl ?_
  refine kz_iload_n (M := kt_M350) kX13_alt_c1.1 rfl ?_
  refine kz_iast (M := kt_M350) (c := 12) (o := 0) (k := 30) (a := (E.2.1 4102)) kX13_alt_c1.2.1 ow_12_0_30 oa_12_0_30 ot_0 h (fun h => ?_)
  refine kz_aload_n (M := kt_M350) kX13_alt_c1.2.2.1 rfl ?_
  refine kz_cv1 (M := kt_M350) (c := 12) (o := 0) (As := []) (rest := []) kX13_alt_c1.2.2.2.1 wl_X13_560 wMv_462 rfl (.inl rfl) rfl (Nat.le_trans (Nat.le_of_ble_eq_true rfl) hL) (Nat.le_of_ble_eq_true rfl) (Nat.le_of_ble_eq_true rfl) h (fun v4 w3 hle h => ?_) (fun _ _ _ h => kzx_no rfl h)
  have h := h hle
  refine kz_bi (M := kt_M350) 74 kX13_alt_c1.2.2.2.2.1 rfl ?_
  refine kz_icmp_eq (M := kt_M350) kX13_alt_c1.2.2.2.2.2.1 (t := 37) rfl h (fun h => ?_) (fun h => ?_)
  · skip
    exact kz_weak [(0, .ref (w_adr E.2.1 12 0)), (1, .int x1), (4, .int v2)] ⟨rfl, ⟨rfl, ⟨rfl, trivial⟩⟩⟩ rfl (zt_X13_alt_p37 hL  h)
  · skip
    refine kz_aload_n (M := kt_M350) kX13_alt_c1.2.2.2.2.2.2.1 rfl ?_
    refine kz_gfc (M := kt_M350) (x := 4100) (c := 12) (o := 0) kX13_alt_c1.2.2.2.2.2.2.2.1 wf_X13_193 (.inl rfl) ?_
    refine kz_iload (M := kt_M350) kX13_alt_c2.1 rfl ?_
    refine kz_aload_n (M := kt_M350) kX13_alt_c2.2.1 rfl ?_
    refine kz_cv1 (M := kt_M350) (c := 12) (o := 0) (As := []) (rest := [.int v2, .ref (E.2.1 4100)]) kX13_alt_c2.2.2.1 wl_X13_619 wMv_525 rfl (.inl rfl) rfl (Nat.le_trans (Nat.le_of_ble_eq_true rfl) hL) (Nat.le_of_ble_eq_true rfl) (Nat.le_of_ble_eq_true rfl) h (fun v6 w5 hle h => ?_) (fun _ _ _ h => kzx_no rfl h)
    have h := h hle
    refine kz_iast (M := kt_M350) (c := 12) (o := 0) (k := 28) (a := (E.2.1 4100)) kX13_alt_c2.2.2.2.1 ow_12_0_28 oa_12_0_28 ot_0 h (fun h => ?_)
    exact kz_weak [(0, .ref (w_adr E.2.1 12 0)), (1, .int x1), (4, .int v2)] ⟨rfl, ⟨rfl, ⟨rfl, trivial⟩⟩⟩ rfl (zt_X13_alt_p37 hL  h)
def zb_X13_guard_p238 (E : zE) (L : Nat) (Q : kx_Rs → wS → Prop) (x1 : Int32) (x3 : Int32) (w : wS) : Prop := zw E (L - 24) kt_M514 [.ref (w_adr E.2.1 12 0), .int (x1 + 1)] w (wk1 (fun v2 w1 => wle w w1 → (kx_inb x3 (w_n w1 12 0 30) = true ∧ Q (.inl (some (.int x3))) (ws_a w1 12 0 30 (x3).toNatClampNeg v2))) (fun e w => Q (.inr e) w))
theorem zt_X13_guard_p238 {E : zE} {L : Nat} {Q : kx_Rs → wS → Prop} {x1 : Int32} {x3 : Int32} {w : wS} (hL : 26 ≤ L) (h : zb_X13_guard_p238 E L Q x1 x3 w) : kzE E L kt_M422 238 [(0, .ref (w_adr E.2.1 12 0)), (1, .int x1), (3, .int x3)] [] w Q := by
  unfold zb_X13_guard_p238 at h
  refine kz_aload_n (M := kt_M422) kX13_guard_c16.2.2.2.2.1 rfl ?_
  refine kz_gfc (M := kt_M422) (x := 4102) (c := 12) (o := 0) kX13_guard_c16.2.2.2.2.2.1 wf_X13_199 (.inl rfl) ?_
  refine kz_iload_n (M := kt_M422) kX13_guard_c16.2.2.2.2.2.2.1 rfl ?_
  refine kz_aload_n (M := kt_M422) kX13_guard_c16.2.2.2.2.2.2.2.1 rfl ?_
  refine kz_iload_n (M := kt_M422) kX13_guard_c17.1 rfl ?_
  refine kz_ic (M := kt_M422) 1 kX13_guard_c17.2.1 rfl ?_
  refine kz_iadd (M := kt_M422) kX13_guard_c17.2.2.1 ?_
  refine kz_cv1 (M := kt_M422) (c := 12) (o := 0) (As := [.int (x1 + 1)]) (rest := [.int x3, .ref (E.2.1 4102)]) kX13_guard_c17.2.2.2.1 wl_X13_604 wMv_514 rfl (.inl rfl) rfl (Nat.le_trans (Nat.le_of_ble_eq_true rfl) hL) (Nat.le_of_ble_eq_true rfl) (Nat.le_of_ble_eq_true rfl) h (fun v2 w1 hle h => ?_) (fun _ _ _ h => kzx_no rfl h)
  have h := h hle
  refine kz_iast (M := kt_M422) (c := 12) (o := 0) (k := 30) (a := (E.2.1 4102)) kX13_guard_c17.2.2.2.2.1 ow_12_0_30 oa_12_0_30 ot_0 h (fun h => ?_)
  refine kz_iload_n (M := kt_M422) kX13_guard_c17.2.2.2.2.2.1 rfl ?_
  exact kz_iret (M := kt_M422) kX13_guard_c17.2.2.2.2.2.2.1 rfl rfl h
def zb_X13_guard_p219 (E : zE) (L : Nat) (Q : kx_Rs → wS → Prop) (x1 : Int32) (x3 : Int32) (w : wS) : Prop := (kx_inb x3 (w_n w 12 0 29) = true ∧ (kx_inb (w_a w 12 0 29 (x3).toNatClampNeg) (w_n w 12 0 26) = true ∧ (if ¬ w_a w 12 0 26 (w_a w 12 0 29 (x3).toNatClampNeg).toNatClampNeg = 2 then zb_X13_guard_p238 E L Q x1 x3 w else zw E (L - 20) kt_M400 [.ref (w_adr E.2.1 12 0)] w (wk0 (fun w1 => wle w w1 → zb_X13_guard_p238 E L Q x1 x3 w1) (fun e w => Q (.inr e) w)))))
theorem zt_X13_guard_p219 {E : zE} {L : Nat} {Q : kx_Rs → wS → Prop} {x1 : Int32} {x3 : Int32} {w : wS} (hL : 26 ≤ L) (h : zb_X13_guard_p219 E L Q x1 x3 w) : kzE E L kt_M422 219 [(0, .ref (w_adr E.2.1 12 0)), (1, .int x1), (3, .int x3)] [] w Q := by
  unfold zb_X13_guard_p219 at h
  refine kz_aload_n (M := kt_M422) kX13_guard_c15.2.1 rfl ?_
  refine kz_gfc (M := kt_M422) (x := 4098) (c := 12) (o := 0) kX13_guard_c15.2.2.1 wf_X13_187 (.inl rfl) ?_
  refine kz_aload_n (M := kt_M422) kX13_guard_c15.2.2.2.1 rfl ?_
  refine kz_gfc (M := kt_M422) (x := 4101) (c := 12) (o := 0) kX13_guard_c15.2.2.2.2.1 wf_X13_196 (.inl rfl) ?_
  refine kz_iload_n (M := kt_M422) kX13_guard_c15.2.2.2.2.2.1 rfl ?_
  refine kz_iald (M := kt_M422) (c := 12) (o := 0) (k := 29) (a := (E.2.1 4101)) kX13_guard_c15.2.2.2.2.2.2.1 ow_12_0_29 oa_12_0_29 ot_0 h (fun h => ?_)
  refine kz_iald (M := kt_M422) (c := 12) (o := 0) (k := 26) (a := (E.2.1 4098)) kX13_guard_c15.2.2.2.2.2.2.2.1 ow_12_0_26 oa_12_0_26 ot_0 h (fun h => ?_)
  refine kz_ic (M := kt_M422) 2 kX13_guard_c16.1 rfl ?_
  refine kz_icmp_ne (M := kt_M422) kX13_guard_c16.2.1 (t := 238) rfl h (fun h => ?_) (fun h => ?_)
  · skip
    exact kz_weak [(0, .ref (w_adr E.2.1 12 0)), (1, .int x1), (3, .int x3)] ⟨rfl, ⟨rfl, ⟨rfl, trivial⟩⟩⟩ rfl (zt_X13_guard_p238 hL  h)
  · skip
    refine kz_aload_n (M := kt_M422) kX13_guard_c16.2.2.1 rfl ?_
    refine kz_cv0 (M := kt_M422) (c := 12) (o := 0) (As := []) (rest := []) kX13_guard_c16.2.2.2.1 wl_X13_616 wMv_400 rfl (.inl rfl) rfl (Nat.le_trans (Nat.le_of_ble_eq_true rfl) hL) (Nat.le_of_ble_eq_true rfl) (Nat.le_of_ble_eq_true rfl) h (fun w1 hle h => ?_) (fun _ _ _ h => kzx_no rfl h)
    have h := h hle
    exact kz_weak [(0, .ref (w_adr E.2.1 12 0)), (1, .int x1), (3, .int x3)] ⟨rfl, ⟨rfl, ⟨rfl, trivial⟩⟩⟩ rfl (zt_X13_guard_p238 hL  h)
def zb_X13_guard_p170 (E : zE) (L : Nat) (Q : kx_Rs → wS → Prop) (x1 : Int32) (x2 : Int32) (x3 : Int32) (x4 : Int32) (w : wS) : Prop := zw E (L - 20) kt_M462 [.ref (w_adr E.2.1 12 0)] w (wk1 (fun v2 w1 => wle w w1 → (if v2 = 48 then zw E (L - 26) kt_M354 [.ref (w_adr E.2.1 12 0), .int x4, .int (x1 + 1), .int x2] w1 (wk1 (fun v4 w3 => wle w1 w3 → (kx_inb x3 (w_n w3 12 0 29) = true ∧ (kx_inb x3 (w_n w3 12 0 29) = true ∧ (kx_inb (w_a (ws_a w3 12 0 29 (x3).toNatClampNeg v4) 12 0 29 (x3).toNatClampNeg) (w_n w3 12 0 26) = true ∧ (if ¬ w_a w3 12 0 26 (w_a (ws_a w3 12 0 29 (x3).toNatClampNeg v4) 12 0 29 (x3).toNatClampNeg).toNatClampNeg = 7 then zb_X13_guard_p219 E L Q x1 x3 (ws_a w3 12 0 29 (x3).toNatClampNeg v4) else Q (.inl (some (.int x3))) (ws_a w3 12 0 29 (x3).toNatClampNeg v4)))))) (fun e w => Q (.inr e) w)) else zw E (L - 22) kt_M545 [.ref (w_adr E.2.1 12 0), .int 2] w1 (wkr (fun v6 w5 => wle w1 w5 → (v6 = some (w_adr E.2.1 13 0) ∧ Q (.inr "MeetingHouseModel$Halt") w5)) (fun e w => Q (.inr e) w)))) (fun e w => Q (.inr e) w))
theorem zt_X13_guard_p170 {E : zE} {L : Nat} {Q : kx_Rs → wS → Prop} {x1 : Int32} {x2 : Int32} {x3 : Int32} {x4 : Int32} {w : wS} (hL : 26 ≤ L) (h : zb_X13_guard_p170 E L Q x1 x2 x3 x4 w) : kzE E L kt_M422 170 [(0, .ref (w_adr E.2.1 12 0)), (1, .int x1), (2, .int x2), (3, .int x3), (4, .int x4)] [] w Q := by
  unfold zb_X13_guard_p170 at h
  refine kz_aload_n (M := kt_M422) kX13_guard_c11.2.2.2.1 rfl ?_
  refine kz_cv1 (M := kt_M422) (c := 12) (o := 0) (As := []) (rest := []) kX13_guard_c11.2.2.2.2.1 wl_X13_560 wMv_462 rfl (.inl rfl) rfl (Nat.le_trans (Nat.le_of_ble_eq_true rfl) hL) (Nat.le_of_ble_eq_true rfl) (Nat.le_of_ble_eq_true rfl) h (fun v2 w1 hle h => ?_) (fun _ _ _ h => kzx_no rfl h)
  have h := h hle
  refine kz_bi (M := kt_M422) 48 kX13_guard_c11.2.2.2.2.2.1 rfl ?_
  refine kz_icmp_eq (M := kt_M422) kX13_guard_c11.2.2.2.2.2.2.1 (t := 185) rfl h (fun h => ?_) (fun h => ?_)
  · skip
    refine kz_aload_n (M := kt_M422) kX13_guard_c12.2.2.2.1 rfl ?_
    refine kz_gfc (M := kt_M422) (x := 4101) (c := 12) (o := 0) kX13_guard_c12.2.2.2.2.1 wf_X13_196 (.inl rfl) ?_
    refine kz_iload_n (M := kt_M422) kX13_guard_c12.2.2.2.2.2.1 rfl ?_
    refine kz_aload_n (M := kt_M422) kX13_guard_c12.2.2.2.2.2.2.1 rfl ?_
    refine kz_iload (M := kt_M422) kX13_guard_c12.2.2.2.2.2.2.2.1 rfl ?_
    refine kz_iload_n (M := kt_M422) kX13_guard_c13.1 rfl ?_
    refine kz_ic (M := kt_M422) 1 kX13_guard_c13.2.1 rfl ?_
    refine kz_iadd (M := kt_M422) kX13_guard_c13.2.2.1 ?_
    refine kz_iload_n (M := kt_M422) kX13_guard_c13.2.2.2.1 rfl ?_
    refine kz_cv1 (M := kt_M422) (c := 12) (o := 0) (As := [.int x4, .int (x1 + 1), .int x2]) (rest := [.int x3, .ref (E.2.1 4101)]) kX13_guard_c13.2.2.2.2.1 wl_X13_657 wMv_354 rfl (.inl rfl) rfl (Nat.le_trans (Nat.le_of_ble_eq_true rfl) hL) (Nat.le_of_ble_eq_true rfl) (Nat.le_of_ble_eq_true rfl) h (fun v4 w3 hle h => ?_) (fun _ _ _ h => kzx_no rfl h)
    have h := h hle
    refine kz_iast (M := kt_M422) (c := 12) (o := 0) (k := 29) (a := (E.2.1 4101)) kX13_guard_c13.2.2.2.2.2.1 ow_12_0_29 oa_12_0_29 ot_0 h (fun h => ?_)
    refine kz_aload_n (M := kt_M422) kX13_guard_c13.2.2.2.2.2.2.1 rfl ?_
    refine kz_gfc (M := kt_M422) (x := 4098) (c := 12) (o := 0) kX13_guard_c13.2.2.2.2.2.2.2.1 wf_X13_187 (.inl rfl) ?_
    refine kz_aload_n (M := kt_M422) kX13_guard_c14.1 rfl ?_
    refine kz_gfc (M := kt_M422) (x := 4101) (c := 12) (o := 0) kX13_guard_c14.2.1 wf_X13_196 (.inl rfl) ?_
    refine kz_iload_n (M := kt_M422) kX13_guard_c14.2.2.1 rfl ?_
    refine kz_ialdR (M := kt_M422) (n := w_n w3 12 0 29) (c := 12) (o := 0) (k := 29) (a := (E.2.1 4101)) (w_a (ws_a w3 12 0 29 (x3).toNatClampNeg v4) 12 0 29 (x3).toNatClampNeg) kX13_guard_c14.2.2.2.1 ow_12_0_29 oa_12_0_29 ot_0 rd_n_a rfl h (fun h => ?_)
    refine kz_ialdR (M := kt_M422) (n := w_n w3 12 0 26) (c := 12) (o := 0) (k := 26) (a := (E.2.1 4098)) (w_a w3 12 0 26 (w_a (ws_a w3 12 0 29 (x3).toNatClampNeg v4) 12 0 29 (x3).toNatClampNeg).toNatClampNeg) kX13_guard_c14.2.2.2.2.1 ow_12_0_26 oa_12_0_26 ot_0 rd_n_a (rd_a_a rfl) h (fun h => ?_)
    refine kz_bi (M := kt_M422) 7 kX13_guard_c14.2.2.2.2.2.1 rfl ?_
    refine kz_icmp_ne (M := kt_M422) kX13_guard_c14.2.2.2.2.2.2.1 (t := 219) rfl h (fun h => ?_) (fun h => ?_)
    · skip
      exact kz_weak [(0, .ref (w_adr E.2.1 12 0)), (1, .int x1), (3, .int x3)] ⟨rfl, ⟨rfl, ⟨rfl, trivial⟩⟩⟩ rfl (zt_X13_guard_p219 hL  h)
    · skip
      refine kz_iload_n (M := kt_M422) kX13_guard_c14.2.2.2.2.2.2.2.1 rfl ?_
      exact kz_iret (M := kt_M422) kX13_guard_c15.1 rfl rfl h
  · skip
    refine kz_aload_n (M := kt_M422) kX13_guard_c11.2.2.2.2.2.2.2.1 rfl ?_
    refine kz_ic (M := kt_M422) 2 kX13_guard_c12.1 rfl ?_
    refine kz_cvr (M := kt_M422) (c := 12) (o := 0) (As := [.int 2]) (rest := []) kX13_guard_c12.2.1 wl_X13_556 wMv_545 rfl (.inl rfl) rfl (Nat.le_trans (Nat.le_of_ble_eq_true rfl) hL) (Nat.le_of_ble_eq_true rfl) (Nat.le_of_ble_eq_true rfl) h (fun v6 w5 hle h => ?_) (fun _ _ _ h => kzx_no rfl h)
    have h := h hle
    exact kz_throw (M := kt_M422) (c := 13) (o := 0) kX13_guard_c12.2.2.1 rfl (.inl rfl) h (fun h => kzx_no rfl h)
def zb_X13_guard_p143 (E : zE) (L : Nat) (Q : kx_Rs → wS → Prop) (x1 : Int32) (x2 : Int32) (x3 : Int32) (x4 : Int32) (w : wS) : Prop := (if ¬ x4 = (-1) then zb_X13_guard_p170 E L Q x1 x2 x3 x4 w else zw E (L - 20) kt_M462 [.ref (w_adr E.2.1 12 0)] w (wk1 (fun v2 w1 => wle w w1 → (if v2 = 70 then zw E (L - 23) kt_M396 [.ref (w_adr E.2.1 12 0)] w1 (wk1 (fun v4 w3 => wle w1 w3 → zb_X13_guard_p170 E L Q x1 x2 x3 v4 w3) (fun e w => Q (.inr e) w)) else zw E (L - 22) kt_M545 [.ref (w_adr E.2.1 12 0), .int 2] w1 (wkr (fun v6 w5 => wle w1 w5 → (v6 = some (w_adr E.2.1 13 0) ∧ Q (.inr "MeetingHouseModel$Halt") w5)) (fun e w => Q (.inr e) w)))) (fun e w => Q (.inr e) w)))
theorem zt_X13_guard_p143 {E : zE} {L : Nat} {Q : kx_Rs → wS → Prop} {x1 : Int32} {x2 : Int32} {x3 : Int32} {x4 : Int32} {w : wS} (hL : 26 ≤ L) (h : zb_X13_guard_p143 E L Q x1 x2 x3 x4 w) : kzE E L kt_M422 143 [(0, .ref (w_adr E.2.1 12 0)), (1, .int x1), (2, .int x2), (3, .int x3), (4, .int x4)] [] w Q := by
  unfold zb_X13_guard_p143 at h
  refine kz_iload (M := kt_M422) kX13_guard_c9.2.2.2.2.2.1 rfl ?_
  refine kz_ic (M := kt_M422) (-1) kX13_guard_c9.2.2.2.2.2.2.1 rfl ?_
  refine kz_icmp_ne (M := kt_M422) kX13_guard_c9.2.2.2.2.2.2.2.1 (t := 170) rfl h (fun h => ?_) (fun h => ?_)
  · skip
    exact kz_weak [(0, .ref (w_adr E.2.1 12 0)), (1, .int x1), (2, .int x2), (3, .int x3), (4, .int x4)] ⟨rfl, ⟨rfl, ⟨rfl, ⟨rfl, ⟨rfl, trivial⟩⟩⟩⟩⟩ rfl (zt_X13_guard_p170 hL  h)
  · skip
    refine kz_aload_n (M := kt_M422) kX13_guard_c10.1 rfl ?_
    refine kz_cv1 (M := kt_M422) (c := 12) (o := 0) (As := []) (rest := []) kX13_guard_c10.2.1 wl_X13_560 wMv_462 rfl (.inl rfl) rfl (Nat.le_trans (Nat.le_of_ble_eq_true rfl) hL) (Nat.le_of_ble_eq_true rfl) (Nat.le_of_ble_eq_true rfl) h (fun v2 w1 hle h => ?_) (fun _ _ _ h => kzx_no rfl h)
    have h := h hle
    refine kz_bi (M := kt_M422) 70 kX13_guard_c10.2.2.1 rfl ?_
    refine kz_icmp_eq (M := kt_M422) kX13_guard_c10.2.2.2.1 (t := 164) rfl h (fun h => ?_) (fun h => ?_)
    · skip
      refine kz_aload_n (M := kt_M422) kX13_guard_c11.1 rfl ?_
      refine kz_cv1 (M := kt_M422) (c := 12) (o := 0) (As := []) (rest := []) kX13_guard_c11.2.1 wl_X13_651 wMv_396 rfl (.inl rfl) rfl (Nat.le_trans (Nat.le_of_ble_eq_true rfl) hL) (Nat.le_of_ble_eq_true rfl) (Nat.le_of_ble_eq_true rfl) h (fun v4 w3 hle h => ?_) (fun _ _ _ h => kzx_no rfl h)
      have h := h hle
      refine kz_sti (M := kt_M422) [(0, .ref (w_adr E.2.1 12 0)), (1, .int x1), (2, .int x2), (3, .int x3)] kX13_guard_c11.2.2.1 (Nat.le_of_ble_eq_true rfl) ⟨⟨rfl, rfl, .inl rfl⟩, ⟨⟨rfl, rfl, .inl rfl⟩, ⟨⟨rfl, rfl, .inl rfl⟩, ⟨⟨rfl, rfl, .inr rfl⟩, trivial⟩⟩⟩⟩ rfl ?_
      exact kz_weak [(0, .ref (w_adr E.2.1 12 0)), (1, .int x1), (2, .int x2), (3, .int x3), (4, .int v4)] ⟨rfl, ⟨rfl, ⟨rfl, ⟨rfl, ⟨rfl, trivial⟩⟩⟩⟩⟩ rfl (zt_X13_guard_p170 hL  h)
    · skip
      refine kz_aload_n (M := kt_M422) kX13_guard_c10.2.2.2.2.1 rfl ?_
      refine kz_ic (M := kt_M422) 2 kX13_guard_c10.2.2.2.2.2.1 rfl ?_
      refine kz_cvr (M := kt_M422) (c := 12) (o := 0) (As := [.int 2]) (rest := []) kX13_guard_c10.2.2.2.2.2.2.1 wl_X13_556 wMv_545 rfl (.inl rfl) rfl (Nat.le_trans (Nat.le_of_ble_eq_true rfl) hL) (Nat.le_of_ble_eq_true rfl) (Nat.le_of_ble_eq_true rfl) h (fun v6 w5 hle h => ?_) (fun _ _ _ h => kzx_no rfl h)
      have h := h hle
      exact kz_throw (M := kt_M422) (c := 13) (o := 0) kX13_guard_c10.2.2.2.2.2.2.2.1 rfl (.inl rfl) h (fun h => kzx_no rfl h)
def zb_X13_guard_p113 (E : zE) (L : Nat) (Q : kx_Rs → wS → Prop) (x1 : Int32) (x2 : Int32) (x3 : Int32) (x4 : Int32) (w : wS) : Prop := (if ¬ x4 = (-1) then zb_X13_guard_p143 E L Q x1 x2 x3 x4 w else zw E (L - 21) kt_M466 [.ref (w_adr E.2.1 12 0), .int 28] w (wk1 (fun v2 w1 => wle w w1 → (if v2 = 0 then zb_X13_guard_p143 E L Q x1 x2 x3 x4 w1 else zw E (L - 22) kt_M494 [.ref (w_adr E.2.1 12 0), .int 2, .int x2] w1 (wk1 (fun v4 w3 => wle w1 w3 → (kx_inb x3 (w_n w3 12 0 29) = true ∧ zb_X13_guard_p219 E L Q x1 x3 (ws_a w3 12 0 29 (x3).toNatClampNeg v4))) (fun e w => Q (.inr e) w)))) (fun e w => Q (.inr e) w)))
theorem zt_X13_guard_p113 {E : zE} {L : Nat} {Q : kx_Rs → wS → Prop} {x1 : Int32} {x2 : Int32} {x3 : Int32} {x4 : Int32} {w : wS} (hL : 26 ≤ L) (h : zb_X13_guard_p113 E L Q x1 x2 x3 x4 w) : kzE E L kt_M422 113 [(0, .ref (w_adr E.2.1 12 0)), (1, .int x1), (2, .int x2), (3, .int x3), (4, .int x4)] [] w Q := by
  unfold zb_X13_guard_p113 at h
  refine kz_iload (M := kt_M422) kX13_guard_c7.2.2.2.2.2.1 rfl ?_
  refine kz_ic (M := kt_M422) (-1) kX13_guard_c7.2.2.2.2.2.2.1 rfl ?_
  refine kz_icmp_ne (M := kt_M422) kX13_guard_c7.2.2.2.2.2.2.2.1 (t := 143) rfl h (fun h => ?_) (fun h => ?_)
  · skip
    exact kz_weak [(0, .ref (w_adr E.2.1 12 0)), (1, .int x1), (2, .int x2), (3, .int x3), (4, .int x4)] ⟨rfl, ⟨rfl, ⟨rfl, ⟨rfl, ⟨rfl, trivial⟩⟩⟩⟩⟩ rfl (zt_X13_guard_p143 hL  h)
  · skip
    refine kz_aload_n (M := kt_M422) kX13_guard_c8.1 rfl ?_
    refine kz_bi (M := kt_M422) 28 kX13_guard_c8.2.1 rfl ?_
    refine kz_cv1 (M := kt_M422) (c := 12) (o := 0) (As := [.int 28]) (rest := []) kX13_guard_c8.2.2.1 wl_X13_642 wMv_466 rfl (.inl rfl) rfl (Nat.le_trans (Nat.le_of_ble_eq_true rfl) hL) (Nat.le_of_ble_eq_true rfl) (Nat.le_of_ble_eq_true rfl) h (fun v2 w1 hle h => ?_) (fun _ _ _ h => kzx_no rfl h)
    have h := h hle
    refine kz_if_eq (M := kt_M422) kX13_guard_c8.2.2.2.1 (t := 143) rfl h (fun h => ?_) (fun h => ?_)
    · skip
      exact kz_weak [(0, .ref (w_adr E.2.1 12 0)), (1, .int x1), (2, .int x2), (3, .int x3), (4, .int x4)] ⟨rfl, ⟨rfl, ⟨rfl, ⟨rfl, ⟨rfl, trivial⟩⟩⟩⟩⟩ rfl (zt_X13_guard_p143 hL  h)
    · skip
      refine kz_aload_n (M := kt_M422) kX13_guard_c8.2.2.2.2.1 rfl ?_
      refine kz_gfc (M := kt_M422) (x := 4101) (c := 12) (o := 0) kX13_guard_c8.2.2.2.2.2.1 wf_X13_196 (.inl rfl) ?_
      refine kz_iload_n (M := kt_M422) kX13_guard_c8.2.2.2.2.2.2.1 rfl ?_
      refine kz_aload_n (M := kt_M422) kX13_guard_c8.2.2.2.2.2.2.2.1 rfl ?_
      refine kz_ic (M := kt_M422) 2 kX13_guard_c9.1 rfl ?_
      refine kz_iload_n (M := kt_M422) kX13_guard_c9.2.1 rfl ?_
      refine kz_cv1 (M := kt_M422) (c := 12) (o := 0) (As := [.int 2, .int x2]) (rest := [.int x3, .ref (E.2.1 4101)]) kX13_guard_c9.2.2.1 wl_X13_592 wMv_494 rfl (.inl rfl) rfl (Nat.le_trans (Nat.le_of_ble_eq_true rfl) hL) (Nat.le_of_ble_eq_true rfl) (Nat.le_of_ble_eq_true rfl) h (fun v4 w3 hle h => ?_) (fun _ _ _ h => kzx_no rfl h)
      have h := h hle
      refine kz_iast (M := kt_M422) (c := 12) (o := 0) (k := 29) (a := (E.2.1 4101)) kX13_guard_c9.2.2.2.1 ow_12_0_29 oa_12_0_29 ot_0 h (fun h => ?_)
      refine kz_goto (M := kt_M422) kX13_guard_c9.2.2.2.2.1 (t := 219) rfl ?_
      exact kz_weak [(0, .ref (w_adr E.2.1 12 0)), (1, .int x1), (3, .int x3)] ⟨rfl, ⟨rfl, ⟨rfl, trivial⟩⟩⟩ rfl (zt_X13_guard_p219 hL  h)
def zb_X13_guard_p98 (E : zE) (L : Nat) (Q : kx_Rs → wS → Prop) (x1 : Int32) (x2 : Int32) (x3 : Int32) (x4 : Int32) (w : wS) : Prop := (kx_inb x3 (w_n w 12 0 28) = true ∧ (if w_a w 12 0 28 (x3).toNatClampNeg < 0 then zb_X13_guard_p113 E L Q x1 x2 x3 x4 w else zw E (L - 21) kt_M600 [.ref (w_adr E.2.1 12 0), .int 50] w (wk0 (fun w1 => wle w w1 → zb_X13_guard_p113 E L Q x1 x2 x3 x4 w1) (fun e w => Q (.inr e) w))))
theorem zt_X13_guard_p98 {E : zE} {L : Nat} {Q : kx_Rs → wS → Prop} {x1 : Int32} {x2 : Int32} {x3 : Int32} {x4 : Int32} {w : wS} (hL : 26 ≤ L) (h : zb_X13_guard_p98 E L Q x1 x2 x3 x4 w) : kzE E L kt_M422 98 [(0, .ref (w_adr E.2.1 12 0)), (1, .int x1), (2, .int x2), (3, .int x3), (4, .int x4)] [] w Q := by
  unfold zb_X13_guard_p98 at h
  refine kz_aload_n (M := kt_M422) kX13_guard_c6.2.2.2.2.2.1 rfl ?_
  refine kz_gfc (M := kt_M422) (x := 4100) (c := 12) (o := 0) kX13_guard_c6.2.2.2.2.2.2.1 wf_X13_193 (.inl rfl) ?_
  refine kz_iload_n (M := kt_M422) kX13_guard_c6.2.2.2.2.2.2.2.1 rfl ?_
  refine kz_iald (M := kt_M422) (c := 12) (o := 0) (k := 28) (a := (E.2.1 4100)) kX13_guard_c7.1 ow_12_0_28 oa_12_0_28 ot_0 h (fun h => ?_)
  refine kz_if_lt (M := kt_M422) kX13_guard_c7.2.1 (t := 113) rfl h (fun h => ?_) (fun h => ?_)
  · skip
    exact kz_weak [(0, .ref (w_adr E.2.1 12 0)), (1, .int x1), (2, .int x2), (3, .int x3), (4, .int x4)] ⟨rfl, ⟨rfl, ⟨rfl, ⟨rfl, ⟨rfl, trivial⟩⟩⟩⟩⟩ rfl (zt_X13_guard_p113 hL  h)
  · skip
    refine kz_aload_n (M := kt_M422) kX13_guard_c7.2.2.1 rfl ?_
    refine kz_bi (M := kt_M422) 50 kX13_guard_c7.2.2.2.1 rfl ?_
    refine kz_cv0 (M := kt_M422) (c := 12) (o := 0) (As := [.int 50]) (rest := []) kX13_guard_c7.2.2.2.2.1 wl_X13_585 wMv_600 rfl (.inl rfl) rfl (Nat.le_trans (Nat.le_of_ble_eq_true rfl) hL) (Nat.le_of_ble_eq_true rfl) (Nat.le_of_ble_eq_true rfl) h (fun w1 hle h => ?_) (fun _ _ _ h => kzx_no rfl h)
    have h := h hle
    exact kz_weak [(0, .ref (w_adr E.2.1 12 0)), (1, .int x1), (2, .int x2), (3, .int x3), (4, .int x4)] ⟨rfl, ⟨rfl, ⟨rfl, ⟨rfl, ⟨rfl, trivial⟩⟩⟩⟩⟩ rfl (zt_X13_guard_p113 hL  h)
def zb_X13_guard_p88 (E : zE) (L : Nat) (Q : kx_Rs → wS → Prop) (x1 : Int32) (x2 : Int32) (x3 : Int32) (x4 : Int32) (w : wS) : Prop := zw E (L - 22) kt_M393 [.ref (w_adr E.2.1 12 0)] w (wk1 (fun v2 w1 => wle w w1 → (kx_inb x3 (w_n w1 12 0 28) = true ∧ zb_X13_guard_p98 E L Q x1 x2 x3 x4 (ws_a w1 12 0 28 (x3).toNatClampNeg v2))) (fun e w => Q (.inr e) w))
theorem zt_X13_guard_p88 {E : zE} {L : Nat} {Q : kx_Rs → wS → Prop} {x1 : Int32} {x2 : Int32} {x3 : Int32} {x4 : Int32} {w : wS} (hL : 26 ≤ L) (h : zb_X13_guard_p88 E L Q x1 x2 x3 x4 w) : kzE E L kt_M422 88 [(0, .ref (w_adr E.2.1 12 0)), (1, .int x1), (2, .int x2), (3, .int x3), (4, .int x4)] [] w Q := by
  unfold zb_X13_guard_p88 at h
  refine kz_aload_n (M := kt_M422) kX13_guard_c5.2.2.2.2.2.2.2.1 rfl ?_
  refine kz_gfc (M := kt_M422) (x := 4100) (c := 12) (o := 0) kX13_guard_c6.1 wf_X13_193 (.inl rfl) ?_
  refine kz_iload_n (M := kt_M422) kX13_guard_c6.2.1 rfl ?_
  refine kz_aload_n (M := kt_M422) kX13_guard_c6.2.2.1 rfl ?_
  refine kz_cv1 (M := kt_M422) (c := 12) (o := 0) (As := []) (rest := [.int x3, .ref (E.2.1 4100)]) kX13_guard_c6.2.2.2.1 wl_X13_632 wMv_393 rfl (.inl rfl) rfl (Nat.le_trans (Nat.le_of_ble_eq_true rfl) hL) (Nat.le_of_ble_eq_true rfl) (Nat.le_of_ble_eq_true rfl) h (fun v2 w1 hle h => ?_) (fun _ _ _ h => kzx_no rfl h)
  have h := h hle
  refine kz_iast (M := kt_M422) (c := 12) (o := 0) (k := 28) (a := (E.2.1 4100)) kX13_guard_c6.2.2.2.2.1 ow_12_0_28 oa_12_0_28 ot_0 h (fun h => ?_)
  exact kz_weak [(0, .ref (w_adr E.2.1 12 0)), (1, .int x1), (2, .int x2), (3, .int x3), (4, .int x4)] ⟨rfl, ⟨rfl, ⟨rfl, ⟨rfl, ⟨rfl, trivial⟩⟩⟩⟩⟩ rfl (zt_X13_guard_p98 hL  h)
def zb_X13_guard_p0 (E : zE) (L : Nat) (Q : kx_Rs → wS → Prop) (x1 : Int32) (w : wS) : Prop := zw E (L - 22) kt_M458 [.ref (w_adr E.2.1 12 0), .int x1, .int 4] w (wk0 (fun w1 => wle w w1 → (kx_inb (w_i w1 12 0 35) (w_n w1 12 0 9) = true ∧ zw E (L - 22) kt_M494 [.ref (w_adr E.2.1 12 0), .int 18, .int (w_a w1 12 0 9 (w_i w1 12 0 35).toNatClampNeg)] w1 (wk1 (fun v4 w3 => wle w1 w3 → zw E (L - 20) kt_M462 [.ref (w_adr E.2.1 12 0)] w3 (wk1 (fun v6 w5 => wle w3 w5 → (if v6 = 28 then zb_X13_guard_p113 E L Q x1 (w_a w1 12 0 9 (w_i w1 12 0 35).toNatClampNeg) v4 (-1) w5 else zw E (L - 20) kt_M462 [.ref (w_adr E.2.1 12 0)] w5 (wk1 (fun v8 w7 => wle w5 w7 → (if ¬ v8 = 70 then zb_X13_guard_p88 E L Q x1 (w_a w1 12 0 9 (w_i w1 12 0 35).toNatClampNeg) v4 (-1) w7 else zw E (L - 21) kt_M349 [.ref (w_adr E.2.1 12 0), .int 1] w7 (wk1 (fun v10 w9 => wle w7 w9 → (if v10 = 40 then zb_X13_guard_p88 E L Q x1 (w_a w1 12 0 9 (w_i w1 12 0 35).toNatClampNeg) v4 (-1) w9 else zw E (L - 23) kt_M396 [.ref (w_adr E.2.1 12 0)] w9 (wk1 (fun v12 w11 => wle w9 w11 → zw E (L - 20) kt_M462 [.ref (w_adr E.2.1 12 0)] w11 (wk1 (fun v14 w13 => wle w11 w13 → (if v14 = 48 then zb_X13_guard_p98 E L Q x1 (w_a w1 12 0 9 (w_i w1 12 0 35).toNatClampNeg) v4 v12 w13 else zw E (L - 24) kt_M394 [.ref (w_adr E.2.1 12 0), .int v12] w13 (wk1 (fun v16 w15 => wle w13 w15 → (kx_inb v4 (w_n w15 12 0 28) = true ∧ zb_X13_guard_p98 E L Q x1 (w_a w1 12 0 9 (w_i w1 12 0 35).toNatClampNeg) v4 (-1) (ws_a w15 12 0 28 (v4).toNatClampNeg v16))) (fun e w => Q (.inr e) w)))) (fun e w => Q (.inr e) w))) (fun e w => Q (.inr e) w)))) (fun e w => Q (.inr e) w)))) (fun e w => Q (.inr e) w)))) (fun e w => Q (.inr e) w))) (fun e w => Q (.inr e) w)))) (fun e w => Q (.inr e) w))
theorem zt_X13_guard_p0 {E : zE} {L : Nat} {Q : kx_Rs → wS → Prop} {x1 : Int32} {w : wS} (hL : 26 ≤ L) (h : zb_X13_guard_p0 E L Q x1 w) : kzE E L kt_M422 0 [(0, .ref (w_adr E.2.1 12 0)), (1, .int x1)] [] w Q := by
  unfold zb_X13_guard_p0 at h
  refine kz_aload_n (M := kt_M422) kX13_guard_c0.1 rfl ?_
  refine kz_iload_n (M := kt_M422) kX13_guard_c0.2.1 rfl ?_
  refine kz_ic (M := kt_M422) 4 kX13_guard_c0.2.2.1 rfl ?_
  refine kz_cv0 (M := kt_M422) (c := 12) (o := 0) (As := [.int x1, .int 4]) (rest := []) kX13_guard_c0.2.2.2.1 wl_X13_588 wMv_458 rfl (.inl rfl) rfl (Nat.le_trans (Nat.le_of_ble_eq_true rfl) hL) (Nat.le_of_ble_eq_true rfl) (Nat.le_of_ble_eq_true rfl) h (fun w1 hle h => ?_) (fun _ _ _ h => kzx_no rfl h)
  have h := h hle
  refine kz_aload_n (M := kt_M422) kX13_guard_c0.2.2.2.2.1 rfl ?_
  refine kz_gfc (M := kt_M422) (x := 4081) (c := 12) (o := 0) kX13_guard_c0.2.2.2.2.2.1 wf_X13_163 (.inl rfl) ?_
  refine kz_aload_n (M := kt_M422) kX13_guard_c0.2.2.2.2.2.2.1 rfl ?_
  refine kz_gfi (M := kt_M422) (c := 12) (o := 0) kX13_guard_c0.2.2.2.2.2.2.2.1 wf_X13_547 (.inl rfl) ?_
  refine kz_iald (M := kt_M422) (c := 12) (o := 0) (k := 9) (a := (E.2.1 4081)) kX13_guard_c1.1 ow_12_0_9 oa_12_0_9 ot_0 h (fun h => ?_)
  refine kz_sti_n (M := kt_M422) [(0, .ref (w_adr E.2.1 12 0)), (1, .int x1)] kX13_guard_c1.2.1 (Nat.le_of_ble_eq_true rfl) ⟨⟨rfl, rfl, .inl rfl⟩, ⟨⟨rfl, rfl, .inr rfl⟩, trivial⟩⟩ rfl ?_
  refine kz_aload_n (M := kt_M422) kX13_guard_c1.2.2.1 rfl ?_
  refine kz_bi (M := kt_M422) 18 kX13_guard_c1.2.2.2.1 rfl ?_
  refine kz_iload_n (M := kt_M422) kX13_guard_c1.2.2.2.2.1 rfl ?_
  refine kz_cv1 (M := kt_M422) (c := 12) (o := 0) (As := [.int 18, .int (w_a w1 12 0 9 (w_i w1 12 0 35).toNatClampNeg)]) (rest := []) kX13_guard_c1.2.2.2.2.2.1 wl_X13_592 wMv_494 rfl (.inl rfl) rfl (Nat.le_trans (Nat.le_of_ble_eq_true rfl) hL) (Nat.le_of_ble_eq_true rfl) (Nat.le_of_ble_eq_true rfl) h (fun v4 w3 hle h => ?_) (fun _ _ _ h => kzx_no rfl h)
  have h := h hle
  refine kz_sti_n (M := kt_M422) [(0, .ref (w_adr E.2.1 12 0)), (1, .int x1), (2, .int (w_a w1 12 0 9 (w_i w1 12 0 35).toNatClampNeg))] kX13_guard_c1.2.2.2.2.2.2.1 (Nat.le_of_ble_eq_true rfl) ⟨⟨rfl, rfl, .inl rfl⟩, ⟨⟨rfl, rfl, .inl rfl⟩, ⟨⟨rfl, rfl, .inr rfl⟩, trivial⟩⟩⟩ rfl ?_
  refine kz_ic (M := kt_M422) (-1) kX13_guard_c1.2.2.2.2.2.2.2.1 rfl ?_
  refine kz_sti (M := kt_M422) [(0, .ref (w_adr E.2.1 12 0)), (1, .int x1), (2, .int (w_a w1 12 0 9 (w_i w1 12 0 35).toNatClampNeg)), (3, .int v4)] kX13_guard_c2.1 (Nat.le_of_ble_eq_true rfl) ⟨⟨rfl, rfl, .inl rfl⟩, ⟨⟨rfl, rfl, .inl rfl⟩, ⟨⟨rfl, rfl, .inl rfl⟩, ⟨⟨rfl, rfl, .inr rfl⟩, trivial⟩⟩⟩⟩ rfl ?_
  refine kz_aload_n (M := kt_M422) kX13_guard_c2.2.1 rfl ?_
  refine kz_cv1 (M := kt_M422) (c := 12) (o := 0) (As := []) (rest := []) kX13_guard_c2.2.2.1 wl_X13_560 wMv_462 rfl (.inl rfl) rfl (Nat.le_trans (Nat.le_of_ble_eq_true rfl) hL) (Nat.le_of_ble_eq_true rfl) (Nat.le_of_ble_eq_true rfl) h (fun v6 w5 hle h => ?_) (fun _ _ _ h => kzx_no rfl h)
  have h := h hle
  refine kz_bi (M := kt_M422) 28 kX13_guard_c2.2.2.2.1 rfl ?_
  refine kz_icmp_eq (M := kt_M422) kX13_guard_c2.2.2.2.2.1 (t := 113) rfl h (fun h => ?_) (fun h => ?_)
  · skip
    exact kz_weak [(0, .ref (w_adr E.2.1 12 0)), (1, .int x1), (2, .int (w_a w1 12 0 9 (w_i w1 12 0 35).toNatClampNeg)), (3, .int v4), (4, .int (-1))] ⟨rfl, ⟨rfl, ⟨rfl, ⟨rfl, ⟨rfl, trivial⟩⟩⟩⟩⟩ rfl (zt_X13_guard_p113 hL  h)
  · skip
    refine kz_aload_n (M := kt_M422) kX13_guard_c2.2.2.2.2.2.1 rfl ?_
    refine kz_cv1 (M := kt_M422) (c := 12) (o := 0) (As := []) (rest := []) kX13_guard_c2.2.2.2.2.2.2.1 wl_X13_560 wMv_462 rfl (.inl rfl) rfl (Nat.le_trans (Nat.le_of_ble_eq_true rfl) hL) (Nat.le_of_ble_eq_true rfl) (Nat.le_of_ble_eq_true rfl) h (fun v8 w7 hle h => ?_) (fun _ _ _ h => kzx_no rfl h)
    have h := h hle
    refine kz_bi (M := kt_M422) 70 kX13_guard_c2.2.2.2.2.2.2.2.1 rfl ?_
    refine kz_icmp_ne (M := kt_M422) kX13_guard_c3.1 (t := 88) rfl h (fun h => ?_) (fun h => ?_)
    · skip
      exact kz_weak [(0, .ref (w_adr E.2.1 12 0)), (1, .int x1), (2, .int (w_a w1 12 0 9 (w_i w1 12 0 35).toNatClampNeg)), (3, .int v4), (4, .int (-1))] ⟨rfl, ⟨rfl, ⟨rfl, ⟨rfl, ⟨rfl, trivial⟩⟩⟩⟩⟩ rfl (zt_X13_guard_p88 hL  h)
    · skip
      refine kz_aload_n (M := kt_M422) kX13_guard_c3.2.1 rfl ?_
      refine kz_ic (M := kt_M422) 1 kX13_guard_c3.2.2.1 rfl ?_
      refine kz_cv1 (M := kt_M422) (c := 12) (o := 0) (As := [.int 1]) (rest := []) kX13_guard_c3.2.2.2.1 wl_X13_607 wMv_349 rfl (.inl rfl) rfl (Nat.le_trans (Nat.le_of_ble_eq_true rfl) hL) (Nat.le_of_ble_eq_true rfl) (Nat.le_of_ble_eq_true rfl) h (fun v10 w9 hle h => ?_) (fun _ _ _ h => kzx_no rfl h)
      have h := h hle
      refine kz_bi (M := kt_M422) 40 kX13_guard_c3.2.2.2.2.1 rfl ?_
      refine kz_icmp_eq (M := kt_M422) kX13_guard_c3.2.2.2.2.2.1 (t := 88) rfl h (fun h => ?_) (fun h => ?_)
      · skip
        exact kz_weak [(0, .ref (w_adr E.2.1 12 0)), (1, .int x1), (2, .int (w_a w1 12 0 9 (w_i w1 12 0 35).toNatClampNeg)), (3, .int v4), (4, .int (-1))] ⟨rfl, ⟨rfl, ⟨rfl, ⟨rfl, ⟨rfl, trivial⟩⟩⟩⟩⟩ rfl (zt_X13_guard_p88 hL  h)
      · skip
        refine kz_aload_n (M := kt_M422) kX13_guard_c3.2.2.2.2.2.2.1 rfl ?_
        refine kz_cv1 (M := kt_M422) (c := 12) (o := 0) (As := []) (rest := []) kX13_guard_c3.2.2.2.2.2.2.2.1 wl_X13_651 wMv_396 rfl (.inl rfl) rfl (Nat.le_trans (Nat.le_of_ble_eq_true rfl) hL) (Nat.le_of_ble_eq_true rfl) (Nat.le_of_ble_eq_true rfl) h (fun v12 w11 hle h => ?_) (fun _ _ _ h => kzx_no rfl h)
        have h := h hle
        refine kz_sti (M := kt_M422) [(0, .ref (w_adr E.2.1 12 0)), (1, .int x1), (2, .int (w_a w1 12 0 9 (w_i w1 12 0 35).toNatClampNeg)), (3, .int v4)] kX13_guard_c4.1 (Nat.le_of_ble_eq_true rfl) ⟨⟨rfl, rfl, .inl rfl⟩, ⟨⟨rfl, rfl, .inl rfl⟩, ⟨⟨rfl, rfl, .inl rfl⟩, ⟨⟨rfl, rfl, .inr rfl⟩, trivial⟩⟩⟩⟩ rfl ?_
        refine kz_aload_n (M := kt_M422) kX13_guard_c4.2.1 rfl ?_
        refine kz_cv1 (M := kt_M422) (c := 12) (o := 0) (As := []) (rest := []) kX13_guard_c4.2.2.1 wl_X13_560 wMv_462 rfl (.inl rfl) rfl (Nat.le_trans (Nat.le_of_ble_eq_true rfl) hL) (Nat.le_of_ble_eq_true rfl) (Nat.le_of_ble_eq_true rfl) h (fun v14 w13 hle h => ?_) (fun _ _ _ h => kzx_no rfl h)
        have h := h hle
        refine kz_bi (M := kt_M422) 48 kX13_guard_c4.2.2.2.1 rfl ?_
        refine kz_icmp_eq (M := kt_M422) kX13_guard_c4.2.2.2.2.1 (t := 98) rfl h (fun h => ?_) (fun h => ?_)
        · skip
          exact kz_weak [(0, .ref (w_adr E.2.1 12 0)), (1, .int x1), (2, .int (w_a w1 12 0 9 (w_i w1 12 0 35).toNatClampNeg)), (3, .int v4), (4, .int v12)] ⟨rfl, ⟨rfl, ⟨rfl, ⟨rfl, ⟨rfl, trivial⟩⟩⟩⟩⟩ rfl (zt_X13_guard_p98 hL  h)
        · skip
          refine kz_aload_n (M := kt_M422) kX13_guard_c4.2.2.2.2.2.1 rfl ?_
          refine kz_gfc (M := kt_M422) (x := 4100) (c := 12) (o := 0) kX13_guard_c4.2.2.2.2.2.2.1 wf_X13_193 (.inl rfl) ?_
          refine kz_iload_n (M := kt_M422) kX13_guard_c4.2.2.2.2.2.2.2.1 rfl ?_
          refine kz_aload_n (M := kt_M422) kX13_guard_c5.1 rfl ?_
          refine kz_iload (M := kt_M422) kX13_guard_c5.2.1 rfl ?_
          refine kz_cv1 (M := kt_M422) (c := 12) (o := 0) (As := [.int v12]) (rest := [.int v4, .ref (E.2.1 4100)]) kX13_guard_c5.2.2.1 wl_X13_654 wMv_394 rfl (.inl rfl) rfl (Nat.le_trans (Nat.le_of_ble_eq_true rfl) hL) (Nat.le_of_ble_eq_true rfl) (Nat.le_of_ble_eq_true rfl) h (fun v16 w15 hle h => ?_) (fun _ _ _ h => kzx_no rfl h)
          have h := h hle
          refine kz_iast (M := kt_M422) (c := 12) (o := 0) (k := 28) (a := (E.2.1 4100)) kX13_guard_c5.2.2.2.1 ow_12_0_28 oa_12_0_28 ot_0 h (fun h => ?_)
          refine kz_ic (M := kt_M422) (-1) kX13_guard_c5.2.2.2.2.1 rfl ?_
          refine kz_sti (M := kt_M422) [(0, .ref (w_adr E.2.1 12 0)), (1, .int x1), (2, .int (w_a w1 12 0 9 (w_i w1 12 0 35).toNatClampNeg)), (3, .int v4)] kX13_guard_c5.2.2.2.2.2.1 (Nat.le_of_ble_eq_true rfl) ⟨⟨rfl, rfl, .inl rfl⟩, ⟨⟨rfl, rfl, .inl rfl⟩, ⟨⟨rfl, rfl, .inl rfl⟩, ⟨⟨rfl, rfl, .inr rfl⟩, trivial⟩⟩⟩⟩ rfl ?_
          refine kz_goto (M := kt_M422) kX13_guard_c5.2.2.2.2.2.2.1 (t := 98) rfl ?_
          exact kz_weak [(0, .ref (w_adr E.2.1 12 0)), (1, .int x1), (2, .int (w_a w1 12 0 9 (w_i w1 12 0 35).toNatClampNeg)), (3, .int v4), (4, .int (-1))] ⟨rfl, ⟨rfl, ⟨rfl, ⟨rfl, ⟨rfl, trivial⟩⟩⟩⟩⟩ rfl (zt_X13_guard_p98 hL  h)
def zb_X13_rules_p112 (E : zE) (L : Nat) (Q : kx_Rs → wS → Prop) (y0 : Int32) (w : wS) : Prop := ((y0 = 0 ∨ y0 = 1) ∧ Q (.inl (some (.int y0))) w)
theorem zt_X13_rules_p112 {E : zE} {L : Nat} {Q : kx_Rs → wS → Prop} {y0 : Int32} {w : wS} (hL : 21 ≤ L) (h : zb_X13_rules_p112 E L Q y0 w) : kzE E L kt_M526 112 [(0, .ref (w_adr E.2.1 12 0))] [.int y0] w Q := by
  unfold zb_X13_rules_p112 at h
  exact kz_iretz (M := kt_M526) kX13_rules_c7.2.2.2.2.2.2.1 rfl h.1 h.2
def zb_X13_rules_p0 (E : zE) (L : Nat) (Q : kx_Rs → wS → Prop) (w : wS) : Prop := zw E (L - 21) kt_M487 [.ref (w_adr E.2.1 12 0)] (ws_i w 12 0 64 0) (wk0 (fun w1 => wle (ws_i w 12 0 64 0) w1 → (if w_i w1 12 0 64 ≤ 0 then zw E (L - 21) kt_M571 [.ref (w_adr E.2.1 12 0), .int (w_i w1 12 0 43)] (ws_g (ws_i (ws_i (ws_i w1 12 0 74 0) 12 0 98 0) 12 0 75 0) 12 0 79 1) (wk0 (fun w3 => wle (ws_g (ws_i (ws_i (ws_i w1 12 0 74 0) 12 0 98 0) 12 0 75 0) 12 0 79 1) w3 → (if w_i w3 12 0 64 ≤ 0 then zw E (L - 21) kt_M342 [.ref (w_adr E.2.1 12 0), .int (w_i w3 12 0 43)] (ws_i (ws_i (ws_i (ws_i w3 12 0 80 0) 12 0 86 (-1)) 12 0 87 0) 12 0 100 (-1)) (wk0 (fun w5 => wle (ws_i (ws_i (ws_i (ws_i w3 12 0 80 0) 12 0 86 (-1)) 12 0 87 0) 12 0 100 (-1)) w5 → (if w_i w5 12 0 64 ≤ 0 then zw E (L - 21) kt_M533 [.ref (w_adr E.2.1 12 0), .int (w_i w5 12 0 43)] w5 (wk0 (fun w7 => wle w5 w7 → (if ¬ w_i w7 12 0 64 = 0 then zb_X13_rules_p112 E L Q 0 w7 else zb_X13_rules_p112 E L Q 1 w7)) (fun e w => Q (.inr e) w)) else Q (.inl (some (.int 0))) w5)) (fun e w => Q (.inr e) w)) else Q (.inl (some (.int 0))) w3)) (fun e w => Q (.inr e) w)) else Q (.inl (some (.int 0))) w1)) (fun e w => Q (.inr e) w))
theorem zt_X13_rules_p0 {E : zE} {L : Nat} {Q : kx_Rs → wS → Prop} {w : wS} (hL : 21 ≤ L) (h : zb_X13_rules_p0 E L Q  w) : kzE E L kt_M526 0 [(0, .ref (w_adr E.2.1 12 0))] [] w Q := by
  unfold zb_X13_rules_p0 at h
  refine kz_aload_n (M := kt_M526) kX13_rules_c0.1 rfl ?_
  refine kz_ic (M := kt_M526) 0 kX13_rules_c0.2.1 rfl ?_
  refine kz_pfi (M := kt_M526) (c := 12) (o := 0) kX13_rules_c0.2.2.1 wq_X13_716 (.inl rfl) ?_
  refine kz_aload_n (M := kt_M526) kX13_rules_c0.2.2.2.1 rfl ?_
  refine kz_cv0 (M := kt_M526) (c := 12) (o := 0) (As := []) (rest := []) kX13_rules_c0.2.2.2.2.1 wl_X13_1114 wMv_487 rfl (.inl rfl) rfl (Nat.le_trans (Nat.le_of_ble_eq_true rfl) hL) (Nat.le_of_ble_eq_true rfl) (Nat.le_of_ble_eq_true rfl) h (fun w1 hle h => ?_) (fun _ _ _ h => kzx_no rfl h)
  have h := h hle
  refine kz_aload_n (M := kt_M526) kX13_rules_c0.2.2.2.2.2.1 rfl ?_
  refine kz_gfi (M := kt_M526) (c := 12) (o := 0) kX13_rules_c0.2.2.2.2.2.2.1 wf_X13_716 (.inl rfl) ?_
  refine kz_if_le (M := kt_M526) kX13_rules_c0.2.2.2.2.2.2.2.1 (t := 18) rfl h (fun h => ?_) (fun h => ?_)
  · skip
    refine kz_aload_n (M := kt_M526) kX13_rules_c1.2.2.1 rfl ?_
    refine kz_ic (M := kt_M526) 0 kX13_rules_c1.2.2.2.1 rfl ?_
    refine kz_pfi (M := kt_M526) (c := 12) (o := 0) kX13_rules_c1.2.2.2.2.1 wq_X13_931 (.inl rfl) ?_
    refine kz_aload_n (M := kt_M526) kX13_rules_c1.2.2.2.2.2.1 rfl ?_
    refine kz_ic (M := kt_M526) 0 kX13_rules_c1.2.2.2.2.2.2.1 rfl ?_
    refine kz_pfi (M := kt_M526) (c := 12) (o := 0) kX13_rules_c1.2.2.2.2.2.2.2.1 wq_X13_998 (.inl rfl) ?_
    refine kz_aload_n (M := kt_M526) kX13_rules_c2.1 rfl ?_
    refine kz_ic (M := kt_M526) 0 kX13_rules_c2.2.1 rfl ?_
    refine kz_pfi (M := kt_M526) (c := 12) (o := 0) kX13_rules_c2.2.2.1 wq_X13_925 (.inl rfl) ?_
    refine kz_aload_n (M := kt_M526) kX13_rules_c2.2.2.2.1 rfl ?_
    refine kz_lconst (M := kt_M526) kX13_rules_c2.2.2.2.2.1 ?_
    refine kz_pfg (M := kt_M526) (c := 12) (o := 0) kX13_rules_c2.2.2.2.2.2.1 wq_X13_938 (.inl rfl) ?_
    refine kz_aload_n (M := kt_M526) kX13_rules_c2.2.2.2.2.2.2.1 rfl ?_
    refine kz_aload_n (M := kt_M526) kX13_rules_c2.2.2.2.2.2.2.2.1 rfl ?_
    refine kz_gfiR (M := kt_M526) (c := 12) (o := 0) (w_i w1 12 0 43) kX13_rules_c3.1 wf_X13_713 (.inl rfl) (rd_i_g.trans ((rd_i_i rfl).trans ((rd_i_i rfl).trans (rd_i_i rfl)))) ?_
    refine kz_cv0 (M := kt_M526) (c := 12) (o := 0) (As := [.int (w_i w1 12 0 43)]) (rest := []) kX13_rules_c3.2.1 wl_X13_910 wMv_571 rfl (.inl rfl) rfl (Nat.le_trans (Nat.le_of_ble_eq_true rfl) hL) (Nat.le_of_ble_eq_true rfl) (Nat.le_of_ble_eq_true rfl) h (fun w3 hle h => ?_) (fun _ _ _ h => kzx_no rfl h)
    have h := h hle
    refine kz_aload_n (M := kt_M526) kX13_rules_c3.2.2.1 rfl ?_
    refine kz_gfi (M := kt_M526) (c := 12) (o := 0) kX13_rules_c3.2.2.2.1 wf_X13_716 (.inl rfl) ?_
    refine kz_if_le (M := kt_M526) kX13_rules_c3.2.2.2.2.1 (t := 55) rfl h (fun h => ?_) (fun h => ?_)
    · skip
      refine kz_aload_n (M := kt_M526) kX13_rules_c3.2.2.2.2.2.2.2.1 rfl ?_
      refine kz_ic (M := kt_M526) 0 kX13_rules_c4.1 rfl ?_
      refine kz_pfi (M := kt_M526) (c := 12) (o := 0) kX13_rules_c4.2.1 wq_X13_1004 (.inl rfl) ?_
      refine kz_aload_n (M := kt_M526) kX13_rules_c4.2.2.1 rfl ?_
      refine kz_ic (M := kt_M526) (-1) kX13_rules_c4.2.2.2.1 rfl ?_
      refine kz_pfi (M := kt_M526) (c := 12) (o := 0) kX13_rules_c4.2.2.2.2.1 wq_X13_1001 (.inl rfl) ?_
      refine kz_aload_n (M := kt_M526) kX13_rules_c4.2.2.2.2.2.1 rfl ?_
      refine kz_ic (M := kt_M526) 0 kX13_rules_c4.2.2.2.2.2.2.1 rfl ?_
      refine kz_pfi (M := kt_M526) (c := 12) (o := 0) kX13_rules_c4.2.2.2.2.2.2.2.1 wq_X13_1011 (.inl rfl) ?_
      refine kz_aload_n (M := kt_M526) kX13_rules_c5.1 rfl ?_
      refine kz_ic (M := kt_M526) (-1) kX13_rules_c5.2.1 rfl ?_
      refine kz_pfi (M := kt_M526) (c := 12) (o := 0) kX13_rules_c5.2.2.1 wq_X13_1067 (.inl rfl) ?_
      refine kz_aload_n (M := kt_M526) kX13_rules_c5.2.2.2.1 rfl ?_
      refine kz_aload_n (M := kt_M526) kX13_rules_c5.2.2.2.2.1 rfl ?_
      refine kz_gfiR (M := kt_M526) (c := 12) (o := 0) (w_i w3 12 0 43) kX13_rules_c5.2.2.2.2.2.1 wf_X13_713 (.inl rfl) ((rd_i_i rfl).trans ((rd_i_i rfl).trans ((rd_i_i rfl).trans (rd_i_i rfl)))) ?_
      refine kz_cv0 (M := kt_M526) (c := 12) (o := 0) (As := [.int (w_i w3 12 0 43)]) (rest := []) kX13_rules_c5.2.2.2.2.2.2.1 wl_X13_1070 wMv_342 rfl (.inl rfl) rfl (Nat.le_trans (Nat.le_of_ble_eq_true rfl) hL) (Nat.le_of_ble_eq_true rfl) (Nat.le_of_ble_eq_true rfl) h (fun w5 hle h => ?_) (fun _ _ _ h => kzx_no rfl h)
      have h := h hle
      refine kz_aload_n (M := kt_M526) kX13_rules_c5.2.2.2.2.2.2.2.1 rfl ?_
      refine kz_gfi (M := kt_M526) (c := 12) (o := 0) kX13_rules_c6.1 wf_X13_716 (.inl rfl) ?_
      refine kz_if_le (M := kt_M526) kX13_rules_c6.2.1 (t := 92) rfl h (fun h => ?_) (fun h => ?_)
      · skip
        refine kz_aload_n (M := kt_M526) kX13_rules_c6.2.2.2.2.1 rfl ?_
        refine kz_aload_n (M := kt_M526) kX13_rules_c6.2.2.2.2.2.1 rfl ?_
        refine kz_gfi (M := kt_M526) (c := 12) (o := 0) kX13_rules_c6.2.2.2.2.2.2.1 wf_X13_713 (.inl rfl) ?_
        refine kz_cv0 (M := kt_M526) (c := 12) (o := 0) (As := [.int (w_i w5 12 0 43)]) (rest := []) kX13_rules_c6.2.2.2.2.2.2.2.1 wl_X13_1108 wMv_533 rfl (.inl rfl) rfl (Nat.le_trans (Nat.le_of_ble_eq_true rfl) hL) (Nat.le_of_ble_eq_true rfl) (Nat.le_of_ble_eq_true rfl) h (fun w7 hle h => ?_) (fun _ _ _ h => kzx_no rfl h)
        have h := h hle
        refine kz_aload_n (M := kt_M526) kX13_rules_c7.1 rfl ?_
        refine kz_gfi (M := kt_M526) (c := 12) (o := 0) kX13_rules_c7.2.1 wf_X13_716 (.inl rfl) ?_
        refine kz_if_ne (M := kt_M526) kX13_rules_c7.2.2.1 (t := 111) rfl h (fun h => ?_) (fun h => ?_)
        · skip
          refine kz_ic (M := kt_M526) 0 kX13_rules_c7.2.2.2.2.2.1 rfl ?_
          exact kz_weak [(0, .ref (w_adr E.2.1 12 0))] ⟨rfl, trivial⟩ rfl (zt_X13_rules_p112 hL  h)
        · skip
          refine kz_ic (M := kt_M526) 1 kX13_rules_c7.2.2.2.1 rfl ?_
          refine kz_goto (M := kt_M526) kX13_rules_c7.2.2.2.2.1 (t := 112) rfl ?_
          exact kz_weak [(0, .ref (w_adr E.2.1 12 0))] ⟨rfl, trivial⟩ rfl (zt_X13_rules_p112 hL  h)
      · skip
        refine kz_ic (M := kt_M526) 0 kX13_rules_c6.2.2.1 rfl ?_
        exact kz_iretz (M := kt_M526) kX13_rules_c6.2.2.2.1 rfl (by decide) h
    · skip
      refine kz_ic (M := kt_M526) 0 kX13_rules_c3.2.2.2.2.2.1 rfl ?_
      exact kz_iretz (M := kt_M526) kX13_rules_c3.2.2.2.2.2.2.1 rfl (by decide) h
  · skip
    refine kz_ic (M := kt_M526) 0 kX13_rules_c1.1 rfl ?_
    exact kz_iretz (M := kt_M526) kX13_rules_c1.2.1 rfl (by decide) h
def zb_X13_symbol_p152 (E : zE) (L : Nat) (Q : kx_Rs → wS → Prop) (x7 : Int32) (y0 : Int32) (y1 : Int32) (y2 : Int32) (w : wS) : Prop := (kx_inb y2 (w_n w 12 0 61) = true ∧ (kx_inb x7 (w_n w 12 0 53) = true ∧ (kx_inb x7 (w_n w 12 0 54) = true ∧ (kx_inb x7 (w_n w 12 0 55) = true ∧ (kx_inb x7 (w_n w 12 0 68) = true ∧ (kx_inb x7 (w_n w 12 0 71) = true ∧ (kx_inb x7 (w_n w 12 0 95) = true ∧ Q (.inl (some (.int x7))) (ws_a (ws_a (ws_a (ws_a (ws_a (ws_a (ws_a w 12 0 61 (y2).toNatClampNeg (y1 + y0)) 12 0 53 (x7).toNatClampNeg (vp_nar .boolean 0)) 12 0 54 (x7).toNatClampNeg (-1)) 12 0 55 (x7).toNatClampNeg (-1)) 12 0 68 (x7).toNatClampNeg (vp_nar .boolean 0)) 12 0 71 (x7).toNatClampNeg (vp_nar .boolean 0)) 12 0 95 (x7).toNatClampNeg (vp_nar .boolean 0)))))))))
theorem zt_X13_symbol_p152 {E : zE} {L : Nat} {Q : kx_Rs → wS → Prop} {x7 : Int32} {y0 : Int32} {y1 : Int32} {y2 : Int32} {w : wS} (hL : 19 ≤ L) (h : zb_X13_symbol_p152 E L Q x7 y0 y1 y2 w) : kzE E L kt_M550 152 [(0, .ref (w_adr E.2.1 12 0)), (7, .int x7)] [.int y0, .int y1, .int y2, .ref (E.2.1 4133)] w Q := by
  unfold zb_X13_symbol_p152 at h
  refine kz_iadd (M := kt_M550) kX13_symbol_c10.2.2.2.2.2.2.1 ?_
  refine kz_iast (M := kt_M550) (c := 12) (o := 0) (k := 61) (a := (E.2.1 4133)) kX13_symbol_c10.2.2.2.2.2.2.2.1 ow_12_0_61 oa_12_0_61 ot_0 h (fun h => ?_)
  refine kz_aload_n (M := kt_M550) kX13_symbol_c11.1 rfl ?_
  refine kz_gfc (M := kt_M550) (x := 4125) (c := 12) (o := 0) kX13_symbol_c11.2.1 wf_X13_244 (.inl rfl) ?_
  refine kz_iload (M := kt_M550) kX13_symbol_c11.2.2.1 rfl ?_
  refine kz_ic (M := kt_M550) 0 kX13_symbol_c11.2.2.2.1 rfl ?_
  refine kz_zastR (M := kt_M550) (n := w_n w 12 0 53) (c := 12) (o := 0) (k := 53) (a := (E.2.1 4125)) kX13_symbol_c11.2.2.2.2.1 ow_12_0_53 oa_12_0_53 ot_2 rd_n_a h (fun h => ?_)
  refine kz_aload_n (M := kt_M550) kX13_symbol_c11.2.2.2.2.2.1 rfl ?_
  refine kz_gfc (M := kt_M550) (x := 4126) (c := 12) (o := 0) kX13_symbol_c11.2.2.2.2.2.2.1 wf_X13_248 (.inl rfl) ?_
  refine kz_iload (M := kt_M550) kX13_symbol_c11.2.2.2.2.2.2.2.1 rfl ?_
  refine kz_ic (M := kt_M550) (-1) kX13_symbol_c12.1 rfl ?_
  refine kz_iastR (M := kt_M550) (n := w_n w 12 0 54) (c := 12) (o := 0) (k := 54) (a := (E.2.1 4126)) kX13_symbol_c12.2.1 ow_12_0_54 oa_12_0_54 ot_0 (rd_n_a.trans rd_n_a) h (fun h => ?_)
  refine kz_aload_n (M := kt_M550) kX13_symbol_c12.2.2.1 rfl ?_
  refine kz_gfc (M := kt_M550) (x := 4127) (c := 12) (o := 0) kX13_symbol_c12.2.2.2.1 wf_X13_251 (.inl rfl) ?_
  refine kz_iload (M := kt_M550) kX13_symbol_c12.2.2.2.2.1 rfl ?_
  refine kz_ic (M := kt_M550) (-1) kX13_symbol_c12.2.2.2.2.2.1 rfl ?_
  refine kz_iastR (M := kt_M550) (n := w_n w 12 0 55) (c := 12) (o := 0) (k := 55) (a := (E.2.1 4127)) kX13_symbol_c12.2.2.2.2.2.2.1 ow_12_0_55 oa_12_0_55 ot_0 (rd_n_a.trans (rd_n_a.trans rd_n_a)) h (fun h => ?_)
  refine kz_aload_n (M := kt_M550) kX13_symbol_c12.2.2.2.2.2.2.2.1 rfl ?_
  refine kz_gfc (M := kt_M550) (x := 4140) (c := 12) (o := 0) kX13_symbol_c13.1 wf_X13_272 (.inl rfl) ?_
  refine kz_iload (M := kt_M550) kX13_symbol_c13.2.1 rfl ?_
  refine kz_ic (M := kt_M550) 0 kX13_symbol_c13.2.2.1 rfl ?_
  refine kz_zastR (M := kt_M550) (n := w_n w 12 0 68) (c := 12) (o := 0) (k := 68) (a := (E.2.1 4140)) kX13_symbol_c13.2.2.2.1 ow_12_0_68 oa_12_0_68 ot_2 (rd_n_a.trans (rd_n_a.trans (rd_n_a.trans rd_n_a))) h (fun h => ?_)
  refine kz_aload_n (M := kt_M550) kX13_symbol_c13.2.2.2.2.1 rfl ?_
  refine kz_gfc (M := kt_M550) (x := 4143) (c := 12) (o := 0) kX13_symbol_c13.2.2.2.2.2.1 wf_X13_281 (.inl rfl) ?_
  refine kz_iload (M := kt_M550) kX13_symbol_c13.2.2.2.2.2.2.1 rfl ?_
  refine kz_ic (M := kt_M550) 0 kX13_symbol_c13.2.2.2.2.2.2.2.1 rfl ?_
  refine kz_zastR (M := kt_M550) (n := w_n w 12 0 71) (c := 12) (o := 0) (k := 71) (a := (E.2.1 4143)) kX13_symbol_c14.1 ow_12_0_71 oa_12_0_71 ot_2 (rd_n_a.trans (rd_n_a.trans (rd_n_a.trans (rd_n_a.trans rd_n_a)))) h (fun h => ?_)
  refine kz_aload_n (M := kt_M550) kX13_symbol_c14.2.1 rfl ?_
  refine kz_gfc (M := kt_M550) (x := 4167) (c := 12) (o := 0) kX13_symbol_c14.2.2.1 wf_X13_316 (.inl rfl) ?_
  refine kz_iload (M := kt_M550) kX13_symbol_c14.2.2.2.1 rfl ?_
  refine kz_ic (M := kt_M550) 0 kX13_symbol_c14.2.2.2.2.1 rfl ?_
  refine kz_zastR (M := kt_M550) (n := w_n w 12 0 95) (c := 12) (o := 0) (k := 95) (a := (E.2.1 4167)) kX13_symbol_c14.2.2.2.2.2.1 ow_12_0_95 oa_12_0_95 ot_2 (rd_n_a.trans (rd_n_a.trans (rd_n_a.trans (rd_n_a.trans (rd_n_a.trans rd_n_a))))) h (fun h => ?_)
  refine kz_iload (M := kt_M550) kX13_symbol_c14.2.2.2.2.2.2.1 rfl ?_
  exact kz_iret (M := kt_M550) kX13_symbol_c14.2.2.2.2.2.2.2.1 rfl rfl h
def zb_X13_symbol_p120 (E : zE) (L : Nat) (Q : kx_Rs → wS → Prop) (x4 : Int32) (x7 : Int32) (y0 : Int32) (w : wS) : Prop := (kx_inb (w_i w 12 0 62) (w_n w 12 0 61) = true ∧ (if ¬ y0 = 0 then (if ¬ x4 = (-1) then zb_X13_symbol_p152 E L Q x7 2 (w_a w 12 0 61 (w_i w 12 0 62).toNatClampNeg) (w_i w 12 0 62) w else zb_X13_symbol_p152 E L Q x7 1 (w_a w 12 0 61 (w_i w 12 0 62).toNatClampNeg) (w_i w 12 0 62) w) else zb_X13_symbol_p152 E L Q x7 0 (w_a w 12 0 61 (w_i w 12 0 62).toNatClampNeg) (w_i w 12 0 62) w))
theorem zt_X13_symbol_p120 {E : zE} {L : Nat} {Q : kx_Rs → wS → Prop} {x4 : Int32} {x7 : Int32} {y0 : Int32} {w : wS} (hL : 19 ≤ L) (h : zb_X13_symbol_p120 E L Q x4 x7 y0 w) : kzE E L kt_M550 120 [(0, .ref (w_adr E.2.1 12 0)), (4, .int x4), (7, .int x7)] [.int y0] w Q := by
  unfold zb_X13_symbol_p120 at h
  refine kz_sti (M := kt_M550) [(0, .ref (w_adr E.2.1 12 0)), (4, .int x4), (7, .int x7)] kX13_symbol_c8.2.2.2.2.2.1 (Nat.le_of_ble_eq_true rfl) ⟨⟨rfl, rfl, .inl rfl⟩, ⟨⟨rfl, rfl, .inl rfl⟩, ⟨⟨rfl, rfl, .inr rfl⟩, trivial⟩⟩⟩ rfl ?_
  refine kz_aload_n (M := kt_M550) kX13_symbol_c8.2.2.2.2.2.2.1 rfl ?_
  refine kz_gfc (M := kt_M550) (x := 4133) (c := 12) (o := 0) kX13_symbol_c8.2.2.2.2.2.2.2.1 wf_X13_260 (.inl rfl) ?_
  refine kz_aload_n (M := kt_M550) kX13_symbol_c9.1 rfl ?_
  refine kz_gfi (M := kt_M550) (c := 12) (o := 0) kX13_symbol_c9.2.1 wf_X13_725 (.inl rfl) ?_
  refine kz_dup2 (M := kt_M550) kX13_symbol_c9.2.2.1 ⟨rfl, rfl⟩ ?_
  refine kz_iald (M := kt_M550) (c := 12) (o := 0) (k := 61) (a := (E.2.1 4133)) kX13_symbol_c9.2.2.2.1 ow_12_0_61 oa_12_0_61 ot_0 h (fun h => ?_)
  refine kz_iload (M := kt_M550) kX13_symbol_c9.2.2.2.2.1 rfl ?_
  refine kz_if_ne (M := kt_M550) kX13_symbol_c9.2.2.2.2.2.1 (t := 141) rfl h (fun h => ?_) (fun h => ?_)
  · skip
    refine kz_iload (M := kt_M550) kX13_symbol_c10.1 rfl ?_
    refine kz_ic (M := kt_M550) (-1) kX13_symbol_c10.2.1 rfl ?_
    refine kz_icmp_ne (M := kt_M550) kX13_symbol_c10.2.2.1 (t := 151) rfl h (fun h => ?_) (fun h => ?_)
    · skip
      refine kz_ic (M := kt_M550) 2 kX13_symbol_c10.2.2.2.2.2.1 rfl ?_
      exact kz_weak [(0, .ref (w_adr E.2.1 12 0)), (7, .int x7)] ⟨rfl, ⟨rfl, trivial⟩⟩ rfl (zt_X13_symbol_p152 hL  h)
    · skip
      refine kz_ic (M := kt_M550) 1 kX13_symbol_c10.2.2.2.1 rfl ?_
      refine kz_goto (M := kt_M550) kX13_symbol_c10.2.2.2.2.1 (t := 152) rfl ?_
      exact kz_weak [(0, .ref (w_adr E.2.1 12 0)), (7, .int x7)] ⟨rfl, ⟨rfl, trivial⟩⟩ rfl (zt_X13_symbol_p152 hL  h)
  · skip
    refine kz_ic (M := kt_M550) 0 kX13_symbol_c9.2.2.2.2.2.2.1 rfl ?_
    refine kz_goto (M := kt_M550) kX13_symbol_c9.2.2.2.2.2.2.2.1 (t := 152) rfl ?_
    exact kz_weak [(0, .ref (w_adr E.2.1 12 0)), (7, .int x7)] ⟨rfl, ⟨rfl, trivial⟩⟩ rfl (zt_X13_symbol_p152 hL  h)
def zb_X13_symbol_p115 (E : zE) (L : Nat) (Q : kx_Rs → wS → Prop) (x4 : Int32) (x7 : Int32) (w : wS) : Prop := zb_X13_symbol_p120 E L Q x4 x7 1 w
theorem zt_X13_symbol_p115 {E : zE} {L : Nat} {Q : kx_Rs → wS → Prop} {x4 : Int32} {x7 : Int32} {w : wS} (hL : 19 ≤ L) (h : zb_X13_symbol_p115 E L Q x4 x7 w) : kzE E L kt_M550 115 [(0, .ref (w_adr E.2.1 12 0)), (4, .int x4), (7, .int x7)] [] w Q := by
  unfold zb_X13_symbol_p115 at h
  refine kz_ic (M := kt_M550) 1 kX13_symbol_c8.2.2.1 rfl ?_
  refine kz_goto (M := kt_M550) kX13_symbol_c8.2.2.2.1 (t := 120) rfl ?_
  exact kz_weak [(0, .ref (w_adr E.2.1 12 0)), (4, .int x4), (7, .int x7)] ⟨rfl, ⟨rfl, ⟨rfl, trivial⟩⟩⟩ rfl (zt_X13_symbol_p120 hL  h)
def zb_X13_symbol_p0 (E : zE) (L : Nat) (Q : kx_Rs → wS → Prop) (x1 : Int32) (x2 : Int32) (x3 : Int32) (x4 : Int32) (x5 : Int32) (x6 : Int32) (w : wS) : Prop := (kx_inb (w_i w 12 0 44) (w_n w 12 0 45) = true ∧ (kx_inb (w_i w 12 0 44) (w_n w 12 0 46) = true ∧ (kx_inb (w_i w 12 0 44) (w_n w 12 0 47) = true ∧ (kx_inb (w_i w 12 0 44) (w_n w 12 0 48) = true ∧ (kx_inb (w_i w 12 0 44) (w_n w 12 0 49) = true ∧ (kx_inb (w_i w 12 0 44) (w_n w 12 0 50) = true ∧ (kx_inb (w_i w 12 0 44) (w_n w 12 0 51) = true ∧ (kx_inb (w_i w 12 0 62) (w_n w 12 0 61) = true ∧ (kx_inb (w_i w 12 0 44) (w_n w 12 0 52) = true ∧ (if x2 = 1 then zb_X13_symbol_p115 E L Q x4 (w_i w 12 0 44) (ws_a (ws_a (ws_a (ws_a (ws_a (ws_a (ws_a (ws_a (ws_i w 12 0 44 ((w_i w 12 0 44) + 1)) 12 0 45 (w_i w 12 0 44).toNatClampNeg x1) 12 0 46 (w_i w 12 0 44).toNatClampNeg x2) 12 0 47 (w_i w 12 0 44).toNatClampNeg x3) 12 0 48 (w_i w 12 0 44).toNatClampNeg x4) 12 0 49 (w_i w 12 0 44).toNatClampNeg x5) 12 0 50 (w_i w 12 0 44).toNatClampNeg x6) 12 0 51 (w_i w 12 0 44).toNatClampNeg (w_i w 12 0 62)) 12 0 52 (w_i w 12 0 44).toNatClampNeg (w_a w 12 0 61 (w_i w 12 0 62).toNatClampNeg)) else (if x2 = 2 then zb_X13_symbol_p115 E L Q x4 (w_i w 12 0 44) (ws_a (ws_a (ws_a (ws_a (ws_a (ws_a (ws_a (ws_a (ws_i w 12 0 44 ((w_i w 12 0 44) + 1)) 12 0 45 (w_i w 12 0 44).toNatClampNeg x1) 12 0 46 (w_i w 12 0 44).toNatClampNeg x2) 12 0 47 (w_i w 12 0 44).toNatClampNeg x3) 12 0 48 (w_i w 12 0 44).toNatClampNeg x4) 12 0 49 (w_i w 12 0 44).toNatClampNeg x5) 12 0 50 (w_i w 12 0 44).toNatClampNeg x6) 12 0 51 (w_i w 12 0 44).toNatClampNeg (w_i w 12 0 62)) 12 0 52 (w_i w 12 0 44).toNatClampNeg (w_a w 12 0 61 (w_i w 12 0 62).toNatClampNeg)) else (if x2 = 3 then zb_X13_symbol_p115 E L Q x4 (w_i w 12 0 44) (ws_a (ws_a (ws_a (ws_a (ws_a (ws_a (ws_a (ws_a (ws_i w 12 0 44 ((w_i w 12 0 44) + 1)) 12 0 45 (w_i w 12 0 44).toNatClampNeg x1) 12 0 46 (w_i w 12 0 44).toNatClampNeg x2) 12 0 47 (w_i w 12 0 44).toNatClampNeg x3) 12 0 48 (w_i w 12 0 44).toNatClampNeg x4) 12 0 49 (w_i w 12 0 44).toNatClampNeg x5) 12 0 50 (w_i w 12 0 44).toNatClampNeg x6) 12 0 51 (w_i w 12 0 44).toNatClampNeg (w_i w 12 0 62)) 12 0 52 (w_i w 12 0 44).toNatClampNeg (w_a w 12 0 61 (w_i w 12 0 62).toNatClampNeg)) else (if ¬ x2 = 9 then zb_X13_symbol_p120 E L Q x4 (w_i w 12 0 44) 0 (ws_a (ws_a (ws_a (ws_a (ws_a (ws_a (ws_a (ws_a (ws_i w 12 0 44 ((w_i w 12 0 44) + 1)) 12 0 45 (w_i w 12 0 44).toNatClampNeg x1) 12 0 46 (w_i w 12 0 44).toNatClampNeg x2) 12 0 47 (w_i w 12 0 44).toNatClampNeg x3) 12 0 48 (w_i w 12 0 44).toNatClampNeg x4) 12 0 49 (w_i w 12 0 44).toNatClampNeg x5) 12 0 50 (w_i w 12 0 44).toNatClampNeg x6) 12 0 51 (w_i w 12 0 44).toNatClampNeg (w_i w 12 0 62)) 12 0 52 (w_i w 12 0 44).toNatClampNeg (w_a w 12 0 61 (w_i w 12 0 62).toNatClampNeg)) else zb_X13_symbol_p115 E L Q x4 (w_i w 12 0 44) (ws_a (ws_a (ws_a (ws_a (ws_a (ws_a (ws_a (ws_a (ws_i w 12 0 44 ((w_i w 12 0 44) + 1)) 12 0 45 (w_i w 12 0 44).toNatClampNeg x1) 12 0 46 (w_i w 12 0 44).toNatClampNeg x2) 12 0 47 (w_i w 12 0 44).toNatClampNeg x3) 12 0 48 (w_i w 12 0 44).toNatClampNeg x4) 12 0 49 (w_i w 12 0 44).toNatClampNeg x5) 12 0 50 (w_i w 12 0 44).toNatClampNeg x6) 12 0 51 (w_i w 12 0 44).toNatClampNeg (w_i w 12 0 62)) 12 0 52 (w_i w 12 0 44).toNatClampNeg (w_a w 12 0 61 (w_i w 12 0 62).toNatClampNeg)))))))))))))))
theorem zt_X13_symbol_p0 {E : zE} {L : Nat} {Q : kx_Rs → wS → Prop} {x1 : Int32} {x2 : Int32} {x3 : Int32} {x4 : Int32} {x5 : Int32} {x6 : Int32} {w : wS} (hL : 19 ≤ L) (h : zb_X13_symbol_p0 E L Q x1 x2 x3 x4 x5 x6 w) : kzE E L kt_M550 0 [(0, .ref (w_adr E.2.1 12 0)), (1, .int x1), (2, .int x2), (3, .int x3), (4, .int x4), (5, .int x5), (6, .int x6)] [] w Q := by
  unfold zb_X13_symbol_p0 at h
  refine kz_aload_n (M := kt_M550) kX13_symbol_c0.1 rfl ?_
  refine kz_gfi (M := kt_M550) (c := 12) (o := 0) kX13_symbol_c0.2.1 wf_X13_722 (.inl rfl) ?_
  refine kz_sti (M := kt_M550) [(0, .ref (w_adr E.2.1 12 0)), (1, .int x1), (2, .int x2), (3, .int x3), (4, .int x4), (5, .int x5), (6, .int x6)] kX13_symbol_c0.2.2.1 (Nat.le_of_ble_eq_true rfl) ⟨⟨rfl, rfl, .inl rfl⟩, ⟨⟨rfl, rfl, .inl rfl⟩, ⟨⟨rfl, rfl, .inl rfl⟩, ⟨⟨rfl, rfl, .inl rfl⟩, ⟨⟨rfl, rfl, .inl rfl⟩, ⟨⟨rfl, rfl, .inl rfl⟩, ⟨⟨rfl, rfl, .inr rfl⟩, trivial⟩⟩⟩⟩⟩⟩⟩ rfl ?_
  refine kz_aload_n (M := kt_M550) kX13_symbol_c0.2.2.2.1 rfl ?_
  refine kz_dup (M := kt_M550) kX13_symbol_c0.2.2.2.2.1 rfl ?_
  refine kz_gfi (M := kt_M550) (c := 12) (o := 0) kX13_symbol_c0.2.2.2.2.2.1 wf_X13_722 (.inl rfl) ?_
  refine kz_ic (M := kt_M550) 1 kX13_symbol_c0.2.2.2.2.2.2.1 rfl ?_
  refine kz_iadd (M := kt_M550) kX13_symbol_c0.2.2.2.2.2.2.2.1 ?_
  refine kz_pfi (M := kt_M550) (c := 12) (o := 0) kX13_symbol_c1.1 wq_X13_722 (.inl rfl) ?_
  refine kz_aload_n (M := kt_M550) kX13_symbol_c1.2.1 rfl ?_
  refine kz_gfc (M := kt_M550) (x := 4117) (c := 12) (o := 0) kX13_symbol_c1.2.2.1 wf_X13_220 (.inl rfl) ?_
  refine kz_iload (M := kt_M550) kX13_symbol_c1.2.2.2.1 rfl ?_
  refine kz_iload_n (M := kt_M550) kX13_symbol_c1.2.2.2.2.1 rfl ?_
  refine kz_iastR (M := kt_M550) (n := w_n w 12 0 45) (c := 12) (o := 0) (k := 45) (a := (E.2.1 4117)) kX13_symbol_c1.2.2.2.2.2.1 ow_12_0_45 oa_12_0_45 ot_0 rd_n_i h (fun h => ?_)
  refine kz_aload_n (M := kt_M550) kX13_symbol_c1.2.2.2.2.2.2.1 rfl ?_
  refine kz_gfc (M := kt_M550) (x := 4118) (c := 12) (o := 0) kX13_symbol_c1.2.2.2.2.2.2.2.1 wf_X13_223 (.inl rfl) ?_
  refine kz_iload (M := kt_M550) kX13_symbol_c2.1 rfl ?_
  refine kz_iload_n (M := kt_M550) kX13_symbol_c2.2.1 rfl ?_
  refine kz_iastR (M := kt_M550) (n := w_n w 12 0 46) (c := 12) (o := 0) (k := 46) (a := (E.2.1 4118)) kX13_symbol_c2.2.2.1 ow_12_0_46 oa_12_0_46 ot_0 (rd_n_a.trans rd_n_i) h (fun h => ?_)
  refine kz_aload_n (M := kt_M550) kX13_symbol_c2.2.2.2.1 rfl ?_
  refine kz_gfc (M := kt_M550) (x := 4119) (c := 12) (o := 0) kX13_symbol_c2.2.2.2.2.1 wf_X13_226 (.inl rfl) ?_
  refine kz_iload (M := kt_M550) kX13_symbol_c2.2.2.2.2.2.1 rfl ?_
  refine kz_iload_n (M := kt_M550) kX13_symbol_c2.2.2.2.2.2.2.1 rfl ?_
  refine kz_iastR (M := kt_M550) (n := w_n w 12 0 47) (c := 12) (o := 0) (k := 47) (a := (E.2.1 4119)) kX13_symbol_c2.2.2.2.2.2.2.2.1 ow_12_0_47 oa_12_0_47 ot_0 (rd_n_a.trans (rd_n_a.trans rd_n_i)) h (fun h => ?_)
  refine kz_aload_n (M := kt_M550) kX13_symbol_c3.1 rfl ?_
  refine kz_gfc (M := kt_M550) (x := 4120) (c := 12) (o := 0) kX13_symbol_c3.2.1 wf_X13_229 (.inl rfl) ?_
  refine kz_iload (M := kt_M550) kX13_symbol_c3.2.2.1 rfl ?_
  refine kz_iload (M := kt_M550) kX13_symbol_c3.2.2.2.1 rfl ?_
  refine kz_iastR (M := kt_M550) (n := w_n w 12 0 48) (c := 12) (o := 0) (k := 48) (a := (E.2.1 4120)) kX13_symbol_c3.2.2.2.2.1 ow_12_0_48 oa_12_0_48 ot_0 (rd_n_a.trans (rd_n_a.trans (rd_n_a.trans rd_n_i))) h (fun h => ?_)
  refine kz_aload_n (M := kt_M550) kX13_symbol_c3.2.2.2.2.2.1 rfl ?_
  refine kz_gfc (M := kt_M550) (x := 4121) (c := 12) (o := 0) kX13_symbol_c3.2.2.2.2.2.2.1 wf_X13_232 (.inl rfl) ?_
  refine kz_iload (M := kt_M550) kX13_symbol_c3.2.2.2.2.2.2.2.1 rfl ?_
  refine kz_iload (M := kt_M550) kX13_symbol_c4.1 rfl ?_
  refine kz_iastR (M := kt_M550) (n := w_n w 12 0 49) (c := 12) (o := 0) (k := 49) (a := (E.2.1 4121)) kX13_symbol_c4.2.1 ow_12_0_49 oa_12_0_49 ot_0 (rd_n_a.trans (rd_n_a.trans (rd_n_a.trans (rd_n_a.trans rd_n_i)))) h (fun h => ?_)
  refine kz_aload_n (M := kt_M550) kX13_symbol_c4.2.2.1 rfl ?_
  refine kz_gfc (M := kt_M550) (x := 4122) (c := 12) (o := 0) kX13_symbol_c4.2.2.2.1 wf_X13_235 (.inl rfl) ?_
  refine kz_iload (M := kt_M550) kX13_symbol_c4.2.2.2.2.1 rfl ?_
  refine kz_iload (M := kt_M550) kX13_symbol_c4.2.2.2.2.2.1 rfl ?_
  refine kz_iastR (M := kt_M550) (n := w_n w 12 0 50) (c := 12) (o := 0) (k := 50) (a := (E.2.1 4122)) kX13_symbol_c4.2.2.2.2.2.2.1 ow_12_0_50 oa_12_0_50 ot_0 (rd_n_a.trans (rd_n_a.trans (rd_n_a.trans (rd_n_a.trans (rd_n_a.trans rd_n_i))))) h (fun h => ?_)
  refine kz_aload_n (M := kt_M550) kX13_symbol_c4.2.2.2.2.2.2.2.1 rfl ?_
  refine kz_gfc (M := kt_M550) (x := 4123) (c := 12) (o := 0) kX13_symbol_c5.1 wf_X13_238 (.inl rfl) ?_
  refine kz_iload (M := kt_M550) kX13_symbol_c5.2.1 rfl ?_
  refine kz_aload_n (M := kt_M550) kX13_symbol_c5.2.2.1 rfl ?_
  refine kz_gfiR (M := kt_M550) (c := 12) (o := 0) (w_i w 12 0 62) kX13_symbol_c5.2.2.2.1 wf_X13_725 (.inl rfl) (rd_i_a.trans (rd_i_a.trans (rd_i_a.trans (rd_i_a.trans (rd_i_a.trans (rd_i_a.trans (rd_i_i rfl))))))) ?_
  refine kz_iastR (M := kt_M550) (n := w_n w 12 0 51) (c := 12) (o := 0) (k := 51) (a := (E.2.1 4123)) kX13_symbol_c5.2.2.2.2.1 ow_12_0_51 oa_12_0_51 ot_0 (rd_n_a.trans (rd_n_a.trans (rd_n_a.trans (rd_n_a.trans (rd_n_a.trans (rd_n_a.trans rd_n_i)))))) h (fun h => ?_)
  refine kz_aload_n (M := kt_M550) kX13_symbol_c5.2.2.2.2.2.1 rfl ?_
  refine kz_gfc (M := kt_M550) (x := 4124) (c := 12) (o := 0) kX13_symbol_c5.2.2.2.2.2.2.1 wf_X13_241 (.inl rfl) ?_
  refine kz_iload (M := kt_M550) kX13_symbol_c5.2.2.2.2.2.2.2.1 rfl ?_
  refine kz_aload_n (M := kt_M550) kX13_symbol_c6.1 rfl ?_
  refine kz_gfc (M := kt_M550) (x := 4133) (c := 12) (o := 0) kX13_symbol_c6.2.1 wf_X13_260 (.inl rfl) ?_
  refine kz_aload_n (M := kt_M550) kX13_symbol_c6.2.2.1 rfl ?_
  refine kz_gfiR (M := kt_M550) (c := 12) (o := 0) (w_i w 12 0 62) kX13_symbol_c6.2.2.2.1 wf_X13_725 (.inl rfl) (rd_i_a.trans (rd_i_a.trans (rd_i_a.trans (rd_i_a.trans (rd_i_a.trans (rd_i_a.trans (rd_i_a.trans (rd_i_i rfl)))))))) ?_
  refine kz_ialdR (M := kt_M550) (n := w_n w 12 0 61) (c := 12) (o := 0) (k := 61) (a := (E.2.1 4133)) (w_a w 12 0 61 (w_i w 12 0 62).toNatClampNeg) kX13_symbol_c6.2.2.2.2.1 ow_12_0_61 oa_12_0_61 ot_0 (rd_n_a.trans (rd_n_a.trans (rd_n_a.trans (rd_n_a.trans (rd_n_a.trans (rd_n_a.trans (rd_n_a.trans rd_n_i))))))) ((rd_a_a rfl).trans ((rd_a_a rfl).trans ((rd_a_a rfl).trans ((rd_a_a rfl).trans ((rd_a_a rfl).trans ((rd_a_a rfl).trans ((rd_a_a rfl).trans rd_a_i))))))) h (fun h => ?_)
  refine kz_iastR (M := kt_M550) (n := w_n w 12 0 52) (c := 12) (o := 0) (k := 52) (a := (E.2.1 4124)) kX13_symbol_c6.2.2.2.2.2.1 ow_12_0_52 oa_12_0_52 ot_0 (rd_n_a.trans (rd_n_a.trans (rd_n_a.trans (rd_n_a.trans (rd_n_a.trans (rd_n_a.trans (rd_n_a.trans rd_n_i))))))) h (fun h => ?_)
  refine kz_iload_n (M := kt_M550) kX13_symbol_c6.2.2.2.2.2.2.1 rfl ?_
  refine kz_ic (M := kt_M550) 1 kX13_symbol_c6.2.2.2.2.2.2.2.1 rfl ?_
  refine kz_icmp_eq (M := kt_M550) kX13_symbol_c7.1 (t := 115) rfl h (fun h => ?_) (fun h => ?_)
  · skip
    exact kz_weak [(0, .ref (w_adr E.2.1 12 0)), (4, .int x4), (7, .int (w_i w 12 0 44))] ⟨rfl, ⟨rfl, ⟨rfl, trivial⟩⟩⟩ rfl (zt_X13_symbol_p115 hL  h)
  · skip
    refine kz_iload_n (M := kt_M550) kX13_symbol_c7.2.1 rfl ?_
    refine kz_ic (M := kt_M550) 2 kX13_symbol_c7.2.2.1 rfl ?_
    refine kz_icmp_eq (M := kt_M550) kX13_symbol_c7.2.2.2.1 (t := 115) rfl h (fun h => ?_) (fun h => ?_)
    · skip
      exact kz_weak [(0, .ref (w_adr E.2.1 12 0)), (4, .int x4), (7, .int (w_i w 12 0 44))] ⟨rfl, ⟨rfl, ⟨rfl, trivial⟩⟩⟩ rfl (zt_X13_symbol_p115 hL  h)
    · skip
      refine kz_iload_n (M := kt_M550) kX13_symbol_c7.2.2.2.2.1 rfl ?_
      refine kz_ic (M := kt_M550) 3 kX13_symbol_c7.2.2.2.2.2.1 rfl ?_
      refine kz_icmp_eq (M := kt_M550) kX13_symbol_c7.2.2.2.2.2.2.1 (t := 115) rfl h (fun h => ?_) (fun h => ?_)
      · skip
        exact kz_weak [(0, .ref (w_adr E.2.1 12 0)), (4, .int x4), (7, .int (w_i w 12 0 44))] ⟨rfl, ⟨rfl, ⟨rfl, trivial⟩⟩⟩ rfl (zt_X13_symbol_p115 hL  h)
      · skip
        refine kz_iload_n (M := kt_M550) kX13_symbol_c7.2.2.2.2.2.2.2.1 rfl ?_
        refine kz_bi (M := kt_M550) 9 kX13_symbol_c8.1 rfl ?_
        refine kz_icmp_ne (M := kt_M550) kX13_symbol_c8.2.1 (t := 119) rfl h (fun h => ?_) (fun h => ?_)
        · skip
          refine kz_ic (M := kt_M550) 0 kX13_symbol_c8.2.2.2.2.1 rfl ?_
          exact kz_weak [(0, .ref (w_adr E.2.1 12 0)), (4, .int x4), (7, .int (w_i w 12 0 44))] ⟨rfl, ⟨rfl, ⟨rfl, trivial⟩⟩⟩ rfl (zt_X13_symbol_p120 hL  h)
        · skip
          exact kz_weak [(0, .ref (w_adr E.2.1 12 0)), (4, .int x4), (7, .int (w_i w 12 0 44))] ⟨rfl, ⟨rfl, ⟨rfl, trivial⟩⟩⟩ rfl (zt_X13_symbol_p115 hL  h)
def zb_X13_know_p0 (E : zE) (L : Nat) (Q : kx_Rs → wS → Prop) (x1 : Int32) (w : wS) : Prop := (kx_inb (w_i w 12 0 56) (w_n w 12 0 57) = true ∧ Q (.inl none) (ws_i (ws_a w 12 0 57 (w_i w 12 0 56).toNatClampNeg x1) 12 0 56 ((w_i w 12 0 56) + 1)))
theorem zt_X13_know_p0 {E : zE} {L : Nat} {Q : kx_Rs → wS → Prop} {x1 : Int32} {w : wS} (hL : 19 ≤ L) (h : zb_X13_know_p0 E L Q x1 w) : kzE E L kt_M455 0 [(0, .ref (w_adr E.2.1 12 0)), (1, .int x1)] [] w Q := by
  unfold zb_X13_know_p0 at h
  refine kz_aload_n (M := kt_M455) kX13_know_c0.1 rfl ?_
  refine kz_gfc (M := kt_M455) (x := 4129) (c := 12) (o := 0) kX13_know_c0.2.1 wf_X13_254 (.inl rfl) ?_
  refine kz_aload_n (M := kt_M455) kX13_know_c0.2.2.1 rfl ?_
  refine kz_gfi (M := kt_M455) (c := 12) (o := 0) kX13_know_c0.2.2.2.1 wf_X13_728 (.inl rfl) ?_
  refine kz_iload_n (M := kt_M455) kX13_know_c0.2.2.2.2.1 rfl ?_
  refine kz_iast (M := kt_M455) (c := 12) (o := 0) (k := 57) (a := (E.2.1 4129)) kX13_know_c0.2.2.2.2.2.1 ow_12_0_57 oa_12_0_57 ot_0 h (fun h => ?_)
  refine kz_aload_n (M := kt_M455) kX13_know_c0.2.2.2.2.2.2.1 rfl ?_
  refine kz_dup (M := kt_M455) kX13_know_c0.2.2.2.2.2.2.2.1 rfl ?_
  refine kz_gfiR (M := kt_M455) (c := 12) (o := 0) (w_i w 12 0 56) kX13_know_c1.1 wf_X13_728 (.inl rfl) rd_i_a ?_
  refine kz_ic (M := kt_M455) 1 kX13_know_c1.2.1 rfl ?_
  refine kz_iadd (M := kt_M455) kX13_know_c1.2.2.1 ?_
  refine kz_pfi (M := kt_M455) (c := 12) (o := 0) kX13_know_c1.2.2.2.1 wq_X13_728 (.inl rfl) ?_
  exact kz_ret (M := kt_M455) kX13_know_c1.2.2.2.2.1 rfl h
def zb_X13_nameBlock_p0 (E : zE) (L : Nat) (Q : kx_Rs → wS → Prop) (x1 : Int32) (w : wS) : Prop := (kx_inb x1 (w_n w 12 0 28) = true ∧ zw E (L - 22) kt_M475 [.ref (w_adr E.2.1 12 0), .int (w_a w 12 0 28 (x1).toNatClampNeg)] w (wk0 (fun w1 => wle w w1 → (kx_inb x1 (w_n w1 12 0 29) = true ∧ zw E (L - 24) kt_M471 [.ref (w_adr E.2.1 12 0), .int (w_a w1 12 0 29 (x1).toNatClampNeg)] w1 (wk0 (fun w3 => wle w1 w3 → Q (.inl none) (ws_i w3 12 0 56 (w_i w 12 0 56))) (fun e w => Q (.inr e) w)))) (fun e w => Q (.inr e) w)))
theorem zt_X13_nameBlock_p0 {E : zE} {L : Nat} {Q : kx_Rs → wS → Prop} {x1 : Int32} {w : wS} (hL : 24 ≤ L) (h : zb_X13_nameBlock_p0 E L Q x1 w) : kzE E L kt_M473 0 [(0, .ref (w_adr E.2.1 12 0)), (1, .int x1)] [] w Q := by
  unfold zb_X13_nameBlock_p0 at h
  refine kz_aload_n (M := kt_M473) kX13_nameBlock_c0.1 rfl ?_
  refine kz_gfi (M := kt_M473) (c := 12) (o := 0) kX13_nameBlock_c0.2.1 wf_X13_728 (.inl rfl) ?_
  refine kz_sti_n (M := kt_M473) [(0, .ref (w_adr E.2.1 12 0)), (1, .int x1)] kX13_nameBlock_c0.2.2.1 (Nat.le_of_ble_eq_true rfl) ⟨⟨rfl, rfl, .inl rfl⟩, ⟨⟨rfl, rfl, .inr rfl⟩, trivial⟩⟩ rfl ?_
  refine kz_aload_n (M := kt_M473) kX13_nameBlock_c0.2.2.2.1 rfl ?_
  refine kz_aload_n (M := kt_M473) kX13_nameBlock_c0.2.2.2.2.1 rfl ?_
  refine kz_gfc (M := kt_M473) (x := 4100) (c := 12) (o := 0) kX13_nameBlock_c0.2.2.2.2.2.1 wf_X13_193 (.inl rfl) ?_
  refine kz_iload_n (M := kt_M473) kX13_nameBlock_c0.2.2.2.2.2.2.1 rfl ?_
  refine kz_iald (M := kt_M473) (c := 12) (o := 0) (k := 28) (a := (E.2.1 4100)) kX13_nameBlock_c0.2.2.2.2.2.2.2.1 ow_12_0_28 oa_12_0_28 ot_0 h (fun h => ?_)
  refine kz_cv0 (M := kt_M473) (c := 12) (o := 0) (As := [.int (w_a w 12 0 28 (x1).toNatClampNeg)]) (rest := []) kX13_nameBlock_c1.1 wl_X13_750 wMv_475 rfl (.inl rfl) rfl (Nat.le_trans (Nat.le_of_ble_eq_true rfl) hL) (Nat.le_of_ble_eq_true rfl) (Nat.le_of_ble_eq_true rfl) h (fun w1 hle h => ?_) (fun _ _ _ h => kzx_no rfl h)
  have h := h hle
  refine kz_aload_n (M := kt_M473) kX13_nameBlock_c1.2.1 rfl ?_
  refine kz_aload_n (M := kt_M473) kX13_nameBlock_c1.2.2.1 rfl ?_
  refine kz_gfc (M := kt_M473) (x := 4101) (c := 12) (o := 0) kX13_nameBlock_c1.2.2.2.1 wf_X13_196 (.inl rfl) ?_
  refine kz_iload_n (M := kt_M473) kX13_nameBlock_c1.2.2.2.2.1 rfl ?_
  refine kz_iald (M := kt_M473) (c := 12) (o := 0) (k := 29) (a := (E.2.1 4101)) kX13_nameBlock_c1.2.2.2.2.2.1 ow_12_0_29 oa_12_0_29 ot_0 h (fun h => ?_)
  refine kz_cv0 (M := kt_M473) (c := 12) (o := 0) (As := [.int (w_a w1 12 0 29 (x1).toNatClampNeg)]) (rest := []) kX13_nameBlock_c1.2.2.2.2.2.2.1 wl_X13_753 wMv_471 rfl (.inl rfl) rfl (Nat.le_trans (Nat.le_of_ble_eq_true rfl) hL) (Nat.le_of_ble_eq_true rfl) (Nat.le_of_ble_eq_true rfl) h (fun w3 hle h => ?_) (fun _ _ _ h => kzx_no rfl h)
  have h := h hle
  refine kz_aload_n (M := kt_M473) kX13_nameBlock_c1.2.2.2.2.2.2.2.1 rfl ?_
  refine kz_iload_n (M := kt_M473) kX13_nameBlock_c2.1 rfl ?_
  refine kz_pfi (M := kt_M473) (c := 12) (o := 0) kX13_nameBlock_c2.2.1 wq_X13_728 (.inl rfl) ?_
  exact kz_ret (M := kt_M473) kX13_nameBlock_c2.2.2.1 rfl h
def zL_X13_nameDeclarations_p2 (E : zE) (L : Nat) (Q : kx_Rs → wS → Prop) (x2 : Int32) (w : wS) : Prop := kzE E L kt_M475 2 [(0, .ref (w_adr E.2.1 12 0)), (2, .int x2)] [] w Q
def zb_X13_nameDeclarations_p2 (E : zE) (L : Nat) (Q : kx_Rs → wS → Prop) (x2 : Int32) (w : wS) : Prop := (if x2 < 0 then Q (.inl none) w else zw E (L - 26) kt_M474 [.ref (w_adr E.2.1 12 0), .int x2] w (wk0 (fun w1 => wle w w1 → (kx_inb x2 (w_n w1 12 0 32) = true ∧ zL_X13_nameDeclarations_p2 E L Q (w_a w1 12 0 32 (x2).toNatClampNeg) w1)) (fun e w => Q (.inr e) w)))
theorem zt_X13_nameDeclarations_p2 {E : zE} {L : Nat} {Q : kx_Rs → wS → Prop} {x2 : Int32} {w : wS} (hL : 26 ≤ L) (h : zb_X13_nameDeclarations_p2 E L Q x2 w) : kzE E L kt_M475 2 [(0, .ref (w_adr E.2.1 12 0)), (2, .int x2)] [] w Q := by
  unfold zb_X13_nameDeclarations_p2 at h
  refine kz_iload_n (M := kt_M475) kX13_nameDeclarations_c0.2.2.1 rfl ?_
  refine kz_if_lt (M := kt_M475) kX13_nameDeclarations_c0.2.2.2.1 (t := 21) rfl h (fun h => ?_) (fun h => ?_)
  · skip
    exact kz_ret (M := kt_M475) kX13_nameDeclarations_c1.2.2.2.2.2.1 rfl h
  · skip
    refine kz_aload_n (M := kt_M475) kX13_nameDeclarations_c0.2.2.2.2.1 rfl ?_
    refine kz_iload_n (M := kt_M475) kX13_nameDeclarations_c0.2.2.2.2.2.1 rfl ?_
    refine kz_cv0 (M := kt_M475) (c := 12) (o := 0) (As := [.int x2]) (rest := []) kX13_nameDeclarations_c0.2.2.2.2.2.2.1 wl_X13_756 wMv_474 rfl (.inl rfl) rfl (Nat.le_trans (Nat.le_of_ble_eq_true rfl) hL) (Nat.le_of_ble_eq_true rfl) (Nat.le_of_ble_eq_true rfl) h (fun w1 hle h => ?_) (fun _ _ _ h => kzx_no rfl h)
    have h := h hle
    refine kz_aload_n (M := kt_M475) kX13_nameDeclarations_c0.2.2.2.2.2.2.2.1 rfl ?_
    refine kz_gfc (M := kt_M475) (x := 4104) (c := 12) (o := 0) kX13_nameDeclarations_c1.1 wf_X13_205 (.inl rfl) ?_
    refine kz_iload_n (M := kt_M475) kX13_nameDeclarations_c1.2.1 rfl ?_
    refine kz_iald (M := kt_M475) (c := 12) (o := 0) (k := 32) (a := (E.2.1 4104)) kX13_nameDeclarations_c1.2.2.1 ow_12_0_32 oa_12_0_32 ot_0 h (fun h => ?_)
    refine kz_sti_n (M := kt_M475) [(0, .ref (w_adr E.2.1 12 0))] kX13_nameDeclarations_c1.2.2.2.1 (Nat.le_of_ble_eq_true rfl) ⟨⟨rfl, rfl, .inl rfl⟩, trivial⟩ rfl ?_
    refine kz_goto (M := kt_M475) kX13_nameDeclarations_c1.2.2.2.2.1 (t := 2) rfl ?_
    exact kz_weak [(0, .ref (w_adr E.2.1 12 0)), (2, .int (w_a w1 12 0 32 (x2).toNatClampNeg))] ⟨rfl, ⟨rfl, trivial⟩⟩ rfl h
def zb_X13_nameDeclarations_p0 (E : zE) (L : Nat) (Q : kx_Rs → wS → Prop) (x1 : Int32) (w : wS) : Prop := zL_X13_nameDeclarations_p2 E L Q x1 w
theorem zt_X13_nameDeclarations_p0 {E : zE} {L : Nat} {Q : kx_Rs → wS → Prop} {x1 : Int32} {w : wS} (hL : 26 ≤ L) (h : zb_X13_nameDeclarations_p0 E L Q x1 w) : kzE E L kt_M475 0 [(0, .ref (w_adr E.2.1 12 0)), (1, .int x1)] [] w Q := by
  unfold zb_X13_nameDeclarations_p0 at h
  refine kz_iload_n (M := kt_M475) kX13_nameDeclarations_c0.1 rfl ?_
  refine kz_sti_n (M := kt_M475) [(0, .ref (w_adr E.2.1 12 0))] kX13_nameDeclarations_c0.2.1 (Nat.le_of_ble_eq_true rfl) ⟨⟨rfl, rfl, .inl rfl⟩, trivial⟩ rfl ?_
  exact kz_weak [(0, .ref (w_adr E.2.1 12 0)), (2, .int x1)] ⟨rfl, ⟨rfl, trivial⟩⟩ rfl h
def zL_X13_nameDeclaration_p267 (E : zE) (L : Nat) (Q : kx_Rs → wS → Prop) (x5 : Int32) (w : wS) : Prop := kzE E L kt_M474 267 [(0, .ref (w_adr E.2.1 12 0)), (5, .int x5)] [] w Q
def zL_X13_nameDeclaration_p126 (E : zE) (L : Nat) (Q : kx_Rs → wS → Prop) (x1 : Int32) (x2 : Int32) (x3 : Int32) (x4 : Int32) (x5 : Int32) (x6 : Int32) (w : wS) : Prop := kzE E L kt_M474 126 [(0, .ref (w_adr E.2.1 12 0)), (1, .int x1), (2, .int x2), (3, .int x3), (4, .int x4), (5, .int x5), (6, .int x6)] [] w Q
def zL_X13_nameDeclaration_p117 (E : zE) (L : Nat) (Q : kx_Rs → wS → Prop) (x1 : Int32) (x2 : Int32) (x3 : Int32) (x4 : Int32) (x5 : Int32) (w : wS) : Prop := kzE E L kt_M474 117 [(0, .ref (w_adr E.2.1 12 0)), (1, .int x1), (2, .int x2), (3, .int x3), (4, .int x4), (5, .int x5)] [] w Q
def zb_X13_nameDeclaration_p560 (E : zE) (L : Nat) (Q : kx_Rs → wS → Prop) (x1 : Int32) (w : wS) : Prop := (kx_inb x1 (w_n w 12 0 31) = true ∧ zw E (L - 21) kt_M455 [.ref (w_adr E.2.1 12 0), .int (w_a w 12 0 31 (x1).toNatClampNeg)] (ws_i w 12 0 58 ((w_i w 12 0 58) + 1)) (wk0 (fun w1 => wle (ws_i w 12 0 58 ((w_i w 12 0 58) + 1)) w1 → Q (.inl none) w1) (fun e w => Q (.inr e) w)))
theorem zt_X13_nameDeclaration_p560 {E : zE} {L : Nat} {Q : kx_Rs → wS → Prop} {x1 : Int32} {w : wS} (hL : 28 ≤ L) (h : zb_X13_nameDeclaration_p560 E L Q x1 w) : kzE E L kt_M474 560 [(0, .ref (w_adr E.2.1 12 0)), (1, .int x1)] [] w Q := by
  unfold zb_X13_nameDeclaration_p560 at h
  refine kz_aload_n (M := kt_M474) kX13_nameDeclaration_c38.2.2.2.2.2.1 rfl ?_
  refine kz_dup (M := kt_M474) kX13_nameDeclaration_c38.2.2.2.2.2.2.1 rfl ?_
  refine kz_gfi (M := kt_M474) (c := 12) (o := 0) kX13_nameDeclaration_c38.2.2.2.2.2.2.2.1 wf_X13_793 (.inl rfl) ?_
  refine kz_ic (M := kt_M474) 1 kX13_nameDeclaration_c39.1 rfl ?_
  refine kz_iadd (M := kt_M474) kX13_nameDeclaration_c39.2.1 ?_
  refine kz_pfi (M := kt_M474) (c := 12) (o := 0) kX13_nameDeclaration_c39.2.2.1 wq_X13_793 (.inl rfl) ?_
  refine kz_aload_n (M := kt_M474) kX13_nameDeclaration_c39.2.2.2.1 rfl ?_
  refine kz_aload_n (M := kt_M474) kX13_nameDeclaration_c39.2.2.2.2.1 rfl ?_
  refine kz_gfc (M := kt_M474) (x := 4103) (c := 12) (o := 0) kX13_nameDeclaration_c39.2.2.2.2.2.1 wf_X13_202 (.inl rfl) ?_
  refine kz_iload_n (M := kt_M474) kX13_nameDeclaration_c39.2.2.2.2.2.2.1 rfl ?_
  refine kz_ialdR (M := kt_M474) (n := w_n w 12 0 31) (c := 12) (o := 0) (k := 31) (a := (E.2.1 4103)) (w_a w 12 0 31 (x1).toNatClampNeg) kX13_nameDeclaration_c39.2.2.2.2.2.2.2.1 ow_12_0_31 oa_12_0_31 ot_0 rd_n_i rd_a_i h (fun h => ?_)
  refine kz_cv0 (M := kt_M474) (c := 12) (o := 0) (As := [.int (w_a w 12 0 31 (x1).toNatClampNeg)]) (rest := []) kX13_nameDeclaration_c40.1 wl_X13_763 wMv_455 rfl (.inl rfl) rfl (Nat.le_trans (Nat.le_of_ble_eq_true rfl) hL) (Nat.le_of_ble_eq_true rfl) (Nat.le_of_ble_eq_true rfl) h (fun w1 hle h => ?_) (fun _ _ _ h => kzx_no rfl h)
  have h := h hle
  exact kz_ret (M := kt_M474) kX13_nameDeclaration_c40.2.1 rfl h
def zb_X13_nameDeclaration_p458 (E : zE) (L : Nat) (Q : kx_Rs → wS → Prop) (x1 : Int32) (x2 : Int32) (y0 : Int32) (y1 : Int32) (y2 : Int32) (y3 : Int32) (y5 : Int32) (w : wS) : Prop := zw E (L - 28) kt_M550 [.ref (w_adr E.2.1 12 0), .int y3, .int y2, .int y1, .int y0, .int x1, .int x2] w (wk1 (fun v2 w1 => wle w w1 → (kx_inb y5 (w_n w1 12 0 31) = true ∧ (kx_inb x1 (w_n w1 12 0 31) = true ∧ (kx_inb x1 (w_n w1 12 0 28) = true ∧ (kx_inb (w_a (ws_a w1 12 0 31 (y5).toNatClampNeg v2) 12 0 31 (x1).toNatClampNeg) (w_n w1 12 0 54) = true ∧ zb_X13_nameDeclaration_p560 E L Q x1 (ws_a (ws_a w1 12 0 31 (y5).toNatClampNeg v2) 12 0 54 (w_a (ws_a w1 12 0 31 (y5).toNatClampNeg v2) 12 0 31 (x1).toNatClampNeg).toNatClampNeg (w_a w1 12 0 28 (x1).toNatClampNeg))))))) (fun e w => Q (.inr e) w))
theorem zt_X13_nameDeclaration_p458 {E : zE} {L : Nat} {Q : kx_Rs → wS → Prop} {x1 : Int32} {x2 : Int32} {y0 : Int32} {y1 : Int32} {y2 : Int32} {y3 : Int32} {y5 : Int32} {w : wS} (hL : 28 ≤ L) (h : zb_X13_nameDeclaration_p458 E L Q x1 x2 y0 y1 y2 y3 y5 w) : kzE E L kt_M474 458 [(0, .ref (w_adr E.2.1 12 0)), (1, .int x1), (2, .int x2)] [.int y0, .int y1, .int y2, .int y3, .ref (w_adr E.2.1 12 0), .int y5, .ref (E.2.1 4103)] w Q := by
  unfold zb_X13_nameDeclaration_p458 at h
  refine kz_iload_n (M := kt_M474) kX13_nameDeclaration_c30.2.2.2.1 rfl ?_
  refine kz_iload_n (M := kt_M474) kX13_nameDeclaration_c30.2.2.2.2.1 rfl ?_
  refine kz_cv1 (M := kt_M474) (c := 12) (o := 0) (As := [.int y3, .int y2, .int y1, .int y0, .int x1, .int x2]) (rest := [.int y5, .ref (E.2.1 4103)]) kX13_nameDeclaration_c30.2.2.2.2.2.1 wl_X13_759 wMv_550 rfl (.inl rfl) rfl (Nat.le_trans (Nat.le_of_ble_eq_true rfl) hL) (Nat.le_of_ble_eq_true rfl) (Nat.le_of_ble_eq_true rfl) h (fun v2 w1 hle h => ?_) (fun _ _ _ h => kzx_no rfl h)
  have h := h hle
  refine kz_iast (M := kt_M474) (c := 12) (o := 0) (k := 31) (a := (E.2.1 4103)) kX13_nameDeclaration_c30.2.2.2.2.2.2.1 ow_12_0_31 oa_12_0_31 ot_0 h (fun h => ?_)
  refine kz_aload_n (M := kt_M474) kX13_nameDeclaration_c30.2.2.2.2.2.2.2.1 rfl ?_
  refine kz_gfc (M := kt_M474) (x := 4126) (c := 12) (o := 0) kX13_nameDeclaration_c31.1 wf_X13_248 (.inl rfl) ?_
  refine kz_aload_n (M := kt_M474) kX13_nameDeclaration_c31.2.1 rfl ?_
  refine kz_gfc (M := kt_M474) (x := 4103) (c := 12) (o := 0) kX13_nameDeclaration_c31.2.2.1 wf_X13_202 (.inl rfl) ?_
  refine kz_iload_n (M := kt_M474) kX13_nameDeclaration_c31.2.2.2.1 rfl ?_
  refine kz_ialdR (M := kt_M474) (n := w_n w1 12 0 31) (c := 12) (o := 0) (k := 31) (a := (E.2.1 4103)) (w_a (ws_a w1 12 0 31 (y5).toNatClampNeg v2) 12 0 31 (x1).toNatClampNeg) kX13_nameDeclaration_c31.2.2.2.2.1 ow_12_0_31 oa_12_0_31 ot_0 rd_n_a rfl h (fun h => ?_)
  refine kz_aload_n (M := kt_M474) kX13_nameDeclaration_c31.2.2.2.2.2.1 rfl ?_
  refine kz_gfc (M := kt_M474) (x := 4100) (c := 12) (o := 0) kX13_nameDeclaration_c31.2.2.2.2.2.2.1 wf_X13_193 (.inl rfl) ?_
  refine kz_iload_n (M := kt_M474) kX13_nameDeclaration_c31.2.2.2.2.2.2.2.1 rfl ?_
  refine kz_ialdR (M := kt_M474) (n := w_n w1 12 0 28) (c := 12) (o := 0) (k := 28) (a := (E.2.1 4100)) (w_a w1 12 0 28 (x1).toNatClampNeg) kX13_nameDeclaration_c32.1 ow_12_0_28 oa_12_0_28 ot_0 rd_n_a (rd_a_a rfl) h (fun h => ?_)
  refine kz_iastR (M := kt_M474) (n := w_n w1 12 0 54) (c := 12) (o := 0) (k := 54) (a := (E.2.1 4126)) kX13_nameDeclaration_c32.2.1 ow_12_0_54 oa_12_0_54 ot_0 rd_n_a h (fun h => ?_)
  refine kz_goto (M := kt_M474) kX13_nameDeclaration_c32.2.2.1 (t := 560) rfl ?_
  exact kz_weak [(0, .ref (w_adr E.2.1 12 0)), (1, .int x1)] ⟨rfl, ⟨rfl, trivial⟩⟩ rfl (zt_X13_nameDeclaration_p560 hL  h)
def zb_X13_nameDeclaration_p439 (E : zE) (L : Nat) (Q : kx_Rs → wS → Prop) (x1 : Int32) (x2 : Int32) (x4 : Int32) (y0 : Int32) (y1 : Int32) (y3 : Int32) (w : wS) : Prop := (kx_inb x1 (w_n w 12 0 34) = true ∧ (if ((w_a w 12 0 34 (x1).toNatClampNeg) &&& 1) = 0 then zb_X13_nameDeclaration_p458 E L Q x1 x2 (-1) x4 y0 y1 y3 w else zb_X13_nameDeclaration_p458 E L Q x1 x2 (-2) x4 y0 y1 y3 w))
theorem zt_X13_nameDeclaration_p439 {E : zE} {L : Nat} {Q : kx_Rs → wS → Prop} {x1 : Int32} {x2 : Int32} {x4 : Int32} {y0 : Int32} {y1 : Int32} {y3 : Int32} {w : wS} (hL : 28 ≤ L) (h : zb_X13_nameDeclaration_p439 E L Q x1 x2 x4 y0 y1 y3 w) : kzE E L kt_M474 439 [(0, .ref (w_adr E.2.1 12 0)), (1, .int x1), (2, .int x2), (4, .int x4)] [.int y0, .int y1, .ref (w_adr E.2.1 12 0), .int y3, .ref (E.2.1 4103)] w Q := by
  unfold zb_X13_nameDeclaration_p439 at h
  refine kz_iload (M := kt_M474) kX13_nameDeclaration_c29.1 rfl ?_
  refine kz_aload_n (M := kt_M474) kX13_nameDeclaration_c29.2.1 rfl ?_
  refine kz_gfc (M := kt_M474) (x := 4106) (c := 12) (o := 0) kX13_nameDeclaration_c29.2.2.1 wf_X13_211 (.inl rfl) ?_
  refine kz_iload_n (M := kt_M474) kX13_nameDeclaration_c29.2.2.2.1 rfl ?_
  refine kz_iald (M := kt_M474) (c := 12) (o := 0) (k := 34) (a := (E.2.1 4106)) kX13_nameDeclaration_c29.2.2.2.2.1 ow_12_0_34 oa_12_0_34 ot_0 h (fun h => ?_)
  refine kz_ic (M := kt_M474) 1 kX13_nameDeclaration_c29.2.2.2.2.2.1 rfl ?_
  refine kz_iand (M := kt_M474) kX13_nameDeclaration_c29.2.2.2.2.2.2.1 ?_
  refine kz_if_eq (M := kt_M474) kX13_nameDeclaration_c29.2.2.2.2.2.2.2.1 (t := 457) rfl h (fun h => ?_) (fun h => ?_)
  · skip
    refine kz_ic (M := kt_M474) (-1) kX13_nameDeclaration_c30.2.2.1 rfl ?_
    exact kz_weak [(0, .ref (w_adr E.2.1 12 0)), (1, .int x1), (2, .int x2)] ⟨rfl, ⟨rfl, ⟨rfl, trivial⟩⟩⟩ rfl (zt_X13_nameDeclaration_p458 hL  h)
  · skip
    refine kz_bi (M := kt_M474) (-2) kX13_nameDeclaration_c30.1 rfl ?_
    refine kz_goto (M := kt_M474) kX13_nameDeclaration_c30.2.1 (t := 458) rfl ?_
    exact kz_weak [(0, .ref (w_adr E.2.1 12 0)), (1, .int x1), (2, .int x2)] ⟨rfl, ⟨rfl, ⟨rfl, trivial⟩⟩⟩ rfl (zt_X13_nameDeclaration_p458 hL  h)
def zb_X13_nameDeclaration_p415 (E : zE) (L : Nat) (Q : kx_Rs → wS → Prop) (x1 : Int32) (x2 : Int32) (x3 : Int32) (x4 : Int32) (y0 : Int32) (y1 : Int32) (w : wS) : Prop := zw E (L - 23) kt_M472 [.ref (w_adr E.2.1 12 0), .int y1, .int y0] w (wk0 (fun w1 => wle w w1 → (kx_inb x1 (w_n w1 12 0 30) = true ∧ (if x3 = 0 then zb_X13_nameDeclaration_p439 E L Q x1 x2 x4 1 (w_a w1 12 0 30 (x1).toNatClampNeg) x1 w1 else zb_X13_nameDeclaration_p439 E L Q x1 x2 x4 3 (w_a w1 12 0 30 (x1).toNatClampNeg) x1 w1))) (fun e w => Q (.inr e) w))
theorem zt_X13_nameDeclaration_p415 {E : zE} {L : Nat} {Q : kx_Rs → wS → Prop} {x1 : Int32} {x2 : Int32} {x3 : Int32} {x4 : Int32} {y0 : Int32} {y1 : Int32} {w : wS} (hL : 28 ≤ L) (h : zb_X13_nameDeclaration_p415 E L Q x1 x2 x3 x4 y0 y1 w) : kzE E L kt_M474 415 [(0, .ref (w_adr E.2.1 12 0)), (1, .int x1), (2, .int x2), (3, .int x3), (4, .int x4)] [.int y0, .int y1, .ref (w_adr E.2.1 12 0)] w Q := by
  unfold zb_X13_nameDeclaration_p415 at h
  refine kz_cv0 (M := kt_M474) (c := 12) (o := 0) (As := [.int y1, .int y0]) (rest := []) kX13_nameDeclaration_c27.2.2.1 wl_X13_766 wMv_472 rfl (.inl rfl) rfl (Nat.le_trans (Nat.le_of_ble_eq_true rfl) hL) (Nat.le_of_ble_eq_true rfl) (Nat.le_of_ble_eq_true rfl) h (fun w1 hle h => ?_) (fun _ _ _ h => kzx_no rfl h)
  have h := h hle
  refine kz_aload_n (M := kt_M474) kX13_nameDeclaration_c27.2.2.2.1 rfl ?_
  refine kz_gfc (M := kt_M474) (x := 4103) (c := 12) (o := 0) kX13_nameDeclaration_c27.2.2.2.2.1 wf_X13_202 (.inl rfl) ?_
  refine kz_iload_n (M := kt_M474) kX13_nameDeclaration_c27.2.2.2.2.2.1 rfl ?_
  refine kz_aload_n (M := kt_M474) kX13_nameDeclaration_c27.2.2.2.2.2.2.1 rfl ?_
  refine kz_aload_n (M := kt_M474) kX13_nameDeclaration_c27.2.2.2.2.2.2.2.1 rfl ?_
  refine kz_gfc (M := kt_M474) (x := 4102) (c := 12) (o := 0) kX13_nameDeclaration_c28.1 wf_X13_199 (.inl rfl) ?_
  refine kz_iload_n (M := kt_M474) kX13_nameDeclaration_c28.2.1 rfl ?_
  refine kz_iald (M := kt_M474) (c := 12) (o := 0) (k := 30) (a := (E.2.1 4102)) kX13_nameDeclaration_c28.2.2.1 ow_12_0_30 oa_12_0_30 ot_0 h (fun h => ?_)
  refine kz_iload_n (M := kt_M474) kX13_nameDeclaration_c28.2.2.2.1 rfl ?_
  refine kz_if_eq (M := kt_M474) kX13_nameDeclaration_c28.2.2.2.2.1 (t := 438) rfl h (fun h => ?_) (fun h => ?_)
  · skip
    refine kz_ic (M := kt_M474) 1 kX13_nameDeclaration_c28.2.2.2.2.2.2.2.1 rfl ?_
    exact kz_weak [(0, .ref (w_adr E.2.1 12 0)), (1, .int x1), (2, .int x2), (4, .int x4)] ⟨rfl, ⟨rfl, ⟨rfl, ⟨rfl, trivial⟩⟩⟩⟩ rfl (zt_X13_nameDeclaration_p439 hL  h)
  · skip
    refine kz_ic (M := kt_M474) 3 kX13_nameDeclaration_c28.2.2.2.2.2.1 rfl ?_
    refine kz_goto (M := kt_M474) kX13_nameDeclaration_c28.2.2.2.2.2.2.1 (t := 439) rfl ?_
    exact kz_weak [(0, .ref (w_adr E.2.1 12 0)), (1, .int x1), (2, .int x2), (4, .int x4)] ⟨rfl, ⟨rfl, ⟨rfl, ⟨rfl, trivial⟩⟩⟩⟩ rfl (zt_X13_nameDeclaration_p439 hL  h)
def zb_X13_nameDeclaration_p385 (E : zE) (L : Nat) (Q : kx_Rs → wS → Prop) (x1 : Int32) (x2 : Int32) (y0 : Int32) (w : wS) : Prop := (kx_inb x1 (w_n w 12 0 33) = true ∧ zw E (L - 23) kt_M454 [.ref (w_adr E.2.1 12 0), .int (w_a w 12 0 33 (x1).toNatClampNeg), .int x2] w (wk1 (fun v2 w1 => wle w w1 → (kx_inb x1 (w_n w1 12 0 28) = true ∧ (if y0 = 0 then zb_X13_nameDeclaration_p415 E L Q x1 x2 y0 v2 1 (w_a w1 12 0 28 (x1).toNatClampNeg) w1 else zb_X13_nameDeclaration_p415 E L Q x1 x2 y0 v2 3 (w_a w1 12 0 28 (x1).toNatClampNeg) w1))) (fun e w => Q (.inr e) w)))
theorem zt_X13_nameDeclaration_p385 {E : zE} {L : Nat} {Q : kx_Rs → wS → Prop} {x1 : Int32} {x2 : Int32} {y0 : Int32} {w : wS} (hL : 28 ≤ L) (h : zb_X13_nameDeclaration_p385 E L Q x1 x2 y0 w) : kzE E L kt_M474 385 [(0, .ref (w_adr E.2.1 12 0)), (1, .int x1), (2, .int x2)] [.int y0] w Q := by
  unfold zb_X13_nameDeclaration_p385 at h
  refine kz_sti_n (M := kt_M474) [(0, .ref (w_adr E.2.1 12 0)), (1, .int x1), (2, .int x2)] kX13_nameDeclaration_c24.2.2.2.2.2.2.2.1 (Nat.le_of_ble_eq_true rfl) ⟨⟨rfl, rfl, .inl rfl⟩, ⟨⟨rfl, rfl, .inl rfl⟩, ⟨⟨rfl, rfl, .inr rfl⟩, trivial⟩⟩⟩ rfl ?_
  refine kz_aload_n (M := kt_M474) kX13_nameDeclaration_c25.1 rfl ?_
  refine kz_aload_n (M := kt_M474) kX13_nameDeclaration_c25.2.1 rfl ?_
  refine kz_gfc (M := kt_M474) (x := 4105) (c := 12) (o := 0) kX13_nameDeclaration_c25.2.2.1 wf_X13_208 (.inl rfl) ?_
  refine kz_iload_n (M := kt_M474) kX13_nameDeclaration_c25.2.2.2.1 rfl ?_
  refine kz_iald (M := kt_M474) (c := 12) (o := 0) (k := 33) (a := (E.2.1 4105)) kX13_nameDeclaration_c25.2.2.2.2.1 ow_12_0_33 oa_12_0_33 ot_0 h (fun h => ?_)
  refine kz_iload_n (M := kt_M474) kX13_nameDeclaration_c25.2.2.2.2.2.1 rfl ?_
  refine kz_cv1 (M := kt_M474) (c := 12) (o := 0) (As := [.int (w_a w 12 0 33 (x1).toNatClampNeg), .int x2]) (rest := []) kX13_nameDeclaration_c25.2.2.2.2.2.2.1 wl_X13_790 wMv_454 rfl (.inl rfl) rfl (Nat.le_trans (Nat.le_of_ble_eq_true rfl) hL) (Nat.le_of_ble_eq_true rfl) (Nat.le_of_ble_eq_true rfl) h (fun v2 w1 hle h => ?_) (fun _ _ _ h => kzx_no rfl h)
  have h := h hle
  refine kz_sti (M := kt_M474) [(0, .ref (w_adr E.2.1 12 0)), (1, .int x1), (2, .int x2), (3, .int y0)] kX13_nameDeclaration_c25.2.2.2.2.2.2.2.1 (Nat.le_of_ble_eq_true rfl) ⟨⟨rfl, rfl, .inl rfl⟩, ⟨⟨rfl, rfl, .inl rfl⟩, ⟨⟨rfl, rfl, .inl rfl⟩, ⟨⟨rfl, rfl, .inr rfl⟩, trivial⟩⟩⟩⟩ rfl ?_
  refine kz_aload_n (M := kt_M474) kX13_nameDeclaration_c26.1 rfl ?_
  refine kz_aload_n (M := kt_M474) kX13_nameDeclaration_c26.2.1 rfl ?_
  refine kz_gfc (M := kt_M474) (x := 4100) (c := 12) (o := 0) kX13_nameDeclaration_c26.2.2.1 wf_X13_193 (.inl rfl) ?_
  refine kz_iload_n (M := kt_M474) kX13_nameDeclaration_c26.2.2.2.1 rfl ?_
  refine kz_iald (M := kt_M474) (c := 12) (o := 0) (k := 28) (a := (E.2.1 4100)) kX13_nameDeclaration_c26.2.2.2.2.1 ow_12_0_28 oa_12_0_28 ot_0 h (fun h => ?_)
  refine kz_iload_n (M := kt_M474) kX13_nameDeclaration_c26.2.2.2.2.2.1 rfl ?_
  refine kz_if_eq (M := kt_M474) kX13_nameDeclaration_c26.2.2.2.2.2.2.1 (t := 414) rfl h (fun h => ?_) (fun h => ?_)
  · skip
    refine kz_ic (M := kt_M474) 1 kX13_nameDeclaration_c27.2.1 rfl ?_
    exact kz_weak [(0, .ref (w_adr E.2.1 12 0)), (1, .int x1), (2, .int x2), (3, .int y0), (4, .int v2)] ⟨rfl, ⟨rfl, ⟨rfl, ⟨rfl, ⟨rfl, trivial⟩⟩⟩⟩⟩ rfl (zt_X13_nameDeclaration_p415 hL  h)
  · skip
    refine kz_ic (M := kt_M474) 3 kX13_nameDeclaration_c26.2.2.2.2.2.2.2.1 rfl ?_
    refine kz_goto (M := kt_M474) kX13_nameDeclaration_c27.1 (t := 415) rfl ?_
    exact kz_weak [(0, .ref (w_adr E.2.1 12 0)), (1, .int x1), (2, .int x2), (3, .int y0), (4, .int v2)] ⟨rfl, ⟨rfl, ⟨rfl, ⟨rfl, ⟨rfl, trivial⟩⟩⟩⟩⟩ rfl (zt_X13_nameDeclaration_p415 hL  h)
def zb_X13_nameDeclaration_p343 (E : zE) (L : Nat) (Q : kx_Rs → wS → Prop) (x1 : Int32) (x2 : Int32) (y0 : Int32) (y1 : Int32) (y2 : Int32) (y3 : Int32) (y5 : Int32) (w : wS) : Prop := zw E (L - 28) kt_M550 [.ref (w_adr E.2.1 12 0), .int y3, .int y2, .int y1, .int y0, .int x1, .int x2] w (wk1 (fun v2 w1 => wle w w1 → (kx_inb y5 (w_n w1 12 0 31) = true ∧ (kx_inb x1 (w_n w1 12 0 31) = true ∧ (kx_inb x1 (w_n w1 12 0 28) = true ∧ (kx_inb (w_a (ws_a w1 12 0 31 (y5).toNatClampNeg v2) 12 0 31 (x1).toNatClampNeg) (w_n w1 12 0 55) = true ∧ zb_X13_nameDeclaration_p560 E L Q x1 (ws_a (ws_a w1 12 0 31 (y5).toNatClampNeg v2) 12 0 55 (w_a (ws_a w1 12 0 31 (y5).toNatClampNeg v2) 12 0 31 (x1).toNatClampNeg).toNatClampNeg (w_a w1 12 0 28 (x1).toNatClampNeg))))))) (fun e w => Q (.inr e) w))
theorem zt_X13_nameDeclaration_p343 {E : zE} {L : Nat} {Q : kx_Rs → wS → Prop} {x1 : Int32} {x2 : Int32} {y0 : Int32} {y1 : Int32} {y2 : Int32} {y3 : Int32} {y5 : Int32} {w : wS} (hL : 28 ≤ L) (h : zb_X13_nameDeclaration_p343 E L Q x1 x2 y0 y1 y2 y3 y5 w) : kzE E L kt_M474 343 [(0, .ref (w_adr E.2.1 12 0)), (1, .int x1), (2, .int x2)] [.int y0, .int y1, .int y2, .int y3, .ref (w_adr E.2.1 12 0), .int y5, .ref (E.2.1 4103)] w Q := by
  unfold zb_X13_nameDeclaration_p343 at h
  refine kz_iload_n (M := kt_M474) kX13_nameDeclaration_c21.2.2.2.2.2.1 rfl ?_
  refine kz_iload_n (M := kt_M474) kX13_nameDeclaration_c21.2.2.2.2.2.2.1 rfl ?_
  refine kz_cv1 (M := kt_M474) (c := 12) (o := 0) (As := [.int y3, .int y2, .int y1, .int y0, .int x1, .int x2]) (rest := [.int y5, .ref (E.2.1 4103)]) kX13_nameDeclaration_c21.2.2.2.2.2.2.2.1 wl_X13_759 wMv_550 rfl (.inl rfl) rfl (Nat.le_trans (Nat.le_of_ble_eq_true rfl) hL) (Nat.le_of_ble_eq_true rfl) (Nat.le_of_ble_eq_true rfl) h (fun v2 w1 hle h => ?_) (fun _ _ _ h => kzx_no rfl h)
  have h := h hle
  refine kz_iast (M := kt_M474) (c := 12) (o := 0) (k := 31) (a := (E.2.1 4103)) kX13_nameDeclaration_c22.1 ow_12_0_31 oa_12_0_31 ot_0 h (fun h => ?_)
  refine kz_aload_n (M := kt_M474) kX13_nameDeclaration_c22.2.1 rfl ?_
  refine kz_gfc (M := kt_M474) (x := 4127) (c := 12) (o := 0) kX13_nameDeclaration_c22.2.2.1 wf_X13_251 (.inl rfl) ?_
  refine kz_aload_n (M := kt_M474) kX13_nameDeclaration_c22.2.2.2.1 rfl ?_
  refine kz_gfc (M := kt_M474) (x := 4103) (c := 12) (o := 0) kX13_nameDeclaration_c22.2.2.2.2.1 wf_X13_202 (.inl rfl) ?_
  refine kz_iload_n (M := kt_M474) kX13_nameDeclaration_c22.2.2.2.2.2.1 rfl ?_
  refine kz_ialdR (M := kt_M474) (n := w_n w1 12 0 31) (c := 12) (o := 0) (k := 31) (a := (E.2.1 4103)) (w_a (ws_a w1 12 0 31 (y5).toNatClampNeg v2) 12 0 31 (x1).toNatClampNeg) kX13_nameDeclaration_c22.2.2.2.2.2.2.1 ow_12_0_31 oa_12_0_31 ot_0 rd_n_a rfl h (fun h => ?_)
  refine kz_aload_n (M := kt_M474) kX13_nameDeclaration_c22.2.2.2.2.2.2.2.1 rfl ?_
  refine kz_gfc (M := kt_M474) (x := 4100) (c := 12) (o := 0) kX13_nameDeclaration_c23.1 wf_X13_193 (.inl rfl) ?_
  refine kz_iload_n (M := kt_M474) kX13_nameDeclaration_c23.2.1 rfl ?_
  refine kz_ialdR (M := kt_M474) (n := w_n w1 12 0 28) (c := 12) (o := 0) (k := 28) (a := (E.2.1 4100)) (w_a w1 12 0 28 (x1).toNatClampNeg) kX13_nameDeclaration_c23.2.2.1 ow_12_0_28 oa_12_0_28 ot_0 rd_n_a (rd_a_a rfl) h (fun h => ?_)
  refine kz_iastR (M := kt_M474) (n := w_n w1 12 0 55) (c := 12) (o := 0) (k := 55) (a := (E.2.1 4127)) kX13_nameDeclaration_c23.2.2.2.1 ow_12_0_55 oa_12_0_55 ot_0 rd_n_a h (fun h => ?_)
  refine kz_goto (M := kt_M474) kX13_nameDeclaration_c23.2.2.2.2.1 (t := 560) rfl ?_
  exact kz_weak [(0, .ref (w_adr E.2.1 12 0)), (1, .int x1)] ⟨rfl, ⟨rfl, trivial⟩⟩ rfl (zt_X13_nameDeclaration_p560 hL  h)
def zb_X13_nameDeclaration_p267 (E : zE) (L : Nat) (Q : kx_Rs → wS → Prop) (x5 : Int32) (w : wS) : Prop := (if x5 < 0 then Q (.inl none) w else (kx_inb x5 (w_n w 12 0 31) = true ∧ zw E (L - 21) kt_M455 [.ref (w_adr E.2.1 12 0), .int (w_a w 12 0 31 (x5).toNatClampNeg)] w (wk0 (fun w1 => wle w w1 → (kx_inb x5 (w_n w1 12 0 32) = true ∧ zL_X13_nameDeclaration_p267 E L Q (w_a w1 12 0 32 (x5).toNatClampNeg) w1)) (fun e w => Q (.inr e) w))))
theorem zt_X13_nameDeclaration_p267 {E : zE} {L : Nat} {Q : kx_Rs → wS → Prop} {x5 : Int32} {w : wS} (hL : 28 ≤ L) (h : zb_X13_nameDeclaration_p267 E L Q x5 w) : kzE E L kt_M474 267 [(0, .ref (w_adr E.2.1 12 0)), (5, .int x5)] [] w Q := by
  unfold zb_X13_nameDeclaration_p267 at h
  refine kz_iload (M := kt_M474) kX13_nameDeclaration_c16.1 rfl ?_
  refine kz_if_lt (M := kt_M474) kX13_nameDeclaration_c16.2.1 (t := 295) rfl h (fun h => ?_) (fun h => ?_)
  · skip
    exact kz_ret (M := kt_M474) kX13_nameDeclaration_c17.2.2.2.2.2.2.1 rfl h
  · skip
    refine kz_aload_n (M := kt_M474) kX13_nameDeclaration_c16.2.2.1 rfl ?_
    refine kz_aload_n (M := kt_M474) kX13_nameDeclaration_c16.2.2.2.1 rfl ?_
    refine kz_gfc (M := kt_M474) (x := 4103) (c := 12) (o := 0) kX13_nameDeclaration_c16.2.2.2.2.1 wf_X13_202 (.inl rfl) ?_
    refine kz_iload (M := kt_M474) kX13_nameDeclaration_c16.2.2.2.2.2.1 rfl ?_
    refine kz_iald (M := kt_M474) (c := 12) (o := 0) (k := 31) (a := (E.2.1 4103)) kX13_nameDeclaration_c16.2.2.2.2.2.2.1 ow_12_0_31 oa_12_0_31 ot_0 h (fun h => ?_)
    refine kz_cv0 (M := kt_M474) (c := 12) (o := 0) (As := [.int (w_a w 12 0 31 (x5).toNatClampNeg)]) (rest := []) kX13_nameDeclaration_c16.2.2.2.2.2.2.2.1 wl_X13_763 wMv_455 rfl (.inl rfl) rfl (Nat.le_trans (Nat.le_of_ble_eq_true rfl) hL) (Nat.le_of_ble_eq_true rfl) (Nat.le_of_ble_eq_true rfl) h (fun w1 hle h => ?_) (fun _ _ _ h => kzx_no rfl h)
    have h := h hle
    refine kz_aload_n (M := kt_M474) kX13_nameDeclaration_c17.1 rfl ?_
    refine kz_gfc (M := kt_M474) (x := 4104) (c := 12) (o := 0) kX13_nameDeclaration_c17.2.1 wf_X13_205 (.inl rfl) ?_
    refine kz_iload (M := kt_M474) kX13_nameDeclaration_c17.2.2.1 rfl ?_
    refine kz_iald (M := kt_M474) (c := 12) (o := 0) (k := 32) (a := (E.2.1 4104)) kX13_nameDeclaration_c17.2.2.2.1 ow_12_0_32 oa_12_0_32 ot_0 h (fun h => ?_)
    refine kz_sti (M := kt_M474) [(0, .ref (w_adr E.2.1 12 0))] kX13_nameDeclaration_c17.2.2.2.2.1 (Nat.le_of_ble_eq_true rfl) ⟨⟨rfl, rfl, .inl rfl⟩, trivial⟩ rfl ?_
    refine kz_goto (M := kt_M474) kX13_nameDeclaration_c17.2.2.2.2.2.1 (t := 267) rfl ?_
    exact kz_weak [(0, .ref (w_adr E.2.1 12 0)), (5, .int (w_a w1 12 0 32 (x5).toNatClampNeg))] ⟨rfl, ⟨rfl, trivial⟩⟩ rfl h
def zb_X13_nameDeclaration_p231 (E : zE) (L : Nat) (Q : kx_Rs → wS → Prop) (x1 : Int32) (x2 : Int32) (x3 : Int32) (x4 : Int32) (x5 : Int32) (y0 : Int32) (y1 : Int32) (y2 : Int32) (y3 : Int32) (y5 : Int32) (w : wS) : Prop := zw E (L - 28) kt_M550 [.ref (w_adr E.2.1 12 0), .int y3, .int y2, .int y1, .int y0, .int x1, .int x2] w (wk1 (fun v2 w1 => wle w w1 → (kx_inb y5 (w_n w1 12 0 31) = true ∧ (kx_inb x5 (w_n w1 12 0 32) = true ∧ zL_X13_nameDeclaration_p117 E L Q x1 x2 x3 x4 (w_a w1 12 0 32 (x5).toNatClampNeg) (ws_i (ws_a w1 12 0 31 (y5).toNatClampNeg v2) 12 0 58 ((w_i w1 12 0 58) + 1))))) (fun e w => Q (.inr e) w))
theorem zt_X13_nameDeclaration_p231 {E : zE} {L : Nat} {Q : kx_Rs → wS → Prop} {x1 : Int32} {x2 : Int32} {x3 : Int32} {x4 : Int32} {x5 : Int32} {y0 : Int32} {y1 : Int32} {y2 : Int32} {y3 : Int32} {y5 : Int32} {w : wS} (hL : 28 ≤ L) (h : zb_X13_nameDeclaration_p231 E L Q x1 x2 x3 x4 x5 y0 y1 y2 y3 y5 w) : kzE E L kt_M474 231 [(0, .ref (w_adr E.2.1 12 0)), (1, .int x1), (2, .int x2), (3, .int x3), (4, .int x4), (5, .int x5)] [.int y0, .int y1, .int y2, .int y3, .ref (w_adr E.2.1 12 0), .int y5, .ref (E.2.1 4103)] w Q := by
  unfold zb_X13_nameDeclaration_p231 at h
  refine kz_iload_n (M := kt_M474) kX13_nameDeclaration_c13.2.2.2.1 rfl ?_
  refine kz_iload_n (M := kt_M474) kX13_nameDeclaration_c13.2.2.2.2.1 rfl ?_
  refine kz_cv1 (M := kt_M474) (c := 12) (o := 0) (As := [.int y3, .int y2, .int y1, .int y0, .int x1, .int x2]) (rest := [.int y5, .ref (E.2.1 4103)]) kX13_nameDeclaration_c13.2.2.2.2.2.1 wl_X13_759 wMv_550 rfl (.inl rfl) rfl (Nat.le_trans (Nat.le_of_ble_eq_true rfl) hL) (Nat.le_of_ble_eq_true rfl) (Nat.le_of_ble_eq_true rfl) h (fun v2 w1 hle h => ?_) (fun _ _ _ h => kzx_no rfl h)
  have h := h hle
  refine kz_iast (M := kt_M474) (c := 12) (o := 0) (k := 31) (a := (E.2.1 4103)) kX13_nameDeclaration_c13.2.2.2.2.2.2.1 ow_12_0_31 oa_12_0_31 ot_0 h (fun h => ?_)
  refine kz_aload_n (M := kt_M474) kX13_nameDeclaration_c13.2.2.2.2.2.2.2.1 rfl ?_
  refine kz_dup (M := kt_M474) kX13_nameDeclaration_c14.1 rfl ?_
  refine kz_gfiR (M := kt_M474) (c := 12) (o := 0) (w_i w1 12 0 58) kX13_nameDeclaration_c14.2.1 wf_X13_793 (.inl rfl) rd_i_a ?_
  refine kz_ic (M := kt_M474) 1 kX13_nameDeclaration_c14.2.2.1 rfl ?_
  refine kz_iadd (M := kt_M474) kX13_nameDeclaration_c14.2.2.2.1 ?_
  refine kz_pfi (M := kt_M474) (c := 12) (o := 0) kX13_nameDeclaration_c14.2.2.2.2.1 wq_X13_793 (.inl rfl) ?_
  refine kz_aload_n (M := kt_M474) kX13_nameDeclaration_c14.2.2.2.2.2.1 rfl ?_
  refine kz_gfc (M := kt_M474) (x := 4104) (c := 12) (o := 0) kX13_nameDeclaration_c14.2.2.2.2.2.2.1 wf_X13_205 (.inl rfl) ?_
  refine kz_iload (M := kt_M474) kX13_nameDeclaration_c14.2.2.2.2.2.2.2.1 rfl ?_
  refine kz_ialdR (M := kt_M474) (n := w_n w1 12 0 32) (c := 12) (o := 0) (k := 32) (a := (E.2.1 4104)) (w_a w1 12 0 32 (x5).toNatClampNeg) kX13_nameDeclaration_c15.1 ow_12_0_32 oa_12_0_32 ot_0 (rd_n_i.trans rd_n_a) (rd_a_i.trans (rd_a_a rfl)) h (fun h => ?_)
  refine kz_sti (M := kt_M474) [(0, .ref (w_adr E.2.1 12 0)), (1, .int x1), (2, .int x2), (3, .int x3), (4, .int x4)] kX13_nameDeclaration_c15.2.1 (Nat.le_of_ble_eq_true rfl) ⟨⟨rfl, rfl, .inl rfl⟩, ⟨⟨rfl, rfl, .inl rfl⟩, ⟨⟨rfl, rfl, .inl rfl⟩, ⟨⟨rfl, rfl, .inl rfl⟩, ⟨⟨rfl, rfl, .inr rfl⟩, trivial⟩⟩⟩⟩⟩ rfl ?_
  refine kz_goto (M := kt_M474) kX13_nameDeclaration_c15.2.2.1 (t := 117) rfl ?_
  exact kz_weak [(0, .ref (w_adr E.2.1 12 0)), (1, .int x1), (2, .int x2), (3, .int x3), (4, .int x4), (5, .int (w_a w1 12 0 32 (x5).toNatClampNeg))] ⟨rfl, ⟨rfl, ⟨rfl, ⟨rfl, ⟨rfl, ⟨rfl, trivial⟩⟩⟩⟩⟩⟩ rfl h
def zb_X13_nameDeclaration_p195 (E : zE) (L : Nat) (Q : kx_Rs → wS → Prop) (x1 : Int32) (x2 : Int32) (x3 : Int32) (x4 : Int32) (x5 : Int32) (y0 : Int32) (w : wS) : Prop := (kx_inb x5 (w_n w 12 0 30) = true ∧ (kx_inb x1 (w_n w 12 0 34) = true ∧ (if ((w_a w 12 0 34 (x1).toNatClampNeg) &&& 1) = 0 then zb_X13_nameDeclaration_p231 E L Q x1 x2 x3 x4 x5 (-1) x3 y0 (w_a w 12 0 30 (x5).toNatClampNeg) x5 w else zb_X13_nameDeclaration_p231 E L Q x1 x2 x3 x4 x5 (-2) x3 y0 (w_a w 12 0 30 (x5).toNatClampNeg) x5 w)))
theorem zt_X13_nameDeclaration_p195 {E : zE} {L : Nat} {Q : kx_Rs → wS → Prop} {x1 : Int32} {x2 : Int32} {x3 : Int32} {x4 : Int32} {x5 : Int32} {y0 : Int32} {w : wS} (hL : 28 ≤ L) (h : zb_X13_nameDeclaration_p195 E L Q x1 x2 x3 x4 x5 y0 w) : kzE E L kt_M474 195 [(0, .ref (w_adr E.2.1 12 0)), (1, .int x1), (2, .int x2), (3, .int x3), (4, .int x4), (5, .int x5)] [.int y0] w Q := by
  unfold zb_X13_nameDeclaration_p195 at h
  refine kz_sti (M := kt_M474) [(0, .ref (w_adr E.2.1 12 0)), (1, .int x1), (2, .int x2), (3, .int x3), (4, .int x4), (5, .int x5)] kX13_nameDeclaration_c10.2.2.2.2.2.2.1 (Nat.le_of_ble_eq_true rfl) ⟨⟨rfl, rfl, .inl rfl⟩, ⟨⟨rfl, rfl, .inl rfl⟩, ⟨⟨rfl, rfl, .inl rfl⟩, ⟨⟨rfl, rfl, .inl rfl⟩, ⟨⟨rfl, rfl, .inl rfl⟩, ⟨⟨rfl, rfl, .inr rfl⟩, trivial⟩⟩⟩⟩⟩⟩ rfl ?_
  refine kz_aload_n (M := kt_M474) kX13_nameDeclaration_c10.2.2.2.2.2.2.2.1 rfl ?_
  refine kz_gfc (M := kt_M474) (x := 4103) (c := 12) (o := 0) kX13_nameDeclaration_c11.1 wf_X13_202 (.inl rfl) ?_
  refine kz_iload (M := kt_M474) kX13_nameDeclaration_c11.2.1 rfl ?_
  refine kz_aload_n (M := kt_M474) kX13_nameDeclaration_c11.2.2.1 rfl ?_
  refine kz_aload_n (M := kt_M474) kX13_nameDeclaration_c11.2.2.2.1 rfl ?_
  refine kz_gfc (M := kt_M474) (x := 4102) (c := 12) (o := 0) kX13_nameDeclaration_c11.2.2.2.2.1 wf_X13_199 (.inl rfl) ?_
  refine kz_iload (M := kt_M474) kX13_nameDeclaration_c11.2.2.2.2.2.1 rfl ?_
  refine kz_iald (M := kt_M474) (c := 12) (o := 0) (k := 30) (a := (E.2.1 4102)) kX13_nameDeclaration_c11.2.2.2.2.2.2.1 ow_12_0_30 oa_12_0_30 ot_0 h (fun h => ?_)
  refine kz_iload (M := kt_M474) kX13_nameDeclaration_c11.2.2.2.2.2.2.2.1 rfl ?_
  refine kz_iload_n (M := kt_M474) kX13_nameDeclaration_c12.1 rfl ?_
  refine kz_aload_n (M := kt_M474) kX13_nameDeclaration_c12.2.1 rfl ?_
  refine kz_gfc (M := kt_M474) (x := 4106) (c := 12) (o := 0) kX13_nameDeclaration_c12.2.2.1 wf_X13_211 (.inl rfl) ?_
  refine kz_iload_n (M := kt_M474) kX13_nameDeclaration_c12.2.2.2.1 rfl ?_
  refine kz_iald (M := kt_M474) (c := 12) (o := 0) (k := 34) (a := (E.2.1 4106)) kX13_nameDeclaration_c12.2.2.2.2.1 ow_12_0_34 oa_12_0_34 ot_0 h (fun h => ?_)
  refine kz_ic (M := kt_M474) 1 kX13_nameDeclaration_c12.2.2.2.2.2.1 rfl ?_
  refine kz_iand (M := kt_M474) kX13_nameDeclaration_c12.2.2.2.2.2.2.1 ?_
  refine kz_if_eq (M := kt_M474) kX13_nameDeclaration_c12.2.2.2.2.2.2.2.1 (t := 230) rfl h (fun h => ?_) (fun h => ?_)
  · skip
    refine kz_ic (M := kt_M474) (-1) kX13_nameDeclaration_c13.2.2.1 rfl ?_
    exact kz_weak [(0, .ref (w_adr E.2.1 12 0)), (1, .int x1), (2, .int x2), (3, .int x3), (4, .int x4), (5, .int x5)] ⟨rfl, ⟨rfl, ⟨rfl, ⟨rfl, ⟨rfl, ⟨rfl, trivial⟩⟩⟩⟩⟩⟩ rfl (zt_X13_nameDeclaration_p231 hL  h)
  · skip
    refine kz_bi (M := kt_M474) (-2) kX13_nameDeclaration_c13.1 rfl ?_
    refine kz_goto (M := kt_M474) kX13_nameDeclaration_c13.2.1 (t := 231) rfl ?_
    exact kz_weak [(0, .ref (w_adr E.2.1 12 0)), (1, .int x1), (2, .int x2), (3, .int x3), (4, .int x4), (5, .int x5)] ⟨rfl, ⟨rfl, ⟨rfl, ⟨rfl, ⟨rfl, ⟨rfl, trivial⟩⟩⟩⟩⟩⟩ rfl (zt_X13_nameDeclaration_p231 hL  h)
def zb_X13_nameDeclaration_p158 (E : zE) (L : Nat) (Q : kx_Rs → wS → Prop) (x1 : Int32) (x2 : Int32) (x3 : Int32) (x4 : Int32) (x5 : Int32) (x6 : Int32) (w : wS) : Prop := zL_X13_nameDeclaration_p126 E L Q x1 x2 x3 x4 x5 (x6 + 1) w
theorem zt_X13_nameDeclaration_p158 {E : zE} {L : Nat} {Q : kx_Rs → wS → Prop} {x1 : Int32} {x2 : Int32} {x3 : Int32} {x4 : Int32} {x5 : Int32} {x6 : Int32} {w : wS} (hL : 28 ≤ L) (h : zb_X13_nameDeclaration_p158 E L Q x1 x2 x3 x4 x5 x6 w) : kzE E L kt_M474 158 [(0, .ref (w_adr E.2.1 12 0)), (1, .int x1), (2, .int x2), (3, .int x3), (4, .int x4), (5, .int x5), (6, .int x6)] [] w Q := by
  unfold zb_X13_nameDeclaration_p158 at h
  refine kz_inc (M := kt_M474) [(0, .ref (w_adr E.2.1 12 0)), (1, .int x1), (2, .int x2), (3, .int x3), (4, .int x4), (5, .int x5)] kX13_nameDeclaration_c8.2.2.2.1 rfl (Nat.le_of_ble_eq_true rfl) ⟨⟨rfl, rfl, .inl rfl⟩, ⟨⟨rfl, rfl, .inl rfl⟩, ⟨⟨rfl, rfl, .inl rfl⟩, ⟨⟨rfl, rfl, .inl rfl⟩, ⟨⟨rfl, rfl, .inl rfl⟩, ⟨⟨rfl, rfl, .inr rfl⟩, trivial⟩⟩⟩⟩⟩⟩ rfl ?_
  refine kz_goto (M := kt_M474) kX13_nameDeclaration_c8.2.2.2.2.1 (t := 126) rfl ?_
  exact kz_weak [(0, .ref (w_adr E.2.1 12 0)), (1, .int x1), (2, .int x2), (3, .int x3), (4, .int x4), (5, .int x5), (6, .int (x6 + 1))] ⟨rfl, ⟨rfl, ⟨rfl, ⟨rfl, ⟨rfl, ⟨rfl, ⟨rfl, trivial⟩⟩⟩⟩⟩⟩⟩ rfl h
def zb_X13_nameDeclaration_p126 (E : zE) (L : Nat) (Q : kx_Rs → wS → Prop) (x1 : Int32) (x2 : Int32) (x3 : Int32) (x4 : Int32) (x5 : Int32) (x6 : Int32) (w : wS) : Prop := (if w_i w 12 0 44 ≤ x6 then (kx_inb x1 (w_n w 12 0 26) = true ∧ (if ¬ w_a w 12 0 26 (x1).toNatClampNeg = 30 then (kx_inb x1 (w_n w 12 0 26) = true ∧ (if ¬ w_a w 12 0 26 (x1).toNatClampNeg = 31 then zb_X13_nameDeclaration_p195 E L Q x1 x2 x3 x4 x5 4 w else zb_X13_nameDeclaration_p195 E L Q x1 x2 x3 x4 x5 3 w)) else zb_X13_nameDeclaration_p195 E L Q x1 x2 x3 x4 x5 1 w)) else (kx_inb x6 (w_n w 12 0 45) = true ∧ (kx_inb x5 (w_n w 12 0 30) = true ∧ (if ¬ w_a w 12 0 45 (x6).toNatClampNeg = w_a w 12 0 30 (x5).toNatClampNeg then zb_X13_nameDeclaration_p158 E L Q x1 x2 x3 x4 x5 x6 w else zw E (L - 22) kt_M560 [.ref (w_adr E.2.1 12 0), .int 4, .int x2] w (wk0 (fun w1 => wle w w1 → zb_X13_nameDeclaration_p158 E L Q x1 x2 x3 x4 x5 x6 w1) (fun e w => Q (.inr e) w))))))
theorem zt_X13_nameDeclaration_p126 {E : zE} {L : Nat} {Q : kx_Rs → wS → Prop} {x1 : Int32} {x2 : Int32} {x3 : Int32} {x4 : Int32} {x5 : Int32} {x6 : Int32} {w : wS} (hL : 28 ≤ L) (h : zb_X13_nameDeclaration_p126 E L Q x1 x2 x3 x4 x5 x6 w) : kzE E L kt_M474 126 [(0, .ref (w_adr E.2.1 12 0)), (1, .int x1), (2, .int x2), (3, .int x3), (4, .int x4), (5, .int x5), (6, .int x6)] [] w Q := by
  unfold zb_X13_nameDeclaration_p126 at h
  refine kz_iload (M := kt_M474) kX13_nameDeclaration_c6.2.2.1 rfl ?_
  refine kz_aload_n (M := kt_M474) kX13_nameDeclaration_c6.2.2.2.1 rfl ?_
  refine kz_gfi (M := kt_M474) (c := 12) (o := 0) kX13_nameDeclaration_c6.2.2.2.2.1 wf_X13_722 (.inl rfl) ?_
  refine kz_icmp_ge (M := kt_M474) kX13_nameDeclaration_c6.2.2.2.2.2.1 (t := 164) rfl h (fun h => ?_) (fun h => ?_)
  · skip
    refine kz_aload_n (M := kt_M474) kX13_nameDeclaration_c8.2.2.2.2.2.1 rfl ?_
    refine kz_gfc (M := kt_M474) (x := 4098) (c := 12) (o := 0) kX13_nameDeclaration_c8.2.2.2.2.2.2.1 wf_X13_187 (.inl rfl) ?_
    refine kz_iload_n (M := kt_M474) kX13_nameDeclaration_c8.2.2.2.2.2.2.2.1 rfl ?_
    refine kz_iald (M := kt_M474) (c := 12) (o := 0) (k := 26) (a := (E.2.1 4098)) kX13_nameDeclaration_c9.1 ow_12_0_26 oa_12_0_26 ot_0 h (fun h => ?_)
    refine kz_bi (M := kt_M474) 30 kX13_nameDeclaration_c9.2.1 rfl ?_
    refine kz_icmp_ne (M := kt_M474) kX13_nameDeclaration_c9.2.2.1 (t := 179) rfl h (fun h => ?_) (fun h => ?_)
    · skip
      refine kz_aload_n (M := kt_M474) kX13_nameDeclaration_c9.2.2.2.2.2.1 rfl ?_
      refine kz_gfc (M := kt_M474) (x := 4098) (c := 12) (o := 0) kX13_nameDeclaration_c9.2.2.2.2.2.2.1 wf_X13_187 (.inl rfl) ?_
      refine kz_iload_n (M := kt_M474) kX13_nameDeclaration_c9.2.2.2.2.2.2.2.1 rfl ?_
      refine kz_iald (M := kt_M474) (c := 12) (o := 0) (k := 26) (a := (E.2.1 4098)) kX13_nameDeclaration_c10.1 ow_12_0_26 oa_12_0_26 ot_0 h (fun h => ?_)
      refine kz_bi (M := kt_M474) 31 kX13_nameDeclaration_c10.2.1 rfl ?_
      refine kz_icmp_ne (M := kt_M474) kX13_nameDeclaration_c10.2.2.1 (t := 194) rfl h (fun h => ?_) (fun h => ?_)
      · skip
        refine kz_ic (M := kt_M474) 4 kX13_nameDeclaration_c10.2.2.2.2.2.1 rfl ?_
        exact kz_weak [(0, .ref (w_adr E.2.1 12 0)), (1, .int x1), (2, .int x2), (3, .int x3), (4, .int x4), (5, .int x5)] ⟨rfl, ⟨rfl, ⟨rfl, ⟨rfl, ⟨rfl, ⟨rfl, trivial⟩⟩⟩⟩⟩⟩ rfl (zt_X13_nameDeclaration_p195 hL  h)
      · skip
        refine kz_ic (M := kt_M474) 3 kX13_nameDeclaration_c10.2.2.2.1 rfl ?_
        refine kz_goto (M := kt_M474) kX13_nameDeclaration_c10.2.2.2.2.1 (t := 195) rfl ?_
        exact kz_weak [(0, .ref (w_adr E.2.1 12 0)), (1, .int x1), (2, .int x2), (3, .int x3), (4, .int x4), (5, .int x5)] ⟨rfl, ⟨rfl, ⟨rfl, ⟨rfl, ⟨rfl, ⟨rfl, trivial⟩⟩⟩⟩⟩⟩ rfl (zt_X13_nameDeclaration_p195 hL  h)
    · skip
      refine kz_ic (M := kt_M474) 1 kX13_nameDeclaration_c9.2.2.2.1 rfl ?_
      refine kz_goto (M := kt_M474) kX13_nameDeclaration_c9.2.2.2.2.1 (t := 195) rfl ?_
      exact kz_weak [(0, .ref (w_adr E.2.1 12 0)), (1, .int x1), (2, .int x2), (3, .int x3), (4, .int x4), (5, .int x5)] ⟨rfl, ⟨rfl, ⟨rfl, ⟨rfl, ⟨rfl, ⟨rfl, trivial⟩⟩⟩⟩⟩⟩ rfl (zt_X13_nameDeclaration_p195 hL  h)
  · skip
    refine kz_aload_n (M := kt_M474) kX13_nameDeclaration_c6.2.2.2.2.2.2.1 rfl ?_
    refine kz_gfc (M := kt_M474) (x := 4117) (c := 12) (o := 0) kX13_nameDeclaration_c6.2.2.2.2.2.2.2.1 wf_X13_220 (.inl rfl) ?_
    refine kz_iload (M := kt_M474) kX13_nameDeclaration_c7.1 rfl ?_
    refine kz_iald (M := kt_M474) (c := 12) (o := 0) (k := 45) (a := (E.2.1 4117)) kX13_nameDeclaration_c7.2.1 ow_12_0_45 oa_12_0_45 ot_0 h (fun h => ?_)
    refine kz_aload_n (M := kt_M474) kX13_nameDeclaration_c7.2.2.1 rfl ?_
    refine kz_gfc (M := kt_M474) (x := 4102) (c := 12) (o := 0) kX13_nameDeclaration_c7.2.2.2.1 wf_X13_199 (.inl rfl) ?_
    refine kz_iload (M := kt_M474) kX13_nameDeclaration_c7.2.2.2.2.1 rfl ?_
    refine kz_iald (M := kt_M474) (c := 12) (o := 0) (k := 30) (a := (E.2.1 4102)) kX13_nameDeclaration_c7.2.2.2.2.2.1 ow_12_0_30 oa_12_0_30 ot_0 h (fun h => ?_)
    refine kz_icmp_ne (M := kt_M474) kX13_nameDeclaration_c7.2.2.2.2.2.2.1 (t := 158) rfl h (fun h => ?_) (fun h => ?_)
    · skip
      exact kz_weak [(0, .ref (w_adr E.2.1 12 0)), (1, .int x1), (2, .int x2), (3, .int x3), (4, .int x4), (5, .int x5), (6, .int x6)] ⟨rfl, ⟨rfl, ⟨rfl, ⟨rfl, ⟨rfl, ⟨rfl, ⟨rfl, trivial⟩⟩⟩⟩⟩⟩⟩ rfl (zt_X13_nameDeclaration_p158 hL  h)
    · skip
      refine kz_aload_n (M := kt_M474) kX13_nameDeclaration_c7.2.2.2.2.2.2.2.1 rfl ?_
      refine kz_ic (M := kt_M474) 4 kX13_nameDeclaration_c8.1 rfl ?_
      refine kz_iload_n (M := kt_M474) kX13_nameDeclaration_c8.2.1 rfl ?_
      refine kz_cv0 (M := kt_M474) (c := 12) (o := 0) (As := [.int 4, .int x2]) (rest := []) kX13_nameDeclaration_c8.2.2.1 wl_X13_734 wMv_560 rfl (.inl rfl) rfl (Nat.le_trans (Nat.le_of_ble_eq_true rfl) hL) (Nat.le_of_ble_eq_true rfl) (Nat.le_of_ble_eq_true rfl) h (fun w1 hle h => ?_) (fun _ _ _ h => kzx_no rfl h)
      have h := h hle
      exact kz_weak [(0, .ref (w_adr E.2.1 12 0)), (1, .int x1), (2, .int x2), (3, .int x3), (4, .int x4), (5, .int x5), (6, .int x6)] ⟨rfl, ⟨rfl, ⟨rfl, ⟨rfl, ⟨rfl, ⟨rfl, ⟨rfl, trivial⟩⟩⟩⟩⟩⟩⟩ rfl (zt_X13_nameDeclaration_p158 hL  h)
def zb_X13_nameDeclaration_p117 (E : zE) (L : Nat) (Q : kx_Rs → wS → Prop) (x1 : Int32) (x2 : Int32) (x3 : Int32) (x4 : Int32) (x5 : Int32) (w : wS) : Prop := (if x5 < 0 then (kx_inb x1 (w_n w 12 0 29) = true ∧ zL_X13_nameDeclaration_p267 E L Q (w_a w 12 0 29 (x1).toNatClampNeg) w) else zL_X13_nameDeclaration_p126 E L Q x1 x2 x3 x4 x5 x4 w)
theorem zt_X13_nameDeclaration_p117 {E : zE} {L : Nat} {Q : kx_Rs → wS → Prop} {x1 : Int32} {x2 : Int32} {x3 : Int32} {x4 : Int32} {x5 : Int32} {w : wS} (hL : 28 ≤ L) (h : zb_X13_nameDeclaration_p117 E L Q x1 x2 x3 x4 x5 w) : kzE E L kt_M474 117 [(0, .ref (w_adr E.2.1 12 0)), (1, .int x1), (2, .int x2), (3, .int x3), (4, .int x4), (5, .int x5)] [] w Q := by
  unfold zb_X13_nameDeclaration_p117 at h
  refine kz_iload (M := kt_M474) kX13_nameDeclaration_c5.2.2.2.2.2.2.1 rfl ?_
  refine kz_if_lt (M := kt_M474) kX13_nameDeclaration_c5.2.2.2.2.2.2.2.1 (t := 259) rfl h (fun h => ?_) (fun h => ?_)
  · skip
    refine kz_aload_n (M := kt_M474) kX13_nameDeclaration_c15.2.2.2.1 rfl ?_
    refine kz_gfc (M := kt_M474) (x := 4101) (c := 12) (o := 0) kX13_nameDeclaration_c15.2.2.2.2.1 wf_X13_196 (.inl rfl) ?_
    refine kz_iload_n (M := kt_M474) kX13_nameDeclaration_c15.2.2.2.2.2.1 rfl ?_
    refine kz_iald (M := kt_M474) (c := 12) (o := 0) (k := 29) (a := (E.2.1 4101)) kX13_nameDeclaration_c15.2.2.2.2.2.2.1 ow_12_0_29 oa_12_0_29 ot_0 h (fun h => ?_)
    refine kz_sti (M := kt_M474) [(0, .ref (w_adr E.2.1 12 0))] kX13_nameDeclaration_c15.2.2.2.2.2.2.2.1 (Nat.le_of_ble_eq_true rfl) ⟨⟨rfl, rfl, .inl rfl⟩, trivial⟩ rfl ?_
    exact kz_weak [(0, .ref (w_adr E.2.1 12 0)), (5, .int (w_a w 12 0 29 (x1).toNatClampNeg))] ⟨rfl, ⟨rfl, trivial⟩⟩ rfl h
  · skip
    refine kz_iload (M := kt_M474) kX13_nameDeclaration_c6.1 rfl ?_
    refine kz_sti (M := kt_M474) [(0, .ref (w_adr E.2.1 12 0)), (1, .int x1), (2, .int x2), (3, .int x3), (4, .int x4), (5, .int x5)] kX13_nameDeclaration_c6.2.1 (Nat.le_of_ble_eq_true rfl) ⟨⟨rfl, rfl, .inl rfl⟩, ⟨⟨rfl, rfl, .inl rfl⟩, ⟨⟨rfl, rfl, .inl rfl⟩, ⟨⟨rfl, rfl, .inl rfl⟩, ⟨⟨rfl, rfl, .inl rfl⟩, ⟨⟨rfl, rfl, .inr rfl⟩, trivial⟩⟩⟩⟩⟩⟩ rfl ?_
    exact kz_weak [(0, .ref (w_adr E.2.1 12 0)), (1, .int x1), (2, .int x2), (3, .int x3), (4, .int x4), (5, .int x5), (6, .int x4)] ⟨rfl, ⟨rfl, ⟨rfl, ⟨rfl, ⟨rfl, ⟨rfl, ⟨rfl, trivial⟩⟩⟩⟩⟩⟩⟩ rfl h
def zb_X13_nameDeclaration_p102 (E : zE) (L : Nat) (Q : kx_Rs → wS → Prop) (x1 : Int32) (x2 : Int32) (y0 : Int32) (w : wS) : Prop := (kx_inb x1 (w_n w 12 0 29) = true ∧ zL_X13_nameDeclaration_p117 E L Q x1 x2 y0 (w_i w 12 0 44) (w_a w 12 0 29 (x1).toNatClampNeg) w)
theorem zt_X13_nameDeclaration_p102 {E : zE} {L : Nat} {Q : kx_Rs → wS → Prop} {x1 : Int32} {x2 : Int32} {y0 : Int32} {w : wS} (hL : 28 ≤ L) (h : zb_X13_nameDeclaration_p102 E L Q x1 x2 y0 w) : kzE E L kt_M474 102 [(0, .ref (w_adr E.2.1 12 0)), (1, .int x1), (2, .int x2)] [.int y0] w Q := by
  unfold zb_X13_nameDeclaration_p102 at h
  refine kz_sti_n (M := kt_M474) [(0, .ref (w_adr E.2.1 12 0)), (1, .int x1), (2, .int x2)] kX13_nameDeclaration_c4.2.2.2.2.2.1 (Nat.le_of_ble_eq_true rfl) ⟨⟨rfl, rfl, .inl rfl⟩, ⟨⟨rfl, rfl, .inl rfl⟩, ⟨⟨rfl, rfl, .inr rfl⟩, trivial⟩⟩⟩ rfl ?_
  refine kz_aload_n (M := kt_M474) kX13_nameDeclaration_c4.2.2.2.2.2.2.1 rfl ?_
  refine kz_gfi (M := kt_M474) (c := 12) (o := 0) kX13_nameDeclaration_c4.2.2.2.2.2.2.2.1 wf_X13_722 (.inl rfl) ?_
  refine kz_sti (M := kt_M474) [(0, .ref (w_adr E.2.1 12 0)), (1, .int x1), (2, .int x2), (3, .int y0)] kX13_nameDeclaration_c5.1 (Nat.le_of_ble_eq_true rfl) ⟨⟨rfl, rfl, .inl rfl⟩, ⟨⟨rfl, rfl, .inl rfl⟩, ⟨⟨rfl, rfl, .inl rfl⟩, ⟨⟨rfl, rfl, .inr rfl⟩, trivial⟩⟩⟩⟩ rfl ?_
  refine kz_aload_n (M := kt_M474) kX13_nameDeclaration_c5.2.1 rfl ?_
  refine kz_gfc (M := kt_M474) (x := 4101) (c := 12) (o := 0) kX13_nameDeclaration_c5.2.2.1 wf_X13_196 (.inl rfl) ?_
  refine kz_iload_n (M := kt_M474) kX13_nameDeclaration_c5.2.2.2.1 rfl ?_
  refine kz_iald (M := kt_M474) (c := 12) (o := 0) (k := 29) (a := (E.2.1 4101)) kX13_nameDeclaration_c5.2.2.2.2.1 ow_12_0_29 oa_12_0_29 ot_0 h (fun h => ?_)
  refine kz_sti (M := kt_M474) [(0, .ref (w_adr E.2.1 12 0)), (1, .int x1), (2, .int x2), (3, .int y0), (4, .int (w_i w 12 0 44))] kX13_nameDeclaration_c5.2.2.2.2.2.1 (Nat.le_of_ble_eq_true rfl) ⟨⟨rfl, rfl, .inl rfl⟩, ⟨⟨rfl, rfl, .inl rfl⟩, ⟨⟨rfl, rfl, .inl rfl⟩, ⟨⟨rfl, rfl, .inl rfl⟩, ⟨⟨rfl, rfl, .inr rfl⟩, trivial⟩⟩⟩⟩⟩ rfl ?_
  exact kz_weak [(0, .ref (w_adr E.2.1 12 0)), (1, .int x1), (2, .int x2), (3, .int y0), (4, .int (w_i w 12 0 44)), (5, .int (w_a w 12 0 29 (x1).toNatClampNeg))] ⟨rfl, ⟨rfl, ⟨rfl, ⟨rfl, ⟨rfl, ⟨rfl, trivial⟩⟩⟩⟩⟩⟩ rfl h
def zb_X13_nameDeclaration_p76 (E : zE) (L : Nat) (Q : kx_Rs → wS → Prop) (x1 : Int32) (x2 : Int32) (w : wS) : Prop := (kx_inb x1 (w_n w 12 0 26) = true ∧ (if ¬ w_a w 12 0 26 (x1).toNatClampNeg = 32 then (kx_inb x1 (w_n w 12 0 33) = true ∧ zw E (L - 23) kt_M454 [.ref (w_adr E.2.1 12 0), .int (w_a w 12 0 33 (x1).toNatClampNeg), .int x2] w (wk1 (fun v2 w1 => wle w w1 → zb_X13_nameDeclaration_p102 E L Q x1 x2 v2 w1) (fun e w => Q (.inr e) w))) else zb_X13_nameDeclaration_p102 E L Q x1 x2 0 w))
theorem zt_X13_nameDeclaration_p76 {E : zE} {L : Nat} {Q : kx_Rs → wS → Prop} {x1 : Int32} {x2 : Int32} {w : wS} (hL : 28 ≤ L) (h : zb_X13_nameDeclaration_p76 E L Q x1 x2 w) : kzE E L kt_M474 76 [(0, .ref (w_adr E.2.1 12 0)), (1, .int x1), (2, .int x2)] [] w Q := by
  unfold zb_X13_nameDeclaration_p76 at h
  refine kz_aload_n (M := kt_M474) kX13_nameDeclaration_c2.2.2.2.2.2.2.1 rfl ?_
  refine kz_gfc (M := kt_M474) (x := 4098) (c := 12) (o := 0) kX13_nameDeclaration_c2.2.2.2.2.2.2.2.1 wf_X13_187 (.inl rfl) ?_
  refine kz_iload_n (M := kt_M474) kX13_nameDeclaration_c3.1 rfl ?_
  refine kz_iald (M := kt_M474) (c := 12) (o := 0) (k := 26) (a := (E.2.1 4098)) kX13_nameDeclaration_c3.2.1 ow_12_0_26 oa_12_0_26 ot_0 h (fun h => ?_)
  refine kz_bi (M := kt_M474) 32 kX13_nameDeclaration_c3.2.2.1 rfl ?_
  refine kz_icmp_ne (M := kt_M474) kX13_nameDeclaration_c3.2.2.2.1 (t := 91) rfl h (fun h => ?_) (fun h => ?_)
  · skip
    refine kz_aload_n (M := kt_M474) kX13_nameDeclaration_c3.2.2.2.2.2.2.1 rfl ?_
    refine kz_aload_n (M := kt_M474) kX13_nameDeclaration_c3.2.2.2.2.2.2.2.1 rfl ?_
    refine kz_gfc (M := kt_M474) (x := 4105) (c := 12) (o := 0) kX13_nameDeclaration_c4.1 wf_X13_208 (.inl rfl) ?_
    refine kz_iload_n (M := kt_M474) kX13_nameDeclaration_c4.2.1 rfl ?_
    refine kz_iald (M := kt_M474) (c := 12) (o := 0) (k := 33) (a := (E.2.1 4105)) kX13_nameDeclaration_c4.2.2.1 ow_12_0_33 oa_12_0_33 ot_0 h (fun h => ?_)
    refine kz_iload_n (M := kt_M474) kX13_nameDeclaration_c4.2.2.2.1 rfl ?_
    refine kz_cv1 (M := kt_M474) (c := 12) (o := 0) (As := [.int (w_a w 12 0 33 (x1).toNatClampNeg), .int x2]) (rest := []) kX13_nameDeclaration_c4.2.2.2.2.1 wl_X13_790 wMv_454 rfl (.inl rfl) rfl (Nat.le_trans (Nat.le_of_ble_eq_true rfl) hL) (Nat.le_of_ble_eq_true rfl) (Nat.le_of_ble_eq_true rfl) h (fun v2 w1 hle h => ?_) (fun _ _ _ h => kzx_no rfl h)
    have h := h hle
    exact kz_weak [(0, .ref (w_adr E.2.1 12 0)), (1, .int x1), (2, .int x2)] ⟨rfl, ⟨rfl, ⟨rfl, trivial⟩⟩⟩ rfl (zt_X13_nameDeclaration_p102 hL  h)
  · skip
    refine kz_ic (M := kt_M474) 0 kX13_nameDeclaration_c3.2.2.2.2.1 rfl ?_
    refine kz_goto (M := kt_M474) kX13_nameDeclaration_c3.2.2.2.2.2.1 (t := 102) rfl ?_
    exact kz_weak [(0, .ref (w_adr E.2.1 12 0)), (1, .int x1), (2, .int x2)] ⟨rfl, ⟨rfl, ⟨rfl, trivial⟩⟩⟩ rfl (zt_X13_nameDeclaration_p102 hL  h)
def zb_X13_nameDeclaration_p0 (E : zE) (L : Nat) (Q : kx_Rs → wS → Prop) (x1 : Int32) (w : wS) : Prop := (kx_inb x1 (w_n w 12 0 27) = true ∧ (kx_inb x1 (w_n w 12 0 26) = true ∧ (if w_a w 12 0 26 (x1).toNatClampNeg = 30 then (kx_inb x1 (w_n w 12 0 28) = true ∧ (if w_a w 12 0 28 (x1).toNatClampNeg < 0 then zb_X13_nameDeclaration_p76 E L Q x1 (w_a w 12 0 27 (x1).toNatClampNeg) w else (kx_inb x1 (w_n w 12 0 28) = true ∧ zw E (L - 24) kt_M476 [.ref (w_adr E.2.1 12 0), .int (w_a w 12 0 28 (x1).toNatClampNeg), .int 0] w (wk0 (fun w1 => wle w w1 → zb_X13_nameDeclaration_p76 E L Q x1 (w_a w 12 0 27 (x1).toNatClampNeg) w1) (fun e w => Q (.inr e) w))))) else (if w_a w 12 0 26 (x1).toNatClampNeg = 31 then (kx_inb x1 (w_n w 12 0 28) = true ∧ (if w_a w 12 0 28 (x1).toNatClampNeg < 0 then zb_X13_nameDeclaration_p76 E L Q x1 (w_a w 12 0 27 (x1).toNatClampNeg) w else (kx_inb x1 (w_n w 12 0 28) = true ∧ zw E (L - 24) kt_M476 [.ref (w_adr E.2.1 12 0), .int (w_a w 12 0 28 (x1).toNatClampNeg), .int 0] w (wk0 (fun w3 => wle w w3 → zb_X13_nameDeclaration_p76 E L Q x1 (w_a w 12 0 27 (x1).toNatClampNeg) w3) (fun e w => Q (.inr e) w))))) else (if w_a w 12 0 26 (x1).toNatClampNeg = 32 then (kx_inb x1 (w_n w 12 0 28) = true ∧ (if w_a w 12 0 28 (x1).toNatClampNeg < 0 then zb_X13_nameDeclaration_p76 E L Q x1 (w_a w 12 0 27 (x1).toNatClampNeg) w else (kx_inb x1 (w_n w 12 0 28) = true ∧ zw E (L - 24) kt_M476 [.ref (w_adr E.2.1 12 0), .int (w_a w 12 0 28 (x1).toNatClampNeg), .int 0] w (wk0 (fun w5 => wle w w5 → zb_X13_nameDeclaration_p76 E L Q x1 (w_a w 12 0 27 (x1).toNatClampNeg) w5) (fun e w => Q (.inr e) w))))) else (if w_a w 12 0 26 (x1).toNatClampNeg = 33 then (kx_inb x1 (w_n w 12 0 28) = true ∧ zw E (L - 24) kt_M476 [.ref (w_adr E.2.1 12 0), .int (w_a w 12 0 28 (x1).toNatClampNeg), .int 0] w (wk0 (fun w7 => wle w w7 → (kx_inb x1 (w_n w7 12 0 30) = true ∧ (kx_inb x1 (w_n w7 12 0 33) = true ∧ (kx_inb x1 (w_n w7 12 0 34) = true ∧ (if ((w_a w7 12 0 34 (x1).toNatClampNeg) &&& 1) = 0 then zb_X13_nameDeclaration_p343 E L Q x1 (w_a w 12 0 27 (x1).toNatClampNeg) (-1) (w_a w7 12 0 33 (x1).toNatClampNeg) 2 (w_a w7 12 0 30 (x1).toNatClampNeg) x1 w7 else zb_X13_nameDeclaration_p343 E L Q x1 (w_a w 12 0 27 (x1).toNatClampNeg) (-2) (w_a w7 12 0 33 (x1).toNatClampNeg) 2 (w_a w7 12 0 30 (x1).toNatClampNeg) x1 w7))))) (fun e w => Q (.inr e) w))) else (if w_a w 12 0 26 (x1).toNatClampNeg = 34 then (kx_inb x1 (w_n w 12 0 34) = true ∧ (if ((w_a w 12 0 34 (x1).toNatClampNeg) &&& 2) = 0 then zb_X13_nameDeclaration_p385 E L Q x1 (w_a w 12 0 27 (x1).toNatClampNeg) 0 w else zb_X13_nameDeclaration_p385 E L Q x1 (w_a w 12 0 27 (x1).toNatClampNeg) 1 w)) else (if w_a w 12 0 26 (x1).toNatClampNeg = 35 then (kx_inb x1 (w_n w 12 0 29) = true ∧ zw E (L - 22) kt_M483 [.ref (w_adr E.2.1 12 0), .int (w_a w 12 0 29 (x1).toNatClampNeg)] w (wk0 (fun w9 => wle w w9 → (kx_inb x1 (w_n w9 12 0 30) = true ∧ zw E (L - 28) kt_M550 [.ref (w_adr E.2.1 12 0), .int (w_a w9 12 0 30 (x1).toNatClampNeg), .int 5, .int (-1), .int (-1), .int x1, .int (w_a w 12 0 27 (x1).toNatClampNeg)] w9 (wk1 (fun v12 w11 => wle w9 w11 → (kx_inb x1 (w_n w11 12 0 31) = true ∧ zb_X13_nameDeclaration_p560 E L Q x1 (ws_a w11 12 0 31 (x1).toNatClampNeg v12))) (fun e w => Q (.inr e) w)))) (fun e w => Q (.inr e) w))) else (if w_a w 12 0 26 (x1).toNatClampNeg = 36 then (kx_inb x1 (w_n w 12 0 30) = true ∧ zw E (L - 28) kt_M550 [.ref (w_adr E.2.1 12 0), .int (w_a w 12 0 30 (x1).toNatClampNeg), .int 5, .int (-1), .int (-1), .int x1, .int (w_a w 12 0 27 (x1).toNatClampNeg)] w (wk1 (fun v14 w13 => wle w w13 → (kx_inb x1 (w_n w13 12 0 31) = true ∧ zw E (L - 24) kt_M485 [.ref (w_adr E.2.1 12 0), .int x1] (ws_a w13 12 0 31 (x1).toNatClampNeg v14) (wk0 (fun w15 => wle (ws_a w13 12 0 31 (x1).toNatClampNeg v14) w15 → Q (.inl none) (ws_i w15 12 0 58 ((w_i w15 12 0 58) + 1))) (fun e w => Q (.inr e) w)))) (fun e w => Q (.inr e) w))) else zw E (L - 25) kt_M486 [.ref (w_adr E.2.1 12 0), .int x1] w (wk0 (fun w17 => wle w w17 → zb_X13_nameDeclaration_p560 E L Q x1 w17) (fun e w => Q (.inr e) w)))))))))))
theorem zt_X13_nameDeclaration_p0 {E : zE} {L : Nat} {Q : kx_Rs → wS → Prop} {x1 : Int32} {w : wS} (hL : 28 ≤ L) (h : zb_X13_nameDeclaration_p0 E L Q x1 w) : kzE E L kt_M474 0 [(0, .ref (w_adr E.2.1 12 0)), (1, .int x1)] [] w Q := by
  unfold zb_X13_nameDeclaration_p0 at h
  refine kz_aload_n (M := kt_M474) kX13_nameDeclaration_c0.1 rfl ?_
  refine kz_gfc (M := kt_M474) (x := 4099) (c := 12) (o := 0) kX13_nameDeclaration_c0.2.1 wf_X13_190 (.inl rfl) ?_
  refine kz_iload_n (M := kt_M474) kX13_nameDeclaration_c0.2.2.1 rfl ?_
  refine kz_iald (M := kt_M474) (c := 12) (o := 0) (k := 27) (a := (E.2.1 4099)) kX13_nameDeclaration_c0.2.2.2.1 ow_12_0_27 oa_12_0_27 ot_0 h (fun h => ?_)
  refine kz_sti_n (M := kt_M474) [(0, .ref (w_adr E.2.1 12 0)), (1, .int x1)] kX13_nameDeclaration_c0.2.2.2.2.1 (Nat.le_of_ble_eq_true rfl) ⟨⟨rfl, rfl, .inl rfl⟩, ⟨⟨rfl, rfl, .inr rfl⟩, trivial⟩⟩ rfl ?_
  refine kz_aload_n (M := kt_M474) kX13_nameDeclaration_c0.2.2.2.2.2.1 rfl ?_
  refine kz_gfc (M := kt_M474) (x := 4098) (c := 12) (o := 0) kX13_nameDeclaration_c0.2.2.2.2.2.2.1 wf_X13_187 (.inl rfl) ?_
  refine kz_iload_n (M := kt_M474) kX13_nameDeclaration_c0.2.2.2.2.2.2.2.1 rfl ?_
  refine kz_iald (M := kt_M474) (c := 12) (o := 0) (k := 26) (a := (E.2.1 4098)) kX13_nameDeclaration_c1.1 ow_12_0_26 oa_12_0_26 ot_0 h (fun h => ?_)
  refine kz_tsw (M := kt_M474) [(30, 56), (31, 56), (32, 56), (33, 296), (34, 369), (35, 484), (36, 518)] [_, _, _, _, _, _, _] 555 dX13_nameDeclaration_p13 (by decide +kernel) h ⟨fun h => ?_, fun h => ?_, fun h => ?_, fun h => ?_, fun h => ?_, fun h => ?_, fun h => ?_, trivial⟩ (fun h => ?_)
  · skip
    refine kz_aload_n (M := kt_M474) kX13_nameDeclaration_c1.2.2.1 rfl ?_
    refine kz_gfc (M := kt_M474) (x := 4100) (c := 12) (o := 0) kX13_nameDeclaration_c1.2.2.2.1 wf_X13_193 (.inl rfl) ?_
    refine kz_iload_n (M := kt_M474) kX13_nameDeclaration_c1.2.2.2.2.1 rfl ?_
    refine kz_iald (M := kt_M474) (c := 12) (o := 0) (k := 28) (a := (E.2.1 4100)) kX13_nameDeclaration_c1.2.2.2.2.2.1 ow_12_0_28 oa_12_0_28 ot_0 h (fun h => ?_)
    refine kz_if_lt (M := kt_M474) kX13_nameDeclaration_c1.2.2.2.2.2.2.1 (t := 76) rfl h (fun h => ?_) (fun h => ?_)
    · skip
      exact kz_weak [(0, .ref (w_adr E.2.1 12 0)), (1, .int x1), (2, .int (w_a w 12 0 27 (x1).toNatClampNeg))] ⟨rfl, ⟨rfl, ⟨rfl, trivial⟩⟩⟩ rfl (zt_X13_nameDeclaration_p76 hL  h)
    · skip
      refine kz_aload_n (M := kt_M474) kX13_nameDeclaration_c1.2.2.2.2.2.2.2.1 rfl ?_
      refine kz_aload_n (M := kt_M474) kX13_nameDeclaration_c2.1 rfl ?_
      refine kz_gfc (M := kt_M474) (x := 4100) (c := 12) (o := 0) kX13_nameDeclaration_c2.2.1 wf_X13_193 (.inl rfl) ?_
      refine kz_iload_n (M := kt_M474) kX13_nameDeclaration_c2.2.2.1 rfl ?_
      refine kz_iald (M := kt_M474) (c := 12) (o := 0) (k := 28) (a := (E.2.1 4100)) kX13_nameDeclaration_c2.2.2.2.1 ow_12_0_28 oa_12_0_28 ot_0 h (fun h => ?_)
      refine kz_ic (M := kt_M474) 0 kX13_nameDeclaration_c2.2.2.2.2.1 rfl ?_
      refine kz_cv0 (M := kt_M474) (c := 12) (o := 0) (As := [.int (w_a w 12 0 28 (x1).toNatClampNeg), .int 0]) (rest := []) kX13_nameDeclaration_c2.2.2.2.2.2.1 wl_X13_743 wMv_476 rfl (.inl rfl) rfl (Nat.le_trans (Nat.le_of_ble_eq_true rfl) hL) (Nat.le_of_ble_eq_true rfl) (Nat.le_of_ble_eq_true rfl) h (fun w1 hle h => ?_) (fun _ _ _ h => kzx_no rfl h)
      have h := h hle
      exact kz_weak [(0, .ref (w_adr E.2.1 12 0)), (1, .int x1), (2, .int (w_a w 12 0 27 (x1).toNatClampNeg))] ⟨rfl, ⟨rfl, ⟨rfl, trivial⟩⟩⟩ rfl (zt_X13_nameDeclaration_p76 hL  h)
  · skip
    refine kz_aload_n (M := kt_M474) kX13_nameDeclaration_c1.2.2.1 rfl ?_
    refine kz_gfc (M := kt_M474) (x := 4100) (c := 12) (o := 0) kX13_nameDeclaration_c1.2.2.2.1 wf_X13_193 (.inl rfl) ?_
    refine kz_iload_n (M := kt_M474) kX13_nameDeclaration_c1.2.2.2.2.1 rfl ?_
    refine kz_iald (M := kt_M474) (c := 12) (o := 0) (k := 28) (a := (E.2.1 4100)) kX13_nameDeclaration_c1.2.2.2.2.2.1 ow_12_0_28 oa_12_0_28 ot_0 h (fun h => ?_)
    refine kz_if_lt (M := kt_M474) kX13_nameDeclaration_c1.2.2.2.2.2.2.1 (t := 76) rfl h (fun h => ?_) (fun h => ?_)
    · skip
      exact kz_weak [(0, .ref (w_adr E.2.1 12 0)), (1, .int x1), (2, .int (w_a w 12 0 27 (x1).toNatClampNeg))] ⟨rfl, ⟨rfl, ⟨rfl, trivial⟩⟩⟩ rfl (zt_X13_nameDeclaration_p76 hL  h)
    · skip
      refine kz_aload_n (M := kt_M474) kX13_nameDeclaration_c1.2.2.2.2.2.2.2.1 rfl ?_
      refine kz_aload_n (M := kt_M474) kX13_nameDeclaration_c2.1 rfl ?_
      refine kz_gfc (M := kt_M474) (x := 4100) (c := 12) (o := 0) kX13_nameDeclaration_c2.2.1 wf_X13_193 (.inl rfl) ?_
      refine kz_iload_n (M := kt_M474) kX13_nameDeclaration_c2.2.2.1 rfl ?_
      refine kz_iald (M := kt_M474) (c := 12) (o := 0) (k := 28) (a := (E.2.1 4100)) kX13_nameDeclaration_c2.2.2.2.1 ow_12_0_28 oa_12_0_28 ot_0 h (fun h => ?_)
      refine kz_ic (M := kt_M474) 0 kX13_nameDeclaration_c2.2.2.2.2.1 rfl ?_
      refine kz_cv0 (M := kt_M474) (c := 12) (o := 0) (As := [.int (w_a w 12 0 28 (x1).toNatClampNeg), .int 0]) (rest := []) kX13_nameDeclaration_c2.2.2.2.2.2.1 wl_X13_743 wMv_476 rfl (.inl rfl) rfl (Nat.le_trans (Nat.le_of_ble_eq_true rfl) hL) (Nat.le_of_ble_eq_true rfl) (Nat.le_of_ble_eq_true rfl) h (fun w3 hle h => ?_) (fun _ _ _ h => kzx_no rfl h)
      have h := h hle
      exact kz_weak [(0, .ref (w_adr E.2.1 12 0)), (1, .int x1), (2, .int (w_a w 12 0 27 (x1).toNatClampNeg))] ⟨rfl, ⟨rfl, ⟨rfl, trivial⟩⟩⟩ rfl (zt_X13_nameDeclaration_p76 hL  h)
  · skip
    refine kz_aload_n (M := kt_M474) kX13_nameDeclaration_c1.2.2.1 rfl ?_
    refine kz_gfc (M := kt_M474) (x := 4100) (c := 12) (o := 0) kX13_nameDeclaration_c1.2.2.2.1 wf_X13_193 (.inl rfl) ?_
    refine kz_iload_n (M := kt_M474) kX13_nameDeclaration_c1.2.2.2.2.1 rfl ?_
    refine kz_iald (M := kt_M474) (c := 12) (o := 0) (k := 28) (a := (E.2.1 4100)) kX13_nameDeclaration_c1.2.2.2.2.2.1 ow_12_0_28 oa_12_0_28 ot_0 h (fun h => ?_)
    refine kz_if_lt (M := kt_M474) kX13_nameDeclaration_c1.2.2.2.2.2.2.1 (t := 76) rfl h (fun h => ?_) (fun h => ?_)
    · skip
      exact kz_weak [(0, .ref (w_adr E.2.1 12 0)), (1, .int x1), (2, .int (w_a w 12 0 27 (x1).toNatClampNeg))] ⟨rfl, ⟨rfl, ⟨rfl, trivial⟩⟩⟩ rfl (zt_X13_nameDeclaration_p76 hL  h)
    · skip
      refine kz_aload_n (M := kt_M474) kX13_nameDeclaration_c1.2.2.2.2.2.2.2.1 rfl ?_
      refine kz_aload_n (M := kt_M474) kX13_nameDeclaration_c2.1 rfl ?_
      refine kz_gfc (M := kt_M474) (x := 4100) (c := 12) (o := 0) kX13_nameDeclaration_c2.2.1 wf_X13_193 (.inl rfl) ?_
      refine kz_iload_n (M := kt_M474) kX13_nameDeclaration_c2.2.2.1 rfl ?_
      refine kz_iald (M := kt_M474) (c := 12) (o := 0) (k := 28) (a := (E.2.1 4100)) kX13_nameDeclaration_c2.2.2.2.1 ow_12_0_28 oa_12_0_28 ot_0 h (fun h => ?_)
      refine kz_ic (M := kt_M474) 0 kX13_nameDeclaration_c2.2.2.2.2.1 rfl ?_
      refine kz_cv0 (M := kt_M474) (c := 12) (o := 0) (As := [.int (w_a w 12 0 28 (x1).toNatClampNeg), .int 0]) (rest := []) kX13_nameDeclaration_c2.2.2.2.2.2.1 wl_X13_743 wMv_476 rfl (.inl rfl) rfl (Nat.le_trans (Nat.le_of_ble_eq_true rfl) hL) (Nat.le_of_ble_eq_true rfl) (Nat.le_of_ble_eq_true rfl) h (fun w5 hle h => ?_) (fun _ _ _ h => kzx_no rfl h)
      have h := h hle
      exact kz_weak [(0, .ref (w_adr E.2.1 12 0)), (1, .int x1), (2, .int (w_a w 12 0 27 (x1).toNatClampNeg))] ⟨rfl, ⟨rfl, ⟨rfl, trivial⟩⟩⟩ rfl (zt_X13_nameDeclaration_p76 hL  h)
  · skip
    refine kz_aload_n (M := kt_M474) kX13_nameDeclaration_c17.2.2.2.2.2.2.2.1 rfl ?_
    refine kz_aload_n (M := kt_M474) kX13_nameDeclaration_c18.1 rfl ?_
    refine kz_gfc (M := kt_M474) (x := 4100) (c := 12) (o := 0) kX13_nameDeclaration_c18.2.1 wf_X13_193 (.inl rfl) ?_
    refine kz_iload_n (M := kt_M474) kX13_nameDeclaration_c18.2.2.1 rfl ?_
    refine kz_iald (M := kt_M474) (c := 12) (o := 0) (k := 28) (a := (E.2.1 4100)) kX13_nameDeclaration_c18.2.2.2.1 ow_12_0_28 oa_12_0_28 ot_0 h (fun h => ?_)
    refine kz_ic (M := kt_M474) 0 kX13_nameDeclaration_c18.2.2.2.2.1 rfl ?_
    refine kz_cv0 (M := kt_M474) (c := 12) (o := 0) (As := [.int (w_a w 12 0 28 (x1).toNatClampNeg), .int 0]) (rest := []) kX13_nameDeclaration_c18.2.2.2.2.2.1 wl_X13_743 wMv_476 rfl (.inl rfl) rfl (Nat.le_trans (Nat.le_of_ble_eq_true rfl) hL) (Nat.le_of_ble_eq_true rfl) (Nat.le_of_ble_eq_true rfl) h (fun w7 hle h => ?_) (fun _ _ _ h => kzx_no rfl h)
    have h := h hle
    refine kz_aload_n (M := kt_M474) kX13_nameDeclaration_c18.2.2.2.2.2.2.1 rfl ?_
    refine kz_gfc (M := kt_M474) (x := 4103) (c := 12) (o := 0) kX13_nameDeclaration_c18.2.2.2.2.2.2.2.1 wf_X13_202 (.inl rfl) ?_
    refine kz_iload_n (M := kt_M474) kX13_nameDeclaration_c19.1 rfl ?_
    refine kz_aload_n (M := kt_M474) kX13_nameDeclaration_c19.2.1 rfl ?_
    refine kz_aload_n (M := kt_M474) kX13_nameDeclaration_c19.2.2.1 rfl ?_
    refine kz_gfc (M := kt_M474) (x := 4102) (c := 12) (o := 0) kX13_nameDeclaration_c19.2.2.2.1 wf_X13_199 (.inl rfl) ?_
    refine kz_iload_n (M := kt_M474) kX13_nameDeclaration_c19.2.2.2.2.1 rfl ?_
    refine kz_iald (M := kt_M474) (c := 12) (o := 0) (k := 30) (a := (E.2.1 4102)) kX13_nameDeclaration_c19.2.2.2.2.2.1 ow_12_0_30 oa_12_0_30 ot_0 h (fun h => ?_)
    refine kz_ic (M := kt_M474) 2 kX13_nameDeclaration_c19.2.2.2.2.2.2.1 rfl ?_
    refine kz_aload_n (M := kt_M474) kX13_nameDeclaration_c19.2.2.2.2.2.2.2.1 rfl ?_
    refine kz_gfc (M := kt_M474) (x := 4105) (c := 12) (o := 0) kX13_nameDeclaration_c20.1 wf_X13_208 (.inl rfl) ?_
    refine kz_iload_n (M := kt_M474) kX13_nameDeclaration_c20.2.1 rfl ?_
    refine kz_iald (M := kt_M474) (c := 12) (o := 0) (k := 33) (a := (E.2.1 4105)) kX13_nameDeclaration_c20.2.2.1 ow_12_0_33 oa_12_0_33 ot_0 h (fun h => ?_)
    refine kz_aload_n (M := kt_M474) kX13_nameDeclaration_c20.2.2.2.1 rfl ?_
    refine kz_gfc (M := kt_M474) (x := 4106) (c := 12) (o := 0) kX13_nameDeclaration_c20.2.2.2.2.1 wf_X13_211 (.inl rfl) ?_
    refine kz_iload_n (M := kt_M474) kX13_nameDeclaration_c20.2.2.2.2.2.1 rfl ?_
    refine kz_iald (M := kt_M474) (c := 12) (o := 0) (k := 34) (a := (E.2.1 4106)) kX13_nameDeclaration_c20.2.2.2.2.2.2.1 ow_12_0_34 oa_12_0_34 ot_0 h (fun h => ?_)
    refine kz_ic (M := kt_M474) 1 kX13_nameDeclaration_c20.2.2.2.2.2.2.2.1 rfl ?_
    refine kz_iand (M := kt_M474) kX13_nameDeclaration_c21.1 ?_
    refine kz_if_eq (M := kt_M474) kX13_nameDeclaration_c21.2.1 (t := 342) rfl h (fun h => ?_) (fun h => ?_)
    · skip
      refine kz_ic (M := kt_M474) (-1) kX13_nameDeclaration_c21.2.2.2.2.1 rfl ?_
      exact kz_weak [(0, .ref (w_adr E.2.1 12 0)), (1, .int x1), (2, .int (w_a w 12 0 27 (x1).toNatClampNeg))] ⟨rfl, ⟨rfl, ⟨rfl, trivial⟩⟩⟩ rfl (zt_X13_nameDeclaration_p343 hL  h)
    · skip
      refine kz_bi (M := kt_M474) (-2) kX13_nameDeclaration_c21.2.2.1 rfl ?_
      refine kz_goto (M := kt_M474) kX13_nameDeclaration_c21.2.2.2.1 (t := 343) rfl ?_
      exact kz_weak [(0, .ref (w_adr E.2.1 12 0)), (1, .int x1), (2, .int (w_a w 12 0 27 (x1).toNatClampNeg))] ⟨rfl, ⟨rfl, ⟨rfl, trivial⟩⟩⟩ rfl (zt_X13_nameDeclaration_p343 hL  h)
  · skip
    refine kz_aload_n (M := kt_M474) kX13_nameDeclaration_c23.2.2.2.2.2.1 rfl ?_
    refine kz_gfc (M := kt_M474) (x := 4106) (c := 12) (o := 0) kX13_nameDeclaration_c23.2.2.2.2.2.2.1 wf_X13_211 (.inl rfl) ?_
    refine kz_iload_n (M := kt_M474) kX13_nameDeclaration_c23.2.2.2.2.2.2.2.1 rfl ?_
    refine kz_iald (M := kt_M474) (c := 12) (o := 0) (k := 34) (a := (E.2.1 4106)) kX13_nameDeclaration_c24.1 ow_12_0_34 oa_12_0_34 ot_0 h (fun h => ?_)
    refine kz_ic (M := kt_M474) 2 kX13_nameDeclaration_c24.2.1 rfl ?_
    refine kz_iand (M := kt_M474) kX13_nameDeclaration_c24.2.2.1 ?_
    refine kz_if_eq (M := kt_M474) kX13_nameDeclaration_c24.2.2.2.1 (t := 384) rfl h (fun h => ?_) (fun h => ?_)
    · skip
      refine kz_ic (M := kt_M474) 0 kX13_nameDeclaration_c24.2.2.2.2.2.2.1 rfl ?_
      exact kz_weak [(0, .ref (w_adr E.2.1 12 0)), (1, .int x1), (2, .int (w_a w 12 0 27 (x1).toNatClampNeg))] ⟨rfl, ⟨rfl, ⟨rfl, trivial⟩⟩⟩ rfl (zt_X13_nameDeclaration_p385 hL  h)
    · skip
      refine kz_ic (M := kt_M474) 1 kX13_nameDeclaration_c24.2.2.2.2.1 rfl ?_
      refine kz_goto (M := kt_M474) kX13_nameDeclaration_c24.2.2.2.2.2.1 (t := 385) rfl ?_
      exact kz_weak [(0, .ref (w_adr E.2.1 12 0)), (1, .int x1), (2, .int (w_a w 12 0 27 (x1).toNatClampNeg))] ⟨rfl, ⟨rfl, ⟨rfl, trivial⟩⟩⟩ rfl (zt_X13_nameDeclaration_p385 hL  h)
  · skip
    refine kz_aload_n (M := kt_M474) kX13_nameDeclaration_c32.2.2.2.1 rfl ?_
    refine kz_aload_n (M := kt_M474) kX13_nameDeclaration_c32.2.2.2.2.1 rfl ?_
    refine kz_gfc (M := kt_M474) (x := 4101) (c := 12) (o := 0) kX13_nameDeclaration_c32.2.2.2.2.2.1 wf_X13_196 (.inl rfl) ?_
    refine kz_iload_n (M := kt_M474) kX13_nameDeclaration_c32.2.2.2.2.2.2.1 rfl ?_
    refine kz_iald (M := kt_M474) (c := 12) (o := 0) (k := 29) (a := (E.2.1 4101)) kX13_nameDeclaration_c32.2.2.2.2.2.2.2.1 ow_12_0_29 oa_12_0_29 ot_0 h (fun h => ?_)
    refine kz_cv0 (M := kt_M474) (c := 12) (o := 0) (As := [.int (w_a w 12 0 29 (x1).toNatClampNeg)]) (rest := []) kX13_nameDeclaration_c33.1 wl_X13_796 wMv_483 rfl (.inl rfl) rfl (Nat.le_trans (Nat.le_of_ble_eq_true rfl) hL) (Nat.le_of_ble_eq_true rfl) (Nat.le_of_ble_eq_true rfl) h (fun w9 hle h => ?_) (fun _ _ _ h => kzx_no rfl h)
    have h := h hle
    refine kz_aload_n (M := kt_M474) kX13_nameDeclaration_c33.2.1 rfl ?_
    refine kz_gfc (M := kt_M474) (x := 4103) (c := 12) (o := 0) kX13_nameDeclaration_c33.2.2.1 wf_X13_202 (.inl rfl) ?_
    refine kz_iload_n (M := kt_M474) kX13_nameDeclaration_c33.2.2.2.1 rfl ?_
    refine kz_aload_n (M := kt_M474) kX13_nameDeclaration_c33.2.2.2.2.1 rfl ?_
    refine kz_aload_n (M := kt_M474) kX13_nameDeclaration_c33.2.2.2.2.2.1 rfl ?_
    refine kz_gfc (M := kt_M474) (x := 4102) (c := 12) (o := 0) kX13_nameDeclaration_c33.2.2.2.2.2.2.1 wf_X13_199 (.inl rfl) ?_
    refine kz_iload_n (M := kt_M474) kX13_nameDeclaration_c33.2.2.2.2.2.2.2.1 rfl ?_
    refine kz_iald (M := kt_M474) (c := 12) (o := 0) (k := 30) (a := (E.2.1 4102)) kX13_nameDeclaration_c34.1 ow_12_0_30 oa_12_0_30 ot_0 h (fun h => ?_)
    refine kz_ic (M := kt_M474) 5 kX13_nameDeclaration_c34.2.1 rfl ?_
    refine kz_ic (M := kt_M474) (-1) kX13_nameDeclaration_c34.2.2.1 rfl ?_
    refine kz_ic (M := kt_M474) (-1) kX13_nameDeclaration_c34.2.2.2.1 rfl ?_
    refine kz_iload_n (M := kt_M474) kX13_nameDeclaration_c34.2.2.2.2.1 rfl ?_
    refine kz_iload_n (M := kt_M474) kX13_nameDeclaration_c34.2.2.2.2.2.1 rfl ?_
    refine kz_cv1 (M := kt_M474) (c := 12) (o := 0) (As := [.int (w_a w9 12 0 30 (x1).toNatClampNeg), .int 5, .int (-1), .int (-1), .int x1, .int (w_a w 12 0 27 (x1).toNatClampNeg)]) (rest := [.int x1, .ref (E.2.1 4103)]) kX13_nameDeclaration_c34.2.2.2.2.2.2.1 wl_X13_759 wMv_550 rfl (.inl rfl) rfl (Nat.le_trans (Nat.le_of_ble_eq_true rfl) hL) (Nat.le_of_ble_eq_true rfl) (Nat.le_of_ble_eq_true rfl) h (fun v12 w11 hle h => ?_) (fun _ _ _ h => kzx_no rfl h)
    have h := h hle
    refine kz_iast (M := kt_M474) (c := 12) (o := 0) (k := 31) (a := (E.2.1 4103)) kX13_nameDeclaration_c34.2.2.2.2.2.2.2.1 ow_12_0_31 oa_12_0_31 ot_0 h (fun h => ?_)
    refine kz_goto (M := kt_M474) kX13_nameDeclaration_c35.1 (t := 560) rfl ?_
    exact kz_weak [(0, .ref (w_adr E.2.1 12 0)), (1, .int x1)] ⟨rfl, ⟨rfl, trivial⟩⟩ rfl (zt_X13_nameDeclaration_p560 hL  h)
  · skip
    refine kz_aload_n (M := kt_M474) kX13_nameDeclaration_c35.2.1 rfl ?_
    refine kz_gfc (M := kt_M474) (x := 4103) (c := 12) (o := 0) kX13_nameDeclaration_c35.2.2.1 wf_X13_202 (.inl rfl) ?_
    refine kz_iload_n (M := kt_M474) kX13_nameDeclaration_c35.2.2.2.1 rfl ?_
    refine kz_aload_n (M := kt_M474) kX13_nameDeclaration_c35.2.2.2.2.1 rfl ?_
    refine kz_aload_n (M := kt_M474) kX13_nameDeclaration_c35.2.2.2.2.2.1 rfl ?_
    refine kz_gfc (M := kt_M474) (x := 4102) (c := 12) (o := 0) kX13_nameDeclaration_c35.2.2.2.2.2.2.1 wf_X13_199 (.inl rfl) ?_
    refine kz_iload_n (M := kt_M474) kX13_nameDeclaration_c35.2.2.2.2.2.2.2.1 rfl ?_
    refine kz_iald (M := kt_M474) (c := 12) (o := 0) (k := 30) (a := (E.2.1 4102)) kX13_nameDeclaration_c36.1 ow_12_0_30 oa_12_0_30 ot_0 h (fun h => ?_)
    refine kz_ic (M := kt_M474) 5 kX13_nameDeclaration_c36.2.1 rfl ?_
    refine kz_ic (M := kt_M474) (-1) kX13_nameDeclaration_c36.2.2.1 rfl ?_
    refine kz_ic (M := kt_M474) (-1) kX13_nameDeclaration_c36.2.2.2.1 rfl ?_
    refine kz_iload_n (M := kt_M474) kX13_nameDeclaration_c36.2.2.2.2.1 rfl ?_
    refine kz_iload_n (M := kt_M474) kX13_nameDeclaration_c36.2.2.2.2.2.1 rfl ?_
    refine kz_cv1 (M := kt_M474) (c := 12) (o := 0) (As := [.int (w_a w 12 0 30 (x1).toNatClampNeg), .int 5, .int (-1), .int (-1), .int x1, .int (w_a w 12 0 27 (x1).toNatClampNeg)]) (rest := [.int x1, .ref (E.2.1 4103)]) kX13_nameDeclaration_c36.2.2.2.2.2.2.1 wl_X13_759 wMv_550 rfl (.inl rfl) rfl (Nat.le_trans (Nat.le_of_ble_eq_true rfl) hL) (Nat.le_of_ble_eq_true rfl) (Nat.le_of_ble_eq_true rfl) h (fun v14 w13 hle h => ?_) (fun _ _ _ h => kzx_no rfl h)
    have h := h hle
    refine kz_iast (M := kt_M474) (c := 12) (o := 0) (k := 31) (a := (E.2.1 4103)) kX13_nameDeclaration_c36.2.2.2.2.2.2.2.1 ow_12_0_31 oa_12_0_31 ot_0 h (fun h => ?_)
    refine kz_aload_n (M := kt_M474) kX13_nameDeclaration_c37.1 rfl ?_
    refine kz_iload_n (M := kt_M474) kX13_nameDeclaration_c37.2.1 rfl ?_
    refine kz_cv0 (M := kt_M474) (c := 12) (o := 0) (As := [.int x1]) (rest := []) kX13_nameDeclaration_c37.2.2.1 wl_X13_799 wMv_485 rfl (.inl rfl) rfl (Nat.le_trans (Nat.le_of_ble_eq_true rfl) hL) (Nat.le_of_ble_eq_true rfl) (Nat.le_of_ble_eq_true rfl) h (fun w15 hle h => ?_) (fun _ _ _ h => kzx_no rfl h)
    have h := h hle
    refine kz_aload_n (M := kt_M474) kX13_nameDeclaration_c37.2.2.2.1 rfl ?_
    refine kz_dup (M := kt_M474) kX13_nameDeclaration_c37.2.2.2.2.1 rfl ?_
    refine kz_gfi (M := kt_M474) (c := 12) (o := 0) kX13_nameDeclaration_c37.2.2.2.2.2.1 wf_X13_793 (.inl rfl) ?_
    refine kz_ic (M := kt_M474) 1 kX13_nameDeclaration_c37.2.2.2.2.2.2.1 rfl ?_
    refine kz_iadd (M := kt_M474) kX13_nameDeclaration_c37.2.2.2.2.2.2.2.1 ?_
    refine kz_pfi (M := kt_M474) (c := 12) (o := 0) kX13_nameDeclaration_c38.1 wq_X13_793 (.inl rfl) ?_
    exact kz_ret (M := kt_M474) kX13_nameDeclaration_c38.2.1 rfl h
  · skip
    refine kz_aload_n (M := kt_M474) kX13_nameDeclaration_c38.2.2.1 rfl ?_
    refine kz_iload_n (M := kt_M474) kX13_nameDeclaration_c38.2.2.2.1 rfl ?_
    refine kz_cv0 (M := kt_M474) (c := 12) (o := 0) (As := [.int x1]) (rest := []) kX13_nameDeclaration_c38.2.2.2.2.1 wl_X13_802 wMv_486 rfl (.inl rfl) rfl (Nat.le_trans (Nat.le_of_ble_eq_true rfl) hL) (Nat.le_of_ble_eq_true rfl) (Nat.le_of_ble_eq_true rfl) h (fun w17 hle h => ?_) (fun _ _ _ h => kzx_no rfl h)
    have h := h hle
    exact kz_weak [(0, .ref (w_adr E.2.1 12 0)), (1, .int x1)] ⟨rfl, ⟨rfl, trivial⟩⟩ rfl (zt_X13_nameDeclaration_p560 hL  h)
