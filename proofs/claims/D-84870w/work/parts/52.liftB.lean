/-! ===== methods over the typed state (printed by tools/gen_lift.py) ===== -/
set_option maxRecDepth 100000
theorem wq_X16_15 {adE adK adV : Nat → Nat} {zr : Nat → Value} {b L0 : Nat} {xs : Nat → Int32} {lo : Nat} : wP (kw_V adE adK adV zr b L0 xs lo) wG "MeetingHouse$Node" 15 14 1 0 .int := wPb_ok (by decide +kernel) wf_X16_15 (r := "MeetingHouse$Node") (n := "token") (d := "I") (by decide +kernel) (by decide +kernel)
theorem wq_X16_19 {adE adK adV : Nat → Nat} {zr : Nat → Value} {b L0 : Nat} {xs : Nat → Int32} {lo : Nat} : wP (kw_V adE adK adV zr b L0 xs lo) wG "MeetingHouse$Node" 19 14 2 0 .int := wPb_ok (by decide +kernel) wf_X16_19 (r := "MeetingHouse$Node") (n := "line") (d := "I") (by decide +kernel) (by decide +kernel)
theorem wq_X16_22 {adE adK adV : Nat → Nat} {zr : Nat → Value} {b L0 : Nat} {xs : Nat → Int32} {lo : Nat} : wP (kw_V adE adK adV zr b L0 xs lo) wG "MeetingHouse$Node" 22 14 3 2 (.object "MeetingHouse$Node") := wPb_ok (by decide +kernel) wf_X16_22 (r := "MeetingHouse$Node") (n := "a") (d := "LMeetingHouse$Node;") (by decide +kernel) (by decide +kernel)
theorem wq_X16_26 {adE adK adV : Nat → Nat} {zr : Nat → Value} {b L0 : Nat} {xs : Nat → Int32} {lo : Nat} : wP (kw_V adE adK adV zr b L0 xs lo) wG "MeetingHouse$Node" 26 14 4 2 (.object "MeetingHouse$Node") := wPb_ok (by decide +kernel) wf_X16_26 (r := "MeetingHouse$Node") (n := "b") (d := "LMeetingHouse$Node;") (by decide +kernel) (by decide +kernel)
theorem wq_X16_29 {adE adK adV : Nat → Nat} {zr : Nat → Value} {b L0 : Nat} {xs : Nat → Int32} {lo : Nat} : wP (kw_V adE adK adV zr b L0 xs lo) wG "MeetingHouse$Node" 29 14 5 2 (.object "MeetingHouse$Node") := wPb_ok (by decide +kernel) wf_X16_29 (r := "MeetingHouse$Node") (n := "c") (d := "LMeetingHouse$Node;") (by decide +kernel) (by decide +kernel)
theorem wq_X16_32 {adE adK adV : Nat → Nat} {zr : Nat → Value} {b L0 : Nat} {xs : Nat → Int32} {lo : Nat} : wP (kw_V adE adK adV zr b L0 xs lo) wG "MeetingHouse$Node" 32 14 6 2 (.object "MeetingHouse$Node") := wPb_ok (by decide +kernel) wf_X16_32 (r := "MeetingHouse$Node") (n := "d") (d := "LMeetingHouse$Node;") (by decide +kernel) (by decide +kernel)
theorem wq_X16_35 {adE adK adV : Nat → Nat} {zr : Nat → Value} {b L0 : Nat} {xs : Nat → Int32} {lo : Nat} : wP (kw_V adE adK adV zr b L0 xs lo) wG "MeetingHouse$Node" 35 14 7 2 (.object "MeetingHouse$Node") := wPb_ok (by decide +kernel) wf_X16_35 (r := "MeetingHouse$Node") (n := "next") (d := "LMeetingHouse$Node;") (by decide +kernel) (by decide +kernel)
theorem wq_X16_38 {adE adK adV : Nat → Nat} {zr : Nat → Value} {b L0 : Nat} {xs : Nat → Int32} {lo : Nat} : wP (kw_V adE adK adV zr b L0 xs lo) wG "MeetingHouse$Node" 38 14 8 0 .int := wPb_ok (by decide +kernel) wf_X16_38 (r := "MeetingHouse$Node") (n := "word") (d := "I") (by decide +kernel) (by decide +kernel)
theorem wq_X16_41 {adE adK adV : Nat → Nat} {zr : Nat → Value} {b L0 : Nat} {xs : Nat → Int32} {lo : Nat} : wP (kw_V adE adK adV zr b L0 xs lo) wG "MeetingHouse$Node" 41 14 9 0 .int := wPb_ok (by decide +kernel) wf_X16_41 (r := "MeetingHouse$Node") (n := "name") (d := "I") (by decide +kernel) (by decide +kernel)
theorem wq_X16_44 {adE adK adV : Nat → Nat} {zr : Nat → Value} {b L0 : Nat} {xs : Nat → Int32} {lo : Nat} : wP (kw_V adE adK adV zr b L0 xs lo) wG "MeetingHouse$Node" 44 14 10 0 .int := wPb_ok (by decide +kernel) wf_X16_44 (r := "MeetingHouse$Node") (n := "number") (d := "I") (by decide +kernel) (by decide +kernel)
theorem wq_X16_47 {adE adK adV : Nat → Nat} {zr : Nat → Value} {b L0 : Nat} {xs : Nat → Int32} {lo : Nat} : wP (kw_V adE adK adV zr b L0 xs lo) wG "MeetingHouse$Node" 47 14 11 0 .boolean := wPb_ok (by decide +kernel) wf_X16_47 (r := "MeetingHouse$Node") (n := "flag") (d := "Z") (by decide +kernel) (by decide +kernel)
theorem wq_X16_51 {adE adK adV : Nat → Nat} {zr : Nat → Value} {b L0 : Nat} {xs : Nat → Int32} {lo : Nat} : wP (kw_V adE adK adV zr b L0 xs lo) wG "MeetingHouse$Node" 51 14 12 0 .boolean := wPb_ok (by decide +kernel) wf_X16_51 (r := "MeetingHouse$Node") (n := "bracketed") (d := "Z") (by decide +kernel) (by decide +kernel)
theorem wq_X16_54 {adE adK adV : Nat → Nat} {zr : Nat → Value} {b L0 : Nat} {xs : Nat → Int32} {lo : Nat} : wP (kw_V adE adK adV zr b L0 xs lo) wG "MeetingHouse$Node" 54 14 13 0 .boolean := wPb_ok (by decide +kernel) wf_X16_54 (r := "MeetingHouse$Node") (n := "open") (d := "Z") (by decide +kernel) (by decide +kernel)
theorem wq_X16_57 {adE adK adV : Nat → Nat} {zr : Nat → Value} {b L0 : Nat} {xs : Nat → Int32} {lo : Nat} : wP (kw_V adE adK adV zr b L0 xs lo) wG "MeetingHouse$Node" 57 14 14 0 .boolean := wPb_ok (by decide +kernel) wf_X16_57 (r := "MeetingHouse$Node") (n := "channel") (d := "Z") (by decide +kernel) (by decide +kernel)
theorem wq_X16_60 {adE adK adV : Nat → Nat} {zr : Nat → Value} {b L0 : Nat} {xs : Nat → Int32} {lo : Nat} : wP (kw_V adE adK adV zr b L0 xs lo) wG "MeetingHouse$Node" 60 14 15 0 .boolean := wPb_ok (by decide +kernel) wf_X16_60 (r := "MeetingHouse$Node") (n := "val") (d := "Z") (by decide +kernel) (by decide +kernel)
theorem wq_X16_63 {adE adK adV : Nat → Nat} {zr : Nat → Value} {b L0 : Nat} {xs : Nat → Int32} {lo : Nat} : wP (kw_V adE adK adV zr b L0 xs lo) wG "MeetingHouse$Node" 63 14 16 2 (.object "MeetingHouse$Symbol") := wPb_ok (by decide +kernel) wf_X16_63 (r := "MeetingHouse$Node") (n := "symbol") (d := "LMeetingHouse$Symbol;") (by decide +kernel) (by decide +kernel)
theorem wq_X16_67 {adE adK adV : Nat → Nat} {zr : Nat → Value} {b L0 : Nat} {xs : Nat → Int32} {lo : Nat} : wP (kw_V adE adK adV zr b L0 xs lo) wG "MeetingHouse$Node" 67 14 17 0 .int := wPb_ok (by decide +kernel) wf_X16_67 (r := "MeetingHouse$Node") (n := "type") (d := "I") (by decide +kernel) (by decide +kernel)
theorem wq_X16_70 {adE adK adV : Nat → Nat} {zr : Nat → Value} {b L0 : Nat} {xs : Nat → Int32} {lo : Nat} : wP (kw_V adE adK adV zr b L0 xs lo) wG "MeetingHouse$Node" 70 14 18 0 .int := wPb_ok (by decide +kernel) wf_X16_70 (r := "MeetingHouse$Node") (n := "many") (d := "I") (by decide +kernel) (by decide +kernel)
theorem wq_X16_73 {adE adK adV : Nat → Nat} {zr : Nat → Value} {b L0 : Nat} {xs : Nat → Int32} {lo : Nat} : wP (kw_V adE adK adV zr b L0 xs lo) wG "MeetingHouse$Node" 73 14 19 0 .int := wPb_ok (by decide +kernel) wf_X16_73 (r := "MeetingHouse$Node") (n := "value") (d := "I") (by decide +kernel) (by decide +kernel)
theorem wq_X16_76 {adE adK adV : Nat → Nat} {zr : Nat → Value} {b L0 : Nat} {xs : Nat → Int32} {lo : Nat} : wP (kw_V adE adK adV zr b L0 xs lo) wG "MeetingHouse$Node" 76 14 20 0 .boolean := wPb_ok (by decide +kernel) wf_X16_76 (r := "MeetingHouse$Node") (n := "array") (d := "Z") (by decide +kernel) (by decide +kernel)
theorem wq_X16_79 {adE adK adV : Nat → Nat} {zr : Nat → Value} {b L0 : Nat} {xs : Nat → Int32} {lo : Nat} : wP (kw_V adE adK adV zr b L0 xs lo) wG "MeetingHouse$Node" 79 14 21 0 .boolean := wPb_ok (by decide +kernel) wf_X16_79 (r := "MeetingHouse$Node") (n := "constant") (d := "Z") (by decide +kernel) (by decide +kernel)
theorem wq_X16_9 {adE adK adV : Nat → Nat} {zr : Nat → Value} {b L0 : Nat} {xs : Nat → Int32} {lo : Nat} : wP (kw_V adE adK adV zr b L0 xs lo) wG "MeetingHouse$Node" 9 14 0 2 (.object "MeetingHouse$Kind") := wPb_ok (by decide +kernel) wf_X16_9 (r := "MeetingHouse$Node") (n := "kind") (d := "LMeetingHouse$Kind;") (by decide +kernel) (by decide +kernel)
theorem wq_X17_101 {adE adK adV : Nat → Nat} {zr : Nat → Value} {b L0 : Nat} {xs : Nat → Int32} {lo : Nat} : wP (kw_V adE adK adV zr b L0 xs lo) wG "MeetingHouse$Symbol" 101 15 28 0 .int := wPb_ok (by decide +kernel) wf_X17_101 (r := "MeetingHouse$Symbol") (n := "usesUntil") (d := "I") (by decide +kernel) (by decide +kernel)
theorem wq_X17_104 {adE adK adV : Nat → Nat} {zr : Nat → Value} {b L0 : Nat} {xs : Nat → Int32} {lo : Nat} : wP (kw_V adE adK adV zr b L0 xs lo) wG "MeetingHouse$Symbol" 104 15 29 0 .int := wPb_ok (by decide +kernel) wf_X17_104 (r := "MeetingHouse$Symbol") (n := "marks") (d := "I") (by decide +kernel) (by decide +kernel)
theorem wq_X17_107 {adE adK adV : Nat → Nat} {zr : Nat → Value} {b L0 : Nat} {xs : Nat → Int32} {lo : Nat} : wP (kw_V adE adK adV zr b L0 xs lo) wG "MeetingHouse$Symbol" 107 15 30 0 .int := wPb_ok (by decide +kernel) wf_X17_107 (r := "MeetingHouse$Symbol") (n := "bits") (d := "I") (by decide +kernel) (by decide +kernel)
theorem wq_X17_15 {adE adK adV : Nat → Nat} {zr : Nat → Value} {b L0 : Nat} {xs : Nat → Int32} {lo : Nat} : wP (kw_V adE adK adV zr b L0 xs lo) wG "MeetingHouse$Symbol" 15 15 1 0 .int := wPb_ok (by decide +kernel) wf_X17_15 (r := "MeetingHouse$Symbol") (n := "name") (d := "I") (by decide +kernel) (by decide +kernel)
theorem wq_X17_19 {adE adK adV : Nat → Nat} {zr : Nat → Value} {b L0 : Nat} {xs : Nat → Int32} {lo : Nat} : wP (kw_V adE adK adV zr b L0 xs lo) wG "MeetingHouse$Symbol" 19 15 2 0 .int := wPb_ok (by decide +kernel) wf_X17_19 (r := "MeetingHouse$Symbol") (n := "line") (d := "I") (by decide +kernel) (by decide +kernel)
theorem wq_X17_22 {adE adK adV : Nat → Nat} {zr : Nat → Value} {b L0 : Nat} {xs : Nat → Int32} {lo : Nat} : wP (kw_V adE adK adV zr b L0 xs lo) wG "MeetingHouse$Symbol" 22 15 3 0 .int := wPb_ok (by decide +kernel) wf_X17_22 (r := "MeetingHouse$Symbol") (n := "serial") (d := "I") (by decide +kernel) (by decide +kernel)
theorem wq_X17_25 {adE adK adV : Nat → Nat} {zr : Nat → Value} {b L0 : Nat} {xs : Nat → Int32} {lo : Nat} : wP (kw_V adE adK adV zr b L0 xs lo) wG "MeetingHouse$Symbol" 25 15 4 2 (.object "MeetingHouse$Symbol") := wPb_ok (by decide +kernel) wf_X17_25 (r := "MeetingHouse$Symbol") (n := "before") (d := "LMeetingHouse$Symbol;") (by decide +kernel) (by decide +kernel)
theorem wq_X17_29 {adE adK adV : Nat → Nat} {zr : Nat → Value} {b L0 : Nat} {xs : Nat → Int32} {lo : Nat} : wP (kw_V adE adK adV zr b L0 xs lo) wG "MeetingHouse$Symbol" 29 15 5 0 .int := wPb_ok (by decide +kernel) wf_X17_29 (r := "MeetingHouse$Symbol") (n := "type") (d := "I") (by decide +kernel) (by decide +kernel)
theorem wq_X17_32 {adE adK adV : Nat → Nat} {zr : Nat → Value} {b L0 : Nat} {xs : Nat → Int32} {lo : Nat} : wP (kw_V adE adK adV zr b L0 xs lo) wG "MeetingHouse$Symbol" 32 15 6 0 .int := wPb_ok (by decide +kernel) wf_X17_32 (r := "MeetingHouse$Symbol") (n := "many") (d := "I") (by decide +kernel) (by decide +kernel)
theorem wq_X17_35 {adE adK adV : Nat → Nat} {zr : Nat → Value} {b L0 : Nat} {xs : Nat → Int32} {lo : Nat} : wP (kw_V adE adK adV zr b L0 xs lo) wG "MeetingHouse$Symbol" 35 15 7 0 .int := wPb_ok (by decide +kernel) wf_X17_35 (r := "MeetingHouse$Symbol") (n := "value") (d := "I") (by decide +kernel) (by decide +kernel)
theorem wq_X17_38 {adE adK adV : Nat → Nat} {zr : Nat → Value} {b L0 : Nat} {xs : Nat → Int32} {lo : Nat} : wP (kw_V adE adK adV zr b L0 xs lo) wG "MeetingHouse$Symbol" 38 15 8 0 .int := wPb_ok (by decide +kernel) wf_X17_38 (r := "MeetingHouse$Symbol") (n := "number") (d := "I") (by decide +kernel) (by decide +kernel)
theorem wq_X17_41 {adE adK adV : Nat → Nat} {zr : Nat → Value} {b L0 : Nat} {xs : Nat → Int32} {lo : Nat} : wP (kw_V adE adK adV zr b L0 xs lo) wG "MeetingHouse$Symbol" 41 15 9 0 .boolean := wPb_ok (by decide +kernel) wf_X17_41 (r := "MeetingHouse$Symbol") (n := "array") (d := "Z") (by decide +kernel) (by decide +kernel)
theorem wq_X17_45 {adE adK adV : Nat → Nat} {zr : Nat → Value} {b L0 : Nat} {xs : Nat → Int32} {lo : Nat} : wP (kw_V adE adK adV zr b L0 xs lo) wG "MeetingHouse$Symbol" 45 15 10 0 .boolean := wPb_ok (by decide +kernel) wf_X17_45 (r := "MeetingHouse$Symbol") (n := "constant") (d := "Z") (by decide +kernel) (by decide +kernel)
theorem wq_X17_48 {adE adK adV : Nat → Nat} {zr : Nat → Value} {b L0 : Nat} {xs : Nat → Int32} {lo : Nat} : wP (kw_V adE adK adV zr b L0 xs lo) wG "MeetingHouse$Symbol" 48 15 11 0 .boolean := wPb_ok (by decide +kernel) wf_X17_48 (r := "MeetingHouse$Symbol") (n := "formal") (d := "Z") (by decide +kernel) (by decide +kernel)
theorem wq_X17_51 {adE adK adV : Nat → Nat} {zr : Nat → Value} {b L0 : Nat} {xs : Nat → Int32} {lo : Nat} : wP (kw_V adE adK adV zr b L0 xs lo) wG "MeetingHouse$Symbol" 51 15 12 0 .boolean := wPb_ok (by decide +kernel) wf_X17_51 (r := "MeetingHouse$Symbol") (n := "formalVal") (d := "Z") (by decide +kernel) (by decide +kernel)
theorem wq_X17_54 {adE adK adV : Nat → Nat} {zr : Nat → Value} {b L0 : Nat} {xs : Nat → Int32} {lo : Nat} : wP (kw_V adE adK adV zr b L0 xs lo) wG "MeetingHouse$Symbol" 54 15 13 0 .boolean := wPb_ok (by decide +kernel) wf_X17_54 (r := "MeetingHouse$Symbol") (n := "replicator") (d := "Z") (by decide +kernel) (by decide +kernel)
theorem wq_X17_57 {adE adK adV : Nat → Nat} {zr : Nat → Value} {b L0 : Nat} {xs : Nat → Int32} {lo : Nat} : wP (kw_V adE adK adV zr b L0 xs lo) wG "MeetingHouse$Symbol" 57 15 14 0 .boolean := wPb_ok (by decide +kernel) wf_X17_57 (r := "MeetingHouse$Symbol") (n := "abbreviation") (d := "Z") (by decide +kernel) (by decide +kernel)
theorem wq_X17_60 {adE adK adV : Nat → Nat} {zr : Nat → Value} {b L0 : Nat} {xs : Nat → Int32} {lo : Nat} : wP (kw_V adE adK adV zr b L0 xs lo) wG "MeetingHouse$Symbol" 60 15 15 2 (.object "MeetingHouse$Symbol") := wPb_ok (by decide +kernel) wf_X17_60 (r := "MeetingHouse$Symbol") (n := "protocol") (d := "LMeetingHouse$Symbol;") (by decide +kernel) (by decide +kernel)
theorem wq_X17_63 {adE adK adV : Nat → Nat} {zr : Nat → Value} {b L0 : Nat} {xs : Nat → Int32} {lo : Nat} : wP (kw_V adE adK adV zr b L0 xs lo) wG "MeetingHouse$Symbol" 63 15 16 0 .boolean := wPb_ok (by decide +kernel) wf_X17_63 (r := "MeetingHouse$Symbol") (n := "tagged") (d := "Z") (by decide +kernel) (by decide +kernel)
theorem wq_X17_66 {adE adK adV : Nat → Nat} {zr : Nat → Value} {b L0 : Nat} {xs : Nat → Int32} {lo : Nat} : wP (kw_V adE adK adV zr b L0 xs lo) wG "MeetingHouse$Symbol" 66 15 17 2 (.object "MeetingHouse$Node") := wPb_ok (by decide +kernel) wf_X17_66 (r := "MeetingHouse$Symbol") (n := "parts") (d := "LMeetingHouse$Node;") (by decide +kernel) (by decide +kernel)
theorem wq_X17_70 {adE adK adV : Nat → Nat} {zr : Nat → Value} {b L0 : Nat} {xs : Nat → Int32} {lo : Nat} : wP (kw_V adE adK adV zr b L0 xs lo) wG "MeetingHouse$Symbol" 70 15 18 2 (.object "MeetingHouse$Node") := wPb_ok (by decide +kernel) wf_X17_70 (r := "MeetingHouse$Symbol") (n := "element") (d := "LMeetingHouse$Node;") (by decide +kernel) (by decide +kernel)
theorem wq_X17_73 {adE adK adV : Nat → Nat} {zr : Nat → Value} {b L0 : Nat} {xs : Nat → Int32} {lo : Nat} : wP (kw_V adE adK adV zr b L0 xs lo) wG "MeetingHouse$Symbol" 73 15 19 2 (.object "MeetingHouse$Node") := wPb_ok (by decide +kernel) wf_X17_73 (r := "MeetingHouse$Symbol") (n := "node") (d := "LMeetingHouse$Node;") (by decide +kernel) (by decide +kernel)
theorem wq_X17_76 {adE adK adV : Nat → Nat} {zr : Nat → Value} {b L0 : Nat} {xs : Nat → Int32} {lo : Nat} : wP (kw_V adE adK adV zr b L0 xs lo) wG "MeetingHouse$Symbol" 76 15 20 2 (.object "MeetingHouse$Unit") := wPb_ok (by decide +kernel) wf_X17_76 (r := "MeetingHouse$Symbol") (n := "home") (d := "LMeetingHouse$Unit;") (by decide +kernel) (by decide +kernel)
theorem wq_X17_80 {adE adK adV : Nat → Nat} {zr : Nat → Value} {b L0 : Nat} {xs : Nat → Int32} {lo : Nat} : wP (kw_V adE adK adV zr b L0 xs lo) wG "MeetingHouse$Symbol" 80 15 21 0 .int := wPb_ok (by decide +kernel) wf_X17_80 (r := "MeetingHouse$Symbol") (n := "slot") (d := "I") (by decide +kernel) (by decide +kernel)
theorem wq_X17_83 {adE adK adV : Nat → Nat} {zr : Nat → Value} {b L0 : Nat} {xs : Nat → Int32} {lo : Nat} : wP (kw_V adE adK adV zr b L0 xs lo) wG "MeetingHouse$Symbol" 83 15 22 0 .int := wPb_ok (by decide +kernel) wf_X17_83 (r := "MeetingHouse$Symbol") (n := "base") (d := "I") (by decide +kernel) (by decide +kernel)
theorem wq_X17_86 {adE adK adV : Nat → Nat} {zr : Nat → Value} {b L0 : Nat} {xs : Nat → Int32} {lo : Nat} : wP (kw_V adE adK adV zr b L0 xs lo) wG "MeetingHouse$Symbol" 86 15 23 0 .int := wPb_ok (by decide +kernel) wf_X17_86 (r := "MeetingHouse$Symbol") (n := "count") (d := "I") (by decide +kernel) (by decide +kernel)
theorem wq_X17_89 {adE adK adV : Nat → Nat} {zr : Nat → Value} {b L0 : Nat} {xs : Nat → Int32} {lo : Nat} : wP (kw_V adE adK adV zr b L0 xs lo) wG "MeetingHouse$Symbol" 89 15 24 0 .int := wPb_ok (by decide +kernel) wf_X17_89 (r := "MeetingHouse$Symbol") (n := "weight") (d := "I") (by decide +kernel) (by decide +kernel)
theorem wq_X17_9 {adE adK adV : Nat → Nat} {zr : Nat → Value} {b L0 : Nat} {xs : Nat → Int32} {lo : Nat} : wP (kw_V adE adK adV zr b L0 xs lo) wG "MeetingHouse$Symbol" 9 15 0 2 (.object "MeetingHouse$What") := wPb_ok (by decide +kernel) wf_X17_9 (r := "MeetingHouse$Symbol") (n := "what") (d := "LMeetingHouse$What;") (by decide +kernel) (by decide +kernel)
theorem wq_X17_92 {adE adK adV : Nat → Nat} {zr : Nat → Value} {b L0 : Nat} {xs : Nat → Int32} {lo : Nat} : wP (kw_V adE adK adV zr b L0 xs lo) wG "MeetingHouse$Symbol" 92 15 25 0 .int := wPb_ok (by decide +kernel) wf_X17_92 (r := "MeetingHouse$Symbol") (n := "now") (d := "I") (by decide +kernel) (by decide +kernel)
theorem wq_X17_95 {adE adK adV : Nat → Nat} {zr : Nat → Value} {b L0 : Nat} {xs : Nat → Int32} {lo : Nat} : wP (kw_V adE adK adV zr b L0 xs lo) wG "MeetingHouse$Symbol" 95 15 26 0 .boolean := wPb_ok (by decide +kernel) wf_X17_95 (r := "MeetingHouse$Symbol") (n := "fixed") (d := "Z") (by decide +kernel) (by decide +kernel)
theorem wq_X17_98 {adE adK adV : Nat → Nat} {zr : Nat → Value} {b L0 : Nat} {xs : Nat → Int32} {lo : Nat} : wP (kw_V adE adK adV zr b L0 xs lo) wG "MeetingHouse$Symbol" 98 15 27 0 .int := wPb_ok (by decide +kernel) wf_X17_98 (r := "MeetingHouse$Symbol") (n := "usesFrom") (d := "I") (by decide +kernel) (by decide +kernel)
theorem wq_X3_16 {adE adK adV : Nat → Nat} {zr : Nat → Value} {b L0 : Nat} {xs : Nat → Int32} {lo : Nat} : wP (kw_V adE adK adV zr b L0 xs lo) wG "MeetingHouse$Faults" 16 2 1 0 .int := wPb_ok (by decide +kernel) wf_X3_16 (r := "MeetingHouse$Faults") (n := "kind") (d := "I") (by decide +kernel) (by decide +kernel)
theorem wq_X3_20 {adE adK adV : Nat → Nat} {zr : Nat → Value} {b L0 : Nat} {xs : Nat → Int32} {lo : Nat} : wP (kw_V adE adK adV zr b L0 xs lo) wG "MeetingHouse$Faults" 20 2 2 0 .int := wPb_ok (by decide +kernel) wf_X3_20 (r := "MeetingHouse$Faults") (n := "line") (d := "I") (by decide +kernel) (by decide +kernel)
def zb_X16_begin_p0 (E : zE) (L : Nat) (Q : kx_Rs → wS → Prop) (x0 : Nat) (x1 : Option Nat) (x2 : Int32) (x3 : Int32) (w : wS) : Prop := Q (.inl (some (va_rf (some (w_adr E.2.1 14 x0))))) (ws_i (ws_i (ws_i (ws_i (ws_i (ws_p (ws_i (ws_i (ws_i (ws_i (ws_i (ws_i (ws_i (ws_i (ws_p (ws_p (ws_p (ws_p (ws_p (ws_i (ws_i (ws_p w 14 x0 0 x1) 14 x0 1 x2) 14 x0 2 x3) 14 x0 3 none) 14 x0 4 none) 14 x0 5 none) 14 x0 6 none) 14 x0 7 none) 14 x0 8 (-1)) 14 x0 9 (-1)) 14 x0 10 0) 14 x0 11 0) 14 x0 12 0) 14 x0 13 0) 14 x0 14 0) 14 x0 15 0) 14 x0 16 none) 14 x0 17 0) 14 x0 18 (-1)) 14 x0 19 0) 14 x0 20 0) 14 x0 21 0)
theorem zt_X16_begin_p0 {E : zE} {L : Nat} {Q : kx_Rs → wS → Prop} {x0 : Nat} {x1 : Option Nat} {x2 : Int32} {x3 : Int32} {w : wS} (hL : 19 ≤ L) (hl0 : w_l w E.2.1 14 x0) (h : zb_X16_begin_p0 E L Q x0 x1 x2 x3 w) : kzE E L kt_M158 0 [(0, .ref (w_adr E.2.1 14 x0)), (1, va_rf (x1)), (2, .int x2), (3, .int x3)] [] w Q := by
  unfold zb_X16_begin_p0 at h
  refine kz_aload_n (M := kt_M158) kX16_begin_c0.1 rfl ?_
  refine kz_aload_nv (M := kt_M158) (x := x1) kX16_begin_c0.2.1 rfl ?_
  refine kz_pfp (M := kt_M158) (n := x1) (c := 14) (o := x0) kX16_begin_c0.2.2.1 wq_X16_9 (.inr (by exact hl0)) ?_
  refine kz_aload_n (M := kt_M158) kX16_begin_c0.2.2.2.1 rfl ?_
  refine kz_iload_n (M := kt_M158) kX16_begin_c0.2.2.2.2.1 rfl ?_
  refine kz_pfi (M := kt_M158) (c := 14) (o := x0) kX16_begin_c0.2.2.2.2.2.1 wq_X16_15 (.inr (by exact hl0)) ?_
  refine kz_aload_n (M := kt_M158) kX16_begin_c0.2.2.2.2.2.2.1 rfl ?_
  refine kz_iload_n (M := kt_M158) kX16_begin_c0.2.2.2.2.2.2.2.1 rfl ?_
  refine kz_pfi (M := kt_M158) (c := 14) (o := x0) kX16_begin_c1.1 wq_X16_19 (.inr (by exact hl0)) ?_
  refine kz_aload_n (M := kt_M158) kX16_begin_c1.2.1 rfl ?_
  refine kz_null (M := kt_M158) kX16_begin_c1.2.2.1 ?_
  refine kz_pfp (M := kt_M158) (n := none) (c := 14) (o := x0) kX16_begin_c1.2.2.2.1 wq_X16_22 (.inr (by exact hl0)) ?_
  refine kz_aload_n (M := kt_M158) kX16_begin_c1.2.2.2.2.1 rfl ?_
  refine kz_null (M := kt_M158) kX16_begin_c1.2.2.2.2.2.1 ?_
  refine kz_pfp (M := kt_M158) (n := none) (c := 14) (o := x0) kX16_begin_c1.2.2.2.2.2.2.1 wq_X16_26 (.inr (by exact hl0)) ?_
  refine kz_aload_n (M := kt_M158) kX16_begin_c1.2.2.2.2.2.2.2.1 rfl ?_
  refine kz_null (M := kt_M158) kX16_begin_c2.1 ?_
  refine kz_pfp (M := kt_M158) (n := none) (c := 14) (o := x0) kX16_begin_c2.2.1 wq_X16_29 (.inr (by exact hl0)) ?_
  refine kz_aload_n (M := kt_M158) kX16_begin_c2.2.2.1 rfl ?_
  refine kz_null (M := kt_M158) kX16_begin_c2.2.2.2.1 ?_
  refine kz_pfp (M := kt_M158) (n := none) (c := 14) (o := x0) kX16_begin_c2.2.2.2.2.1 wq_X16_32 (.inr (by exact hl0)) ?_
  refine kz_aload_n (M := kt_M158) kX16_begin_c2.2.2.2.2.2.1 rfl ?_
  refine kz_null (M := kt_M158) kX16_begin_c2.2.2.2.2.2.2.1 ?_
  refine kz_pfp (M := kt_M158) (n := none) (c := 14) (o := x0) kX16_begin_c2.2.2.2.2.2.2.2.1 wq_X16_35 (.inr (by exact hl0)) ?_
  refine kz_aload_n (M := kt_M158) kX16_begin_c3.1 rfl ?_
  refine kz_ic (M := kt_M158) (-1) kX16_begin_c3.2.1 rfl ?_
  refine kz_pfi (M := kt_M158) (c := 14) (o := x0) kX16_begin_c3.2.2.1 wq_X16_38 (.inr (by exact hl0)) ?_
  refine kz_aload_n (M := kt_M158) kX16_begin_c3.2.2.2.1 rfl ?_
  refine kz_ic (M := kt_M158) (-1) kX16_begin_c3.2.2.2.2.1 rfl ?_
  refine kz_pfi (M := kt_M158) (c := 14) (o := x0) kX16_begin_c3.2.2.2.2.2.1 wq_X16_41 (.inr (by exact hl0)) ?_
  refine kz_aload_n (M := kt_M158) kX16_begin_c3.2.2.2.2.2.2.1 rfl ?_
  refine kz_ic (M := kt_M158) 0 kX16_begin_c3.2.2.2.2.2.2.2.1 rfl ?_
  refine kz_pfi (M := kt_M158) (c := 14) (o := x0) kX16_begin_c4.1 wq_X16_44 (.inr (by exact hl0)) ?_
  refine kz_aload_n (M := kt_M158) kX16_begin_c4.2.1 rfl ?_
  refine kz_ic (M := kt_M158) 0 kX16_begin_c4.2.2.1 rfl ?_
  refine kz_pfz (M := kt_M158) (c := 14) (o := x0) kX16_begin_c4.2.2.2.1 wq_X16_47 (.inr (by exact hl0)) (by decide) ?_
  refine kz_aload_n (M := kt_M158) kX16_begin_c4.2.2.2.2.1 rfl ?_
  refine kz_ic (M := kt_M158) 0 kX16_begin_c4.2.2.2.2.2.1 rfl ?_
  refine kz_pfz (M := kt_M158) (c := 14) (o := x0) kX16_begin_c4.2.2.2.2.2.2.1 wq_X16_51 (.inr (by exact hl0)) (by decide) ?_
  refine kz_aload_n (M := kt_M158) kX16_begin_c4.2.2.2.2.2.2.2.1 rfl ?_
  refine kz_ic (M := kt_M158) 0 kX16_begin_c5.1 rfl ?_
  refine kz_pfz (M := kt_M158) (c := 14) (o := x0) kX16_begin_c5.2.1 wq_X16_54 (.inr (by exact hl0)) (by decide) ?_
  refine kz_aload_n (M := kt_M158) kX16_begin_c5.2.2.1 rfl ?_
  refine kz_ic (M := kt_M158) 0 kX16_begin_c5.2.2.2.1 rfl ?_
  refine kz_pfz (M := kt_M158) (c := 14) (o := x0) kX16_begin_c5.2.2.2.2.1 wq_X16_57 (.inr (by exact hl0)) (by decide) ?_
  refine kz_aload_n (M := kt_M158) kX16_begin_c5.2.2.2.2.2.1 rfl ?_
  refine kz_ic (M := kt_M158) 0 kX16_begin_c5.2.2.2.2.2.2.1 rfl ?_
  refine kz_pfz (M := kt_M158) (c := 14) (o := x0) kX16_begin_c5.2.2.2.2.2.2.2.1 wq_X16_60 (.inr (by exact hl0)) (by decide) ?_
  refine kz_aload_n (M := kt_M158) kX16_begin_c6.1 rfl ?_
  refine kz_null (M := kt_M158) kX16_begin_c6.2.1 ?_
  refine kz_pfp (M := kt_M158) (n := none) (c := 14) (o := x0) kX16_begin_c6.2.2.1 wq_X16_63 (.inr (by exact hl0)) ?_
  refine kz_aload_n (M := kt_M158) kX16_begin_c6.2.2.2.1 rfl ?_
  refine kz_ic (M := kt_M158) 0 kX16_begin_c6.2.2.2.2.1 rfl ?_
  refine kz_pfi (M := kt_M158) (c := 14) (o := x0) kX16_begin_c6.2.2.2.2.2.1 wq_X16_67 (.inr (by exact hl0)) ?_
  refine kz_aload_n (M := kt_M158) kX16_begin_c6.2.2.2.2.2.2.1 rfl ?_
  refine kz_ic (M := kt_M158) (-1) kX16_begin_c6.2.2.2.2.2.2.2.1 rfl ?_
  refine kz_pfi (M := kt_M158) (c := 14) (o := x0) kX16_begin_c7.1 wq_X16_70 (.inr (by exact hl0)) ?_
  refine kz_aload_n (M := kt_M158) kX16_begin_c7.2.1 rfl ?_
  refine kz_ic (M := kt_M158) 0 kX16_begin_c7.2.2.1 rfl ?_
  refine kz_pfi (M := kt_M158) (c := 14) (o := x0) kX16_begin_c7.2.2.2.1 wq_X16_73 (.inr (by exact hl0)) ?_
  refine kz_aload_n (M := kt_M158) kX16_begin_c7.2.2.2.2.1 rfl ?_
  refine kz_ic (M := kt_M158) 0 kX16_begin_c7.2.2.2.2.2.1 rfl ?_
  refine kz_pfz (M := kt_M158) (c := 14) (o := x0) kX16_begin_c7.2.2.2.2.2.2.1 wq_X16_76 (.inr (by exact hl0)) (by decide) ?_
  refine kz_aload_n (M := kt_M158) kX16_begin_c7.2.2.2.2.2.2.2.1 rfl ?_
  refine kz_ic (M := kt_M158) 0 kX16_begin_c8.1 rfl ?_
  refine kz_pfz (M := kt_M158) (c := 14) (o := x0) kX16_begin_c8.2.1 wq_X16_79 (.inr (by exact hl0)) (by decide) ?_
  refine kz_aload_n (M := kt_M158) kX16_begin_c8.2.2.1 rfl ?_
  exact kz_areto (x := some (w_adr E.2.1 14 x0)) (M := kt_M158) kX16_begin_c8.2.2.2.1 rfl h
def zb_X17_begin_p0 (E : zE) (L : Nat) (Q : kx_Rs → wS → Prop) (x0 : Nat) (x1 : Option Nat) (x2 : Int32) (x3 : Int32) (w : wS) : Prop := Q (.inl (some (va_rf (some (w_adr E.2.1 15 x0))))) (ws_i (ws_i (ws_i (ws_i (ws_i (ws_i (ws_i (ws_i (ws_i (ws_i (ws_p (ws_p (ws_p (ws_p (ws_i (ws_p (ws_i (ws_i (ws_i (ws_i (ws_i (ws_i (ws_i (ws_i (ws_i (ws_i (ws_p (ws_i (ws_i (ws_i (ws_p w 15 x0 0 x1) 15 x0 1 x2) 15 x0 2 x3) 15 x0 3 0) 15 x0 4 none) 15 x0 5 0) 15 x0 6 (-1)) 15 x0 7 0) 15 x0 8 0) 15 x0 9 0) 15 x0 10 0) 15 x0 11 0) 15 x0 12 0) 15 x0 13 0) 15 x0 14 0) 15 x0 15 none) 15 x0 16 0) 15 x0 17 none) 15 x0 18 none) 15 x0 19 none) 15 x0 20 none) 15 x0 21 0) 15 x0 22 0) 15 x0 23 0) 15 x0 24 0) 15 x0 25 0) 15 x0 26 0) 15 x0 27 0) 15 x0 28 0) 15 x0 29 (-1)) 15 x0 30 0)
theorem zt_X17_begin_p0 {E : zE} {L : Nat} {Q : kx_Rs → wS → Prop} {x0 : Nat} {x1 : Option Nat} {x2 : Int32} {x3 : Int32} {w : wS} (hL : 19 ≤ L) (hl0 : w_l w E.2.1 15 x0) (h : zb_X17_begin_p0 E L Q x0 x1 x2 x3 w) : kzE E L kt_M229 0 [(0, .ref (w_adr E.2.1 15 x0)), (1, va_rf (x1)), (2, .int x2), (3, .int x3)] [] w Q := by
  unfold zb_X17_begin_p0 at h
  refine kz_aload_n (M := kt_M229) kX17_begin_c0.1 rfl ?_
  refine kz_aload_nv (M := kt_M229) (x := x1) kX17_begin_c0.2.1 rfl ?_
  refine kz_pfp (M := kt_M229) (n := x1) (c := 15) (o := x0) kX17_begin_c0.2.2.1 wq_X17_9 (.inr (by exact hl0)) ?_
  refine kz_aload_n (M := kt_M229) kX17_begin_c0.2.2.2.1 rfl ?_
  refine kz_iload_n (M := kt_M229) kX17_begin_c0.2.2.2.2.1 rfl ?_
  refine kz_pfi (M := kt_M229) (c := 15) (o := x0) kX17_begin_c0.2.2.2.2.2.1 wq_X17_15 (.inr (by exact hl0)) ?_
  refine kz_aload_n (M := kt_M229) kX17_begin_c0.2.2.2.2.2.2.1 rfl ?_
  refine kz_iload_n (M := kt_M229) kX17_begin_c0.2.2.2.2.2.2.2.1 rfl ?_
  refine kz_pfi (M := kt_M229) (c := 15) (o := x0) kX17_begin_c1.1 wq_X17_19 (.inr (by exact hl0)) ?_
  refine kz_aload_n (M := kt_M229) kX17_begin_c1.2.1 rfl ?_
  refine kz_ic (M := kt_M229) 0 kX17_begin_c1.2.2.1 rfl ?_
  refine kz_pfi (M := kt_M229) (c := 15) (o := x0) kX17_begin_c1.2.2.2.1 wq_X17_22 (.inr (by exact hl0)) ?_
  refine kz_aload_n (M := kt_M229) kX17_begin_c1.2.2.2.2.1 rfl ?_
  refine kz_null (M := kt_M229) kX17_begin_c1.2.2.2.2.2.1 ?_
  refine kz_pfp (M := kt_M229) (n := none) (c := 15) (o := x0) kX17_begin_c1.2.2.2.2.2.2.1 wq_X17_25 (.inr (by exact hl0)) ?_
  refine kz_aload_n (M := kt_M229) kX17_begin_c1.2.2.2.2.2.2.2.1 rfl ?_
  refine kz_ic (M := kt_M229) 0 kX17_begin_c2.1 rfl ?_
  refine kz_pfi (M := kt_M229) (c := 15) (o := x0) kX17_begin_c2.2.1 wq_X17_29 (.inr (by exact hl0)) ?_
  refine kz_aload_n (M := kt_M229) kX17_begin_c2.2.2.1 rfl ?_
  refine kz_ic (M := kt_M229) (-1) kX17_begin_c2.2.2.2.1 rfl ?_
  refine kz_pfi (M := kt_M229) (c := 15) (o := x0) kX17_begin_c2.2.2.2.2.1 wq_X17_32 (.inr (by exact hl0)) ?_
  refine kz_aload_n (M := kt_M229) kX17_begin_c2.2.2.2.2.2.1 rfl ?_
  refine kz_ic (M := kt_M229) 0 kX17_begin_c2.2.2.2.2.2.2.1 rfl ?_
  refine kz_pfi (M := kt_M229) (c := 15) (o := x0) kX17_begin_c2.2.2.2.2.2.2.2.1 wq_X17_35 (.inr (by exact hl0)) ?_
  refine kz_aload_n (M := kt_M229) kX17_begin_c3.1 rfl ?_
  refine kz_ic (M := kt_M229) 0 kX17_begin_c3.2.1 rfl ?_
  refine kz_pfi (M := kt_M229) (c := 15) (o := x0) kX17_begin_c3.2.2.1 wq_X17_38 (.inr (by exact hl0)) ?_
  refine kz_aload_n (M := kt_M229) kX17_begin_c3.2.2.2.1 rfl ?_
  refine kz_ic (M := kt_M229) 0 kX17_begin_c3.2.2.2.2.1 rfl ?_
  refine kz_pfz (M := kt_M229) (c := 15) (o := x0) kX17_begin_c3.2.2.2.2.2.1 wq_X17_41 (.inr (by exact hl0)) (by decide) ?_
  refine kz_aload_n (M := kt_M229) kX17_begin_c3.2.2.2.2.2.2.1 rfl ?_
  refine kz_ic (M := kt_M229) 0 kX17_begin_c3.2.2.2.2.2.2.2.1 rfl ?_
  refine kz_pfz (M := kt_M229) (c := 15) (o := x0) kX17_begin_c4.1 wq_X17_45 (.inr (by exact hl0)) (by decide) ?_
  refine kz_aload_n (M := kt_M229) kX17_begin_c4.2.1 rfl ?_
  refine kz_ic (M := kt_M229) 0 kX17_begin_c4.2.2.1 rfl ?_
  refine kz_pfz (M := kt_M229) (c := 15) (o := x0) kX17_begin_c4.2.2.2.1 wq_X17_48 (.inr (by exact hl0)) (by decide) ?_
  refine kz_aload_n (M := kt_M229) kX17_begin_c4.2.2.2.2.1 rfl ?_
  refine kz_ic (M := kt_M229) 0 kX17_begin_c4.2.2.2.2.2.1 rfl ?_
  refine kz_pfz (M := kt_M229) (c := 15) (o := x0) kX17_begin_c4.2.2.2.2.2.2.1 wq_X17_51 (.inr (by exact hl0)) (by decide) ?_
  refine kz_aload_n (M := kt_M229) kX17_begin_c4.2.2.2.2.2.2.2.1 rfl ?_
  refine kz_ic (M := kt_M229) 0 kX17_begin_c5.1 rfl ?_
  refine kz_pfz (M := kt_M229) (c := 15) (o := x0) kX17_begin_c5.2.1 wq_X17_54 (.inr (by exact hl0)) (by decide) ?_
  refine kz_aload_n (M := kt_M229) kX17_begin_c5.2.2.1 rfl ?_
  refine kz_ic (M := kt_M229) 0 kX17_begin_c5.2.2.2.1 rfl ?_
  refine kz_pfz (M := kt_M229) (c := 15) (o := x0) kX17_begin_c5.2.2.2.2.1 wq_X17_57 (.inr (by exact hl0)) (by decide) ?_
  refine kz_aload_n (M := kt_M229) kX17_begin_c5.2.2.2.2.2.1 rfl ?_
  refine kz_null (M := kt_M229) kX17_begin_c5.2.2.2.2.2.2.1 ?_
  refine kz_pfp (M := kt_M229) (n := none) (c := 15) (o := x0) kX17_begin_c5.2.2.2.2.2.2.2.1 wq_X17_60 (.inr (by exact hl0)) ?_
  refine kz_aload_n (M := kt_M229) kX17_begin_c6.1 rfl ?_
  refine kz_ic (M := kt_M229) 0 kX17_begin_c6.2.1 rfl ?_
  refine kz_pfz (M := kt_M229) (c := 15) (o := x0) kX17_begin_c6.2.2.1 wq_X17_63 (.inr (by exact hl0)) (by decide) ?_
  refine kz_aload_n (M := kt_M229) kX17_begin_c6.2.2.2.1 rfl ?_
  refine kz_null (M := kt_M229) kX17_begin_c6.2.2.2.2.1 ?_
  refine kz_pfp (M := kt_M229) (n := none) (c := 15) (o := x0) kX17_begin_c6.2.2.2.2.2.1 wq_X17_66 (.inr (by exact hl0)) ?_
  refine kz_aload_n (M := kt_M229) kX17_begin_c6.2.2.2.2.2.2.1 rfl ?_
  refine kz_null (M := kt_M229) kX17_begin_c6.2.2.2.2.2.2.2.1 ?_
  refine kz_pfp (M := kt_M229) (n := none) (c := 15) (o := x0) kX17_begin_c7.1 wq_X17_70 (.inr (by exact hl0)) ?_
  refine kz_aload_n (M := kt_M229) kX17_begin_c7.2.1 rfl ?_
  refine kz_null (M := kt_M229) kX17_begin_c7.2.2.1 ?_
  refine kz_pfp (M := kt_M229) (n := none) (c := 15) (o := x0) kX17_begin_c7.2.2.2.1 wq_X17_73 (.inr (by exact hl0)) ?_
  refine kz_aload_n (M := kt_M229) kX17_begin_c7.2.2.2.2.1 rfl ?_
  refine kz_null (M := kt_M229) kX17_begin_c7.2.2.2.2.2.1 ?_
  refine kz_pfp (M := kt_M229) (n := none) (c := 15) (o := x0) kX17_begin_c7.2.2.2.2.2.2.1 wq_X17_76 (.inr (by exact hl0)) ?_
  refine kz_aload_n (M := kt_M229) kX17_begin_c7.2.2.2.2.2.2.2.1 rfl ?_
  refine kz_ic (M := kt_M229) 0 kX17_begin_c8.1 rfl ?_
  refine kz_pfi (M := kt_M229) (c := 15) (o := x0) kX17_begin_c8.2.1 wq_X17_80 (.inr (by exact hl0)) ?_
  refine kz_aload_n (M := kt_M229) kX17_begin_c8.2.2.1 rfl ?_
  refine kz_ic (M := kt_M229) 0 kX17_begin_c8.2.2.2.1 rfl ?_
  refine kz_pfi (M := kt_M229) (c := 15) (o := x0) kX17_begin_c8.2.2.2.2.1 wq_X17_83 (.inr (by exact hl0)) ?_
  refine kz_aload_n (M := kt_M229) kX17_begin_c8.2.2.2.2.2.1 rfl ?_
  refine kz_ic (M := kt_M229) 0 kX17_begin_c8.2.2.2.2.2.2.1 rfl ?_
  refine kz_pfi (M := kt_M229) (c := 15) (o := x0) kX17_begin_c8.2.2.2.2.2.2.2.1 wq_X17_86 (.inr (by exact hl0)) ?_
  refine kz_aload_n (M := kt_M229) kX17_begin_c9.1 rfl ?_
  refine kz_ic (M := kt_M229) 0 kX17_begin_c9.2.1 rfl ?_
  refine kz_pfi (M := kt_M229) (c := 15) (o := x0) kX17_begin_c9.2.2.1 wq_X17_89 (.inr (by exact hl0)) ?_
  refine kz_aload_n (M := kt_M229) kX17_begin_c9.2.2.2.1 rfl ?_
  refine kz_ic (M := kt_M229) 0 kX17_begin_c9.2.2.2.2.1 rfl ?_
  refine kz_pfi (M := kt_M229) (c := 15) (o := x0) kX17_begin_c9.2.2.2.2.2.1 wq_X17_92 (.inr (by exact hl0)) ?_
  refine kz_aload_n (M := kt_M229) kX17_begin_c9.2.2.2.2.2.2.1 rfl ?_
  refine kz_ic (M := kt_M229) 0 kX17_begin_c9.2.2.2.2.2.2.2.1 rfl ?_
  refine kz_pfz (M := kt_M229) (c := 15) (o := x0) kX17_begin_c10.1 wq_X17_95 (.inr (by exact hl0)) (by decide) ?_
  refine kz_aload_n (M := kt_M229) kX17_begin_c10.2.1 rfl ?_
  refine kz_ic (M := kt_M229) 0 kX17_begin_c10.2.2.1 rfl ?_
  refine kz_pfi (M := kt_M229) (c := 15) (o := x0) kX17_begin_c10.2.2.2.1 wq_X17_98 (.inr (by exact hl0)) ?_
  refine kz_aload_n (M := kt_M229) kX17_begin_c10.2.2.2.2.1 rfl ?_
  refine kz_ic (M := kt_M229) 0 kX17_begin_c10.2.2.2.2.2.1 rfl ?_
  refine kz_pfi (M := kt_M229) (c := 15) (o := x0) kX17_begin_c10.2.2.2.2.2.2.1 wq_X17_101 (.inr (by exact hl0)) ?_
  refine kz_aload_n (M := kt_M229) kX17_begin_c10.2.2.2.2.2.2.2.1 rfl ?_
  refine kz_ic (M := kt_M229) (-1) kX17_begin_c11.1 rfl ?_
  refine kz_pfi (M := kt_M229) (c := 15) (o := x0) kX17_begin_c11.2.1 wq_X17_104 (.inr (by exact hl0)) ?_
  refine kz_aload_n (M := kt_M229) kX17_begin_c11.2.2.1 rfl ?_
  refine kz_ic (M := kt_M229) 0 kX17_begin_c11.2.2.2.1 rfl ?_
  refine kz_pfi (M := kt_M229) (c := 15) (o := x0) kX17_begin_c11.2.2.2.2.1 wq_X17_107 (.inr (by exact hl0)) ?_
  refine kz_aload_n (M := kt_M229) kX17_begin_c11.2.2.2.2.2.1 rfl ?_
  exact kz_areto (x := some (w_adr E.2.1 15 x0)) (M := kt_M229) kX17_begin_c11.2.2.2.2.2.2.1 rfl h
def zb_X3_clear_p0 (E : zE) (L : Nat) (Q : kx_Rs → wS → Prop) (w : wS) : Prop := Q (.inl none) (ws_i w 2 0 1 0)
theorem zt_X3_clear_p0 {E : zE} {L : Nat} {Q : kx_Rs → wS → Prop} {w : wS} (hL : 19 ≤ L) (h : zb_X3_clear_p0 E L Q  w) : kzE E L kt_M54 0 [(0, .ref (w_adr E.2.1 2 0))] [] w Q := by
  unfold zb_X3_clear_p0 at h
  refine kz_aload_n (M := kt_M54) kX3_clear_c0.1 rfl ?_
  refine kz_ic (M := kt_M54) 0 kX3_clear_c0.2.1 rfl ?_
  refine kz_pfi (M := kt_M54) (c := 2) (o := 0) kX3_clear_c0.2.2.1 wq_X3_16 (.inl rfl) ?_
  exact kz_ret (M := kt_M54) kX3_clear_c0.2.2.2.1 rfl h
def zb_X3_rule_p32 (E : zE) (L : Nat) (Q : kx_Rs → wS → Prop) (x1 : Int32) (x2 : Int32) (w : wS) : Prop := Q (.inl none) (ws_i (ws_i w 2 0 1 x1) 2 0 2 x2)
theorem zt_X3_rule_p32 {E : zE} {L : Nat} {Q : kx_Rs → wS → Prop} {x1 : Int32} {x2 : Int32} {w : wS} (hL : 19 ≤ L) (h : zb_X3_rule_p32 E L Q x1 x2 w) : kzE E L kt_M56 32 [(0, .ref (w_adr E.2.1 2 0)), (1, .int x1), (2, .int x2)] [] w Q := by
  unfold zb_X3_rule_p32 at h
  refine kz_aload_n (M := kt_M56) kX3_rule_c2.1 rfl ?_
  refine kz_iload_n (M := kt_M56) kX3_rule_c2.2.1 rfl ?_
  refine kz_pfi (M := kt_M56) (c := 2) (o := 0) kX3_rule_c2.2.2.1 wq_X3_16 (.inl rfl) ?_
  refine kz_aload_n (M := kt_M56) kX3_rule_c2.2.2.2.1 rfl ?_
  refine kz_iload_n (M := kt_M56) kX3_rule_c2.2.2.2.2.1 rfl ?_
  refine kz_pfi (M := kt_M56) (c := 2) (o := 0) kX3_rule_c2.2.2.2.2.2.1 wq_X3_20 (.inl rfl) ?_
  exact kz_ret (M := kt_M56) kX3_rule_c2.2.2.2.2.2.2.1 rfl h
def zb_X3_rule_p31 (E : zE) (L : Nat) (Q : kx_Rs → wS → Prop) (w : wS) : Prop := Q (.inl none) w
theorem zt_X3_rule_p31 {E : zE} {L : Nat} {Q : kx_Rs → wS → Prop} {w : wS} (hL : 19 ≤ L) (h : zb_X3_rule_p31 E L Q  w) : kzE E L kt_M56 31 [(0, .ref (w_adr E.2.1 2 0))] [] w Q := by
  unfold zb_X3_rule_p31 at h
  exact kz_ret (M := kt_M56) kX3_rule_c1.2.2.2.2.2.2.2.1 rfl h
def zb_X3_rule_p0 (E : zE) (L : Nat) (Q : kx_Rs → wS → Prop) (x1 : Int32) (x2 : Int32) (w : wS) : Prop := (if w_i w 2 0 1 = 0 then zb_X3_rule_p32 E L Q x1 x2 w else (if w_i w 2 0 2 < x2 then zb_X3_rule_p31 E L Q w else (if ¬ x2 = w_i w 2 0 2 then zb_X3_rule_p32 E L Q x1 x2 w else (if x1 < w_i w 2 0 1 then zb_X3_rule_p32 E L Q x1 x2 w else zb_X3_rule_p31 E L Q w))))
theorem zt_X3_rule_p0 {E : zE} {L : Nat} {Q : kx_Rs → wS → Prop} {x1 : Int32} {x2 : Int32} {w : wS} (hL : 19 ≤ L) (h : zb_X3_rule_p0 E L Q x1 x2 w) : kzE E L kt_M56 0 [(0, .ref (w_adr E.2.1 2 0)), (1, .int x1), (2, .int x2)] [] w Q := by
  unfold zb_X3_rule_p0 at h
  refine kz_aload_n (M := kt_M56) kX3_rule_c0.1 rfl ?_
  refine kz_gfi (M := kt_M56) (c := 2) (o := 0) kX3_rule_c0.2.1 wf_X3_16 (.inl rfl) ?_
  refine kz_if_eq (M := kt_M56) kX3_rule_c0.2.2.1 (t := 32) rfl h (fun h => ?_) (fun h => ?_)
  · skip
    exact kz_weak [(0, .ref (w_adr E.2.1 2 0)), (1, .int x1), (2, .int x2)] ⟨rfl, ⟨rfl, ⟨rfl, trivial⟩⟩⟩ rfl (zt_X3_rule_p32 hL  h)
  · skip
    refine kz_iload_n (M := kt_M56) kX3_rule_c0.2.2.2.1 rfl ?_
    refine kz_aload_n (M := kt_M56) kX3_rule_c0.2.2.2.2.1 rfl ?_
    refine kz_gfi (M := kt_M56) (c := 2) (o := 0) kX3_rule_c0.2.2.2.2.2.1 wf_X3_20 (.inl rfl) ?_
    refine kz_icmp_gt (M := kt_M56) kX3_rule_c0.2.2.2.2.2.2.1 (t := 31) rfl h (fun h => ?_) (fun h => ?_)
    · skip
      exact kz_weak [(0, .ref (w_adr E.2.1 2 0))] ⟨rfl, trivial⟩ rfl (zt_X3_rule_p31 hL  h)
    · skip
      refine kz_iload_n (M := kt_M56) kX3_rule_c0.2.2.2.2.2.2.2.1 rfl ?_
      refine kz_aload_n (M := kt_M56) kX3_rule_c1.1 rfl ?_
      refine kz_gfi (M := kt_M56) (c := 2) (o := 0) kX3_rule_c1.2.1 wf_X3_20 (.inl rfl) ?_
      refine kz_icmp_ne (M := kt_M56) kX3_rule_c1.2.2.1 (t := 32) rfl h (fun h => ?_) (fun h => ?_)
      · skip
        exact kz_weak [(0, .ref (w_adr E.2.1 2 0)), (1, .int x1), (2, .int x2)] ⟨rfl, ⟨rfl, ⟨rfl, trivial⟩⟩⟩ rfl (zt_X3_rule_p32 hL  h)
      · skip
        refine kz_iload_n (M := kt_M56) kX3_rule_c1.2.2.2.1 rfl ?_
        refine kz_aload_n (M := kt_M56) kX3_rule_c1.2.2.2.2.1 rfl ?_
        refine kz_gfi (M := kt_M56) (c := 2) (o := 0) kX3_rule_c1.2.2.2.2.2.1 wf_X3_16 (.inl rfl) ?_
        refine kz_icmp_lt (M := kt_M56) kX3_rule_c1.2.2.2.2.2.2.1 (t := 32) rfl h (fun h => ?_) (fun h => ?_)
        · skip
          exact kz_weak [(0, .ref (w_adr E.2.1 2 0)), (1, .int x1), (2, .int x2)] ⟨rfl, ⟨rfl, ⟨rfl, trivial⟩⟩⟩ rfl (zt_X3_rule_p32 hL  h)
        · skip
          exact kz_weak [(0, .ref (w_adr E.2.1 2 0))] ⟨rfl, trivial⟩ rfl (zt_X3_rule_p31 hL  h)
