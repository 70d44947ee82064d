set_option maxRecDepth 100000
set_option maxHeartbeats 4000000 in
theorem zmk0 : zchk 0 = true := by decide +kernel
set_option maxHeartbeats 4000000 in
theorem zmk1 : zchk 1 = true := by decide +kernel
set_option maxHeartbeats 4000000 in
theorem zmk2 : zchk 2 = true := by decide +kernel
set_option maxHeartbeats 4000000 in
theorem zmk3 : zchk 3 = true := by decide +kernel
set_option maxHeartbeats 4000000 in
theorem zmk4 : zchk 4 = true := by decide +kernel
set_option maxHeartbeats 4000000 in
theorem zmk5 : zchk 5 = true := by decide +kernel
set_option maxHeartbeats 4000000 in
theorem zmk6 : zchk 6 = true := by decide +kernel
set_option maxHeartbeats 4000000 in
theorem zmk7 : zchk 7 = true := by decide +kernel
set_option maxHeartbeats 4000000 in
theorem zmk8 : zchk 8 = true := by decide +kernel
set_option maxHeartbeats 4000000 in
theorem zmk9 : zchk 9 = true := by decide +kernel
set_option maxHeartbeats 4000000 in
theorem zmk10 : zchk 10 = true := by decide +kernel
set_option maxHeartbeats 4000000 in
theorem zmk11 : zchk 11 = true := by decide +kernel
set_option maxHeartbeats 4000000 in
theorem zmk12 : zchk 12 = true := by decide +kernel
set_option maxHeartbeats 4000000 in
theorem zmk13 : zchk 13 = true := by decide +kernel
set_option maxHeartbeats 4000000 in
theorem zmk14 : zchk 14 = true := by decide +kernel
set_option maxHeartbeats 4000000 in
theorem zmk15 : zchk 15 = true := by decide +kernel
set_option maxHeartbeats 4000000 in
theorem zmk16 : zchk 16 = true := by decide +kernel
set_option maxHeartbeats 4000000 in
theorem zmk17 : zchk 17 = true := by decide +kernel
set_option maxHeartbeats 4000000 in
theorem zmk18 : zchk 18 = true := by decide +kernel
set_option maxHeartbeats 4000000 in
theorem zmk19 : zchk 19 = true := by decide +kernel
set_option maxHeartbeats 4000000 in
theorem zmk20 : zchk 20 = true := by decide +kernel
set_option maxHeartbeats 4000000 in
theorem zmk21 : zchk 21 = true := by decide +kernel
set_option maxHeartbeats 4000000 in
theorem zmk22 : zchk 22 = true := by decide +kernel
set_option maxHeartbeats 4000000 in
theorem zmk23 : zchk 23 = true := by decide +kernel
set_option maxHeartbeats 4000000 in
theorem zmk24 : zchk 24 = true := by decide +kernel
set_option maxHeartbeats 4000000 in
theorem zmk25 : zchk 25 = true := by decide +kernel
set_option maxHeartbeats 4000000 in
theorem zmk26 : zchk 26 = true := by decide +kernel
set_option maxHeartbeats 4000000 in
theorem zmk27 : zchk 27 = true := by decide +kernel
set_option maxHeartbeats 4000000 in
theorem zmk28 : zchk 28 = true := by decide +kernel
set_option maxHeartbeats 4000000 in
theorem zmk29 : zchk 29 = true := by decide +kernel
set_option maxHeartbeats 4000000 in
theorem zmk30 : zchk 30 = true := by decide +kernel
set_option maxHeartbeats 4000000 in
theorem zmk31 : zchk 31 = true := by decide +kernel
set_option maxHeartbeats 4000000 in
theorem zmk32 : zchk 32 = true := by decide +kernel
set_option maxHeartbeats 4000000 in
theorem zmk33 : zchk 33 = true := by decide +kernel
set_option maxHeartbeats 4000000 in
theorem zmk34 : zchk 34 = true := by decide +kernel
set_option maxHeartbeats 4000000 in
theorem zmk35 : zchk 35 = true := by decide +kernel
set_option maxHeartbeats 4000000 in
theorem zmk36 : zchk 36 = true := by decide +kernel
set_option maxHeartbeats 4000000 in
theorem zmk37 : zchk 37 = true := by decide +kernel
set_option maxHeartbeats 4000000 in
theorem zmk38 : zchk 38 = true := by decide +kernel
set_option maxHeartbeats 4000000 in
theorem zmk39 : zchk 39 = true := by decide +kernel
set_option maxHeartbeats 4000000 in
theorem zmk40 : zchk 40 = true := by decide +kernel
set_option maxHeartbeats 4000000 in
theorem zmk41 : zchk 41 = true := by decide +kernel
set_option maxHeartbeats 4000000 in
theorem zmk42 : zchk 42 = true := by decide +kernel
set_option maxHeartbeats 4000000 in
theorem zmk43 : zchk 43 = true := by decide +kernel
set_option maxHeartbeats 4000000 in
theorem zmk44 : zchk 44 = true := by decide +kernel
set_option maxHeartbeats 4000000 in
theorem zmk45 : zchk 45 = true := by decide +kernel
set_option maxHeartbeats 4000000 in
theorem zmk46 : zchk 46 = true := by decide +kernel
set_option maxHeartbeats 4000000 in
theorem zmk47 : zchk 47 = true := by decide +kernel
set_option maxHeartbeats 4000000 in
theorem zmk48 : zchk 48 = true := by decide +kernel
set_option maxHeartbeats 4000000 in
theorem zmk49 : zchk 49 = true := by decide +kernel
set_option maxHeartbeats 4000000 in
theorem zmk50 : zchk 50 = true := by decide +kernel
set_option maxHeartbeats 4000000 in
theorem zmk51 : zchk 51 = true := by decide +kernel
set_option maxHeartbeats 4000000 in
theorem zmk52 : zchk 52 = true := by decide +kernel
set_option maxHeartbeats 4000000 in
theorem zmk53 : zchk 53 = true := by decide +kernel
set_option maxHeartbeats 4000000 in
theorem zmk54 : zchk 54 = true := by decide +kernel
set_option maxHeartbeats 4000000 in
theorem zmk55 : zchk 55 = true := by decide +kernel
set_option maxHeartbeats 4000000 in
theorem zmk56 : zchk 56 = true := by decide +kernel
set_option maxHeartbeats 4000000 in
theorem zmk57 : zchk 57 = true := by decide +kernel
set_option maxHeartbeats 4000000 in
theorem zmk58 : zchk 58 = true := by decide +kernel
set_option maxHeartbeats 4000000 in
theorem zmk59 : zchk 59 = true := by decide +kernel
set_option maxHeartbeats 4000000 in
theorem zmk60 : zchk 60 = true := by decide +kernel
set_option maxHeartbeats 4000000 in
theorem zmk61 : zchk 61 = true := by decide +kernel
set_option maxHeartbeats 4000000 in
theorem zmk62 : zchk 62 = true := by decide +kernel
set_option maxHeartbeats 4000000 in
theorem zmk63 : zchk 63 = true := by decide +kernel
set_option maxHeartbeats 4000000 in
theorem zmk64 : zchk 64 = true := by decide +kernel
set_option maxHeartbeats 4000000 in
theorem zmk65 : zchk 65 = true := by decide +kernel
set_option maxHeartbeats 4000000 in
theorem zmk66 : zchk 66 = true := by decide +kernel
set_option maxHeartbeats 4000000 in
theorem zmk67 : zchk 67 = true := by decide +kernel
set_option maxHeartbeats 4000000 in
theorem zmk68 : zchk 68 = true := by decide +kernel
set_option maxHeartbeats 4000000 in
theorem zmk69 : zchk 69 = true := by decide +kernel
set_option maxHeartbeats 4000000 in
theorem zmk70 : zchk 70 = true := by decide +kernel
set_option maxHeartbeats 4000000 in
theorem zmk71 : zchk 71 = true := by decide +kernel
set_option maxHeartbeats 4000000 in
theorem zmk72 : zchk 72 = true := by decide +kernel
set_option maxHeartbeats 4000000 in
theorem zmk73 : zchk 73 = true := by decide +kernel
set_option maxHeartbeats 4000000 in
theorem zmk74 : zchk 74 = true := by decide +kernel
set_option maxHeartbeats 4000000 in
theorem zmk75 : zchk 75 = true := by decide +kernel
set_option maxHeartbeats 4000000 in
theorem zmk76 : zchk 76 = true := by decide +kernel
set_option maxHeartbeats 4000000 in
theorem zmk77 : zchk 77 = true := by decide +kernel
set_option maxHeartbeats 4000000 in
theorem zmk78 : zchk 78 = true := by decide +kernel
set_option maxHeartbeats 4000000 in
theorem zmk79 : zchk 79 = true := by decide +kernel
set_option maxHeartbeats 4000000 in
theorem zmk80 : zchk 80 = true := by decide +kernel
set_option maxHeartbeats 4000000 in
theorem zmk81 : zchk 81 = true := by decide +kernel
set_option maxHeartbeats 4000000 in
theorem zmk82 : zchk 82 = true := by decide +kernel
set_option maxHeartbeats 4000000 in
theorem zmk83 : zchk 83 = true := by decide +kernel
set_option maxHeartbeats 4000000 in
theorem zmk84 : zchk 84 = true := by decide +kernel
set_option maxHeartbeats 4000000 in
theorem zmk85 : zchk 85 = true := by decide +kernel
set_option maxHeartbeats 4000000 in
theorem zmk86 : zchk 86 = true := by decide +kernel
set_option maxHeartbeats 4000000 in
theorem zmk87 : zchk 87 = true := by decide +kernel
set_option maxHeartbeats 4000000 in
theorem zmk88 : zchk 88 = true := by decide +kernel
set_option maxHeartbeats 4000000 in
theorem zmk89 : zchk 89 = true := by decide +kernel
set_option maxHeartbeats 4000000 in
theorem zmk90 : zchk 90 = true := by decide +kernel
set_option maxHeartbeats 4000000 in
theorem zmk91 : zchk 91 = true := by decide +kernel
set_option maxHeartbeats 4000000 in
theorem zmk92 : zchk 92 = true := by decide +kernel
set_option maxHeartbeats 4000000 in
theorem zmk93 : zchk 93 = true := by decide +kernel
set_option maxHeartbeats 4000000 in
theorem zmk94 : zchk 94 = true := by decide +kernel
set_option maxHeartbeats 4000000 in
theorem zmk95 : zchk 95 = true := by decide +kernel
set_option maxHeartbeats 4000000 in
theorem zmk96 : zchk 96 = true := by decide +kernel
set_option maxHeartbeats 4000000 in
theorem zmk97 : zchk 97 = true := by decide +kernel
set_option maxHeartbeats 4000000 in
theorem zmk98 : zchk 98 = true := by decide +kernel
set_option maxHeartbeats 4000000 in
theorem zmk99 : zchk 99 = true := by decide +kernel
