set_option maxRecDepth 100000
set_option maxHeartbeats 4000000 in
theorem zmk100 : zchk 100 = true := by decide +kernel
set_option maxHeartbeats 4000000 in
theorem zmk101 : zchk 101 = true := by decide +kernel
set_option maxHeartbeats 4000000 in
theorem zmk102 : zchk 102 = true := by decide +kernel
set_option maxHeartbeats 4000000 in
theorem zmk103 : zchk 103 = true := by decide +kernel
set_option maxHeartbeats 4000000 in
theorem zmk104 : zchk 104 = true := by decide +kernel
set_option maxHeartbeats 4000000 in
theorem zmk105 : zchk 105 = true := by decide +kernel
set_option maxHeartbeats 4000000 in
theorem zmk106 : zchk 106 = true := by decide +kernel
set_option maxHeartbeats 4000000 in
theorem zmk107 : zchk 107 = true := by decide +kernel
set_option maxHeartbeats 4000000 in
theorem zmk108 : zchk 108 = true := by decide +kernel
set_option maxHeartbeats 4000000 in
theorem zmk109 : zchk 109 = true := by decide +kernel
set_option maxHeartbeats 4000000 in
theorem zmk110 : zchk 110 = true := by decide +kernel
set_option maxHeartbeats 4000000 in
theorem zmk111 : zchk 111 = true := by decide +kernel
set_option maxHeartbeats 4000000 in
theorem zmk112 : zchk 112 = true := by decide +kernel
set_option maxHeartbeats 4000000 in
theorem zmk113 : zchk 113 = true := by decide +kernel
set_option maxHeartbeats 4000000 in
theorem zmk114 : zchk 114 = true := by decide +kernel
set_option maxHeartbeats 4000000 in
theorem zmk115 : zchk 115 = true := by decide +kernel
set_option maxHeartbeats 4000000 in
theorem zmk116 : zchk 116 = true := by decide +kernel
set_option maxHeartbeats 4000000 in
theorem zmk117 : zchk 117 = true := by decide +kernel
set_option maxHeartbeats 4000000 in
theorem zmk118 : zchk 118 = true := by decide +kernel
set_option maxHeartbeats 4000000 in
theorem zmk119 : zchk 119 = true := by decide +kernel
set_option maxHeartbeats 4000000 in
theorem zmk120 : zchk 120 = true := by decide +kernel
set_option maxHeartbeats 4000000 in
theorem zmk121 : zchk 121 = true := by decide +kernel
set_option maxHeartbeats 4000000 in
theorem zmk122 : zchk 122 = true := by decide +kernel
set_option maxHeartbeats 4000000 in
theorem zmk123 : zchk 123 = true := by decide +kernel
set_option maxHeartbeats 4000000 in
theorem zmk124 : zchk 124 = true := by decide +kernel
set_option maxHeartbeats 4000000 in
theorem zmk125 : zchk 125 = true := by decide +kernel
set_option maxHeartbeats 4000000 in
theorem zmk126 : zchk 126 = true := by decide +kernel
set_option maxHeartbeats 4000000 in
theorem zmk127 : zchk 127 = true := by decide +kernel
set_option maxHeartbeats 4000000 in
theorem zmk128 : zchk 128 = true := by decide +kernel
set_option maxHeartbeats 4000000 in
theorem zmk129 : zchk 129 = true := by decide +kernel
set_option maxHeartbeats 4000000 in
theorem zmk130 : zchk 130 = true := by decide +kernel
set_option maxHeartbeats 4000000 in
theorem zmk131 : zchk 131 = true := by decide +kernel
set_option maxHeartbeats 4000000 in
theorem zmk132 : zchk 132 = true := by decide +kernel
set_option maxHeartbeats 4000000 in
theorem zmk133 : zchk 133 = true := by decide +kernel
set_option maxHeartbeats 4000000 in
theorem zmk134 : zchk 134 = true := by decide +kernel
set_option maxHeartbeats 4000000 in
theorem zmk135 : zchk 135 = true := by decide +kernel
set_option maxHeartbeats 4000000 in
theorem zmk136 : zchk 136 = true := by decide +kernel
set_option maxHeartbeats 4000000 in
theorem zmk137 : zchk 137 = true := by decide +kernel
set_option maxHeartbeats 4000000 in
theorem zmk138 : zchk 138 = true := by decide +kernel
set_option maxHeartbeats 4000000 in
theorem zmk139 : zchk 139 = true := by decide +kernel
set_option maxHeartbeats 4000000 in
theorem zmk140 : zchk 140 = true := by decide +kernel
set_option maxHeartbeats 4000000 in
theorem zmk141 : zchk 141 = true := by decide +kernel
set_option maxHeartbeats 4000000 in
theorem zmk142 : zchk 142 = true := by decide +kernel
set_option maxHeartbeats 4000000 in
theorem zmk143 : zchk 143 = true := by decide +kernel
set_option maxHeartbeats 4000000 in
theorem zmk144 : zchk 144 = true := by decide +kernel
set_option maxHeartbeats 4000000 in
theorem zmk145 : zchk 145 = true := by decide +kernel
set_option maxHeartbeats 4000000 in
theorem zmk146 : zchk 146 = true := by decide +kernel
set_option maxHeartbeats 4000000 in
theorem zmk147 : zchk 147 = true := by decide +kernel
set_option maxHeartbeats 4000000 in
theorem zmk148 : zchk 148 = true := by decide +kernel
set_option maxHeartbeats 4000000 in
theorem zmk149 : zchk 149 = true := by decide +kernel
set_option maxHeartbeats 4000000 in
theorem zmk150 : zchk 150 = true := by decide +kernel
set_option maxHeartbeats 4000000 in
theorem zmk151 : zchk 151 = true := by decide +kernel
set_option maxHeartbeats 4000000 in
theorem zmk152 : zchk 152 = true := by decide +kernel
set_option maxHeartbeats 4000000 in
theorem zmk153 : zchk 153 = true := by decide +kernel
set_option maxHeartbeats 4000000 in
theorem zmk154 : zchk 154 = true := by decide +kernel
set_option maxHeartbeats 4000000 in
theorem zmk155 : zchk 155 = true := by decide +kernel
set_option maxHeartbeats 4000000 in
theorem zmk156 : zchk 156 = true := by decide +kernel
set_option maxHeartbeats 4000000 in
theorem zmk157 : zchk 157 = true := by decide +kernel
set_option maxHeartbeats 4000000 in
theorem zmk158 : zchk 158 = true := by decide +kernel
set_option maxHeartbeats 4000000 in
theorem zmk159 : zchk 159 = true := by decide +kernel
set_option maxHeartbeats 4000000 in
theorem zmk160 : zchk 160 = true := by decide +kernel
set_option maxHeartbeats 4000000 in
theorem zmk161 : zchk 161 = true := by decide +kernel
set_option maxHeartbeats 4000000 in
theorem zmk162 : zchk 162 = true := by decide +kernel
set_option maxHeartbeats 4000000 in
theorem zmk163 : zchk 163 = true := by decide +kernel
set_option maxHeartbeats 4000000 in
theorem zmk164 : zchk 164 = true := by decide +kernel
set_option maxHeartbeats 4000000 in
theorem zmk165 : zchk 165 = true := by decide +kernel
set_option maxHeartbeats 4000000 in
theorem zmk166 : zchk 166 = true := by decide +kernel
set_option maxHeartbeats 4000000 in
theorem zmk167 : zchk 167 = true := by decide +kernel
set_option maxHeartbeats 4000000 in
theorem zmk168 : zchk 168 = true := by decide +kernel
set_option maxHeartbeats 4000000 in
theorem zmk169 : zchk 169 = true := by decide +kernel
set_option maxHeartbeats 4000000 in
theorem zmk170 : zchk 170 = true := by decide +kernel
set_option maxHeartbeats 4000000 in
theorem zmk171 : zchk 171 = true := by decide +kernel
set_option maxHeartbeats 4000000 in
theorem zmk172 : zchk 172 = true := by decide +kernel
set_option maxHeartbeats 4000000 in
theorem zmk173 : zchk 173 = true := by decide +kernel
set_option maxHeartbeats 4000000 in
theorem zmk174 : zchk 174 = true := by decide +kernel
set_option maxHeartbeats 4000000 in
theorem zmk175 : zchk 175 = true := by decide +kernel
set_option maxHeartbeats 4000000 in
theorem zmk176 : zchk 176 = true := by decide +kernel
set_option maxHeartbeats 4000000 in
theorem zmk177 : zchk 177 = true := by decide +kernel
set_option maxHeartbeats 4000000 in
theorem zmk178 : zchk 178 = true := by decide +kernel
set_option maxHeartbeats 4000000 in
theorem zmk179 : zchk 179 = true := by decide +kernel
set_option maxHeartbeats 4000000 in
theorem zmk180 : zchk 180 = true := by decide +kernel
set_option maxHeartbeats 4000000 in
theorem zmk181 : zchk 181 = true := by decide +kernel
set_option maxHeartbeats 4000000 in
theorem zmk182 : zchk 182 = true := by decide +kernel
set_option maxHeartbeats 4000000 in
theorem zmk183 : zchk 183 = true := by decide +kernel
set_option maxHeartbeats 4000000 in
theorem zmk184 : zchk 184 = true := by decide +kernel
set_option maxHeartbeats 4000000 in
theorem zmk185 : zchk 185 = true := by decide +kernel
set_option maxHeartbeats 4000000 in
theorem zmk186 : zchk 186 = true := by decide +kernel
set_option maxHeartbeats 4000000 in
theorem zmk187 : zchk 187 = true := by decide +kernel
set_option maxHeartbeats 4000000 in
theorem zmk188 : zchk 188 = true := by decide +kernel
set_option maxHeartbeats 4000000 in
theorem zmk189 : zchk 189 = true := by decide +kernel
set_option maxHeartbeats 4000000 in
theorem zmk190 : zchk 190 = true := by decide +kernel
set_option maxHeartbeats 4000000 in
theorem zmk191 : zchk 191 = true := by decide +kernel
set_option maxHeartbeats 4000000 in
theorem zmk192 : zchk 192 = true := by decide +kernel
set_option maxHeartbeats 4000000 in
theorem zmk193 : zchk 193 = true := by decide +kernel
set_option maxHeartbeats 4000000 in
theorem zmk194 : zchk 194 = true := by decide +kernel
set_option maxHeartbeats 4000000 in
theorem zmk195 : zchk 195 = true := by decide +kernel
set_option maxHeartbeats 4000000 in
theorem zmk196 : zchk 196 = true := by decide +kernel
set_option maxHeartbeats 4000000 in
theorem zmk197 : zchk 197 = true := by decide +kernel
set_option maxHeartbeats 4000000 in
theorem zmk198 : zchk 198 = true := by decide +kernel
set_option maxHeartbeats 4000000 in
theorem zmk199 : zchk 199 = true := by decide +kernel
set_option maxHeartbeats 4000000 in
theorem zmk200 : zchk 200 = true := by decide +kernel
set_option maxHeartbeats 4000000 in
theorem zmk201 : zchk 201 = true := by decide +kernel
set_option maxHeartbeats 4000000 in
theorem zmk202 : zchk 202 = true := by decide +kernel
set_option maxHeartbeats 4000000 in
theorem zmk203 : zchk 203 = true := by decide +kernel
set_option maxHeartbeats 4000000 in
theorem zmk204 : zchk 204 = true := by decide +kernel
set_option maxHeartbeats 4000000 in
theorem zmk205 : zchk 205 = true := by decide +kernel
set_option maxHeartbeats 4000000 in
theorem zmk206 : zchk 206 = true := by decide +kernel
set_option maxHeartbeats 4000000 in
theorem zmk207 : zchk 207 = true := by decide +kernel
set_option maxHeartbeats 4000000 in
theorem zmk208 : zchk 208 = true := by decide +kernel
set_option maxHeartbeats 4000000 in
theorem zmk209 : zchk 209 = true := by decide +kernel
set_option maxHeartbeats 4000000 in
theorem zmk210 : zchk 210 = true := by decide +kernel
set_option maxHeartbeats 4000000 in
theorem zmk211 : zchk 211 = true := by decide +kernel
set_option maxHeartbeats 4000000 in
theorem zmk212 : zchk 212 = true := by decide +kernel
set_option maxHeartbeats 4000000 in
theorem zmk213 : zchk 213 = true := by decide +kernel
set_option maxHeartbeats 4000000 in
theorem zmk214 : zchk 214 = true := by decide +kernel
set_option maxHeartbeats 4000000 in
theorem zmk215 : zchk 215 = true := by decide +kernel
set_option maxHeartbeats 4000000 in
theorem zmk216 : zchk 216 = true := by decide +kernel
set_option maxHeartbeats 4000000 in
theorem zmk217 : zchk 217 = true := by decide +kernel
set_option maxHeartbeats 4000000 in
theorem zmk218 : zchk 218 = true := by decide +kernel
set_option maxHeartbeats 4000000 in
theorem zmk219 : zchk 219 = true := by decide +kernel
set_option maxHeartbeats 4000000 in
theorem zmk220 : zchk 220 = true := by decide +kernel
set_option maxHeartbeats 4000000 in
theorem zmk221 : zchk 221 = true := by decide +kernel
set_option maxHeartbeats 4000000 in
theorem zmk222 : zchk 222 = true := by decide +kernel
set_option maxHeartbeats 4000000 in
theorem zmk223 : zchk 223 = true := by decide +kernel
set_option maxHeartbeats 4000000 in
theorem zmk224 : zchk 224 = true := by decide +kernel
set_option maxHeartbeats 4000000 in
theorem zmk225 : zchk 225 = true := by decide +kernel
set_option maxHeartbeats 4000000 in
theorem zmk226 : zchk 226 = true := by decide +kernel
set_option maxHeartbeats 4000000 in
theorem zmk227 : zchk 227 = true := by decide +kernel
set_option maxHeartbeats 4000000 in
theorem zmk228 : zchk 228 = true := by decide +kernel
set_option maxHeartbeats 4000000 in
theorem zmk229 : zchk 229 = true := by decide +kernel
set_option maxHeartbeats 4000000 in
theorem zmk230 : zchk 230 = true := by decide +kernel
set_option maxHeartbeats 4000000 in
theorem zmk231 : zchk 231 = true := by decide +kernel
set_option maxHeartbeats 4000000 in
theorem zmk232 : zchk 232 = true := by decide +kernel
set_option maxHeartbeats 4000000 in
theorem zmk233 : zchk 233 = true := by decide +kernel
set_option maxHeartbeats 4000000 in
theorem zmk234 : zchk 234 = true := by decide +kernel
set_option maxHeartbeats 4000000 in
theorem zmk235 : zchk 235 = true := by decide +kernel
set_option maxHeartbeats 4000000 in
theorem zmk236 : zchk 236 = true := by decide +kernel
set_option maxHeartbeats 4000000 in
theorem zmk237 : zchk 237 = true := by decide +kernel
set_option maxHeartbeats 4000000 in
theorem zmk238 : zchk 238 = true := by decide +kernel
set_option maxHeartbeats 4000000 in
theorem zmk239 : zchk 239 = true := by decide +kernel
set_option maxHeartbeats 4000000 in
theorem zmk240 : zchk 240 = true := by decide +kernel
set_option maxHeartbeats 4000000 in
theorem zmk241 : zchk 241 = true := by decide +kernel
set_option maxHeartbeats 4000000 in
theorem zmk242 : zchk 242 = true := by decide +kernel
